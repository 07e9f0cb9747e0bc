/-! TileServer$Way -/
set_option maxRecDepth 100000
def RX2 : String := "TileServer$Way"
abbrev cX2_values : ByteArray := prog_12_method_1_code
def yX2_values : MethodName := ⟨RX2, "values", "()[LTileServer$Way;"⟩
def dkwX2_values_0 : List UInt8 := [178, 0, 16, 182, 0, 20, 192, 0, 21, 176]
abbrev dktX2_values_0 : List UInt8 := dkwX2_values_0 ++ []
theorem dksX2_values_0 : cX2_values.data.toList.drop 0 = dktX2_values_0 := by decide +kernel
theorem dX2_values_0 : decode cX2_values 0 = .ok (.getstatic 16, 3) := dk_178 0 16 (dk_at dksX2_values_0 0 rfl rfl)
theorem dX2_values_3 : decode cX2_values 3 = .ok (.invokevirtual 20, 3) := dk_182 0 20 (dk_at dksX2_values_0 3 rfl rfl)
theorem dX2_values_6 : decode cX2_values 6 = .ok (.checkcast 21, 3) := dk_192 0 21 (dk_at dksX2_values_0 6 rfl rfl)
theorem dX2_values_9 : decode cX2_values 9 = .ok (.areturn, 1) := dk_176 (dk_at dksX2_values_0 9 rfl rfl)
theorem q67 : (Jvm.Cond.initialized "TileServer$Way") ∈ lw_all := lw_g (lw_at lw_m1 6 rfl) rfl
theorem q141 : (Jvm.Cond.static ({ cls := "TileServer$Way", name := "values", desc := "()[LTileServer$Way;" } : Jvm.MethodName)) ∈ lw_all := lw_g (lw_at lw_m1 80 rfl) rfl
theorem q142 : (Jvm.Cond.code ({ cls := "TileServer$Way", name := "values", desc := "()[LTileServer$Way;" } : Jvm.MethodName) prog_12_method_1_code (0 : Nat) (Option.some (Jvm.ClassFile.FieldType.array (Jvm.ClassFile.FieldType.object "TileServer$Way")))) ∈ lw_all := lw_g (lw_at lw_m1 81 rfl) rfl
theorem q143 : (Jvm.Cond.fieldLink "TileServer$Way" (16 : Nat) "TileServer$Way" "$VALUES" "[LTileServer$Way;") ∈ lw_all := lw_g (lw_at lw_m1 82 rfl) rfl
theorem q144 : (Jvm.Cond.laysStatic "TileServer$Way" "$VALUES" "[LTileServer$Way;") ∈ lw_tbl := lw_at lw_m1 83 rfl
theorem q145 : (Jvm.Cond.methodLink "TileServer$Way" (20 : Nat) ({ cls := "[LTileServer$Way;", name := "clone", desc := "()Ljava/lang/Object;" } : Jvm.MethodName)) ∈ lw_all := lw_g (lw_at lw_m1 84 rfl) rfl
theorem q152 : (Jvm.Cond.classLink "TileServer$Way" (21 : Nat) "[LTileServer$Way;") ∈ lw_all := lw_g (lw_at lw_m1 91 rfl) rfl
theorem q1513 : (Jvm.Cond.declares ({ cls := "TileServer$Way", name := "place", desc := "(IIII)LTileServer$Box;" } : Jvm.MethodName)) ∈ lw_tbl := lw_at lw_m7 12 rfl
theorem q1514 : (Jvm.Cond.sameMethod "TileServer$Way" "TileServer$Way" "place" "(IIII)LTileServer$Box;") ∈ lw_all := lw_g (lw_at lw_m7 13 rfl) rfl
theorem q1990 : (Jvm.Cond.castable "TileServer$Way" "java/lang/Object") ∈ lw_tbl := lw_at lw_m9 9 rfl
theorem q2032 : (Jvm.Cond.laysStatic "TileServer$Way" "RIGHT" "LTileServer$Way;") ∈ lw_tbl := lw_at lw_m9 51 rfl
theorem q2033 : (Jvm.Cond.laysStatic "TileServer$Way" "LEFT" "LTileServer$Way;") ∈ lw_tbl := lw_at lw_m9 52 rfl
theorem q2034 : (Jvm.Cond.laysStatic "TileServer$Way" "ABOVE" "LTileServer$Way;") ∈ lw_tbl := lw_at lw_m9 53 rfl
theorem q2035 : (Jvm.Cond.laysStatic "TileServer$Way" "BELOW" "LTileServer$Way;") ∈ lw_tbl := lw_at lw_m9 54 rfl
/-! TileServer$Box -/
set_option maxRecDepth 100000
def RX3 : String := "TileServer$Box"
def TX3 : u_T := fun k => match k with
  | 0 => ("TileServer$Box", "left", "I", true)
  | 1 => ("TileServer$Box", "low", "I", true)
  | 2 => ("TileServer$Box", "right", "I", true)
  | _ => ("TileServer$Box", "high", "I", true)
def tyX3 : Nat → FieldType := fun k => match k with
  | 0 => .int
  | 1 => .int
  | 2 => .int
  | _ => .int
abbrev wsX30 : List Cond := u_ws RX3 TX3 4
theorem nmX3 : ∀ a, a < 4 → ∀ b, b < 4 → a ≠ b → (TX3 a).2.1 ≠ (TX3 b).2.1 := by decide +kernel
theorem tyX3_ok : ∀ k, k < 4 → parseFieldDescriptor (TX3 k).2.2.1 = some (tyX3 k) := by decide +kernel
abbrev cX3_square : ByteArray := prog_4_method_2_code
def yX3_square : MethodName := ⟨RX3, "square", "(III)LTileServer$Box;"⟩
def dkwX3_square_0 : List UInt8 := [187, 0, 8, 89, 26, 27, 26, 28, 96, 27, 28, 96, 183, 0, 22, 176]
abbrev dktX3_square_0 : List UInt8 := dkwX3_square_0 ++ []
theorem dksX3_square_0 : cX3_square.data.toList.drop 0 = dktX3_square_0 := by decide +kernel
theorem dX3_square_0 : decode cX3_square 0 = .ok (.new 8, 3) := dk_187 0 8 (dk_at dksX3_square_0 0 rfl rfl)
theorem dX3_square_3 : decode cX3_square 3 = .ok (.dup, 1) := dk_89 (dk_at dksX3_square_0 3 rfl rfl)
theorem dX3_square_4 : decode cX3_square 4 = .ok (.iload_n 0, 1) := dk_26 (dk_at dksX3_square_0 4 rfl rfl)
theorem dX3_square_5 : decode cX3_square 5 = .ok (.iload_n 1, 1) := dk_27 (dk_at dksX3_square_0 5 rfl rfl)
theorem dX3_square_6 : decode cX3_square 6 = .ok (.iload_n 0, 1) := dk_26 (dk_at dksX3_square_0 6 rfl rfl)
theorem dX3_square_7 : decode cX3_square 7 = .ok (.iload_n 2, 1) := dk_28 (dk_at dksX3_square_0 7 rfl rfl)
theorem dX3_square_8 : decode cX3_square 8 = .ok (.iadd, 1) := dk_96 (dk_at dksX3_square_0 8 rfl rfl)
theorem dX3_square_9 : decode cX3_square 9 = .ok (.iload_n 1, 1) := dk_27 (dk_at dksX3_square_0 9 rfl rfl)
theorem dX3_square_10 : decode cX3_square 10 = .ok (.iload_n 2, 1) := dk_28 (dk_at dksX3_square_0 10 rfl rfl)
theorem dX3_square_11 : decode cX3_square 11 = .ok (.iadd, 1) := dk_96 (dk_at dksX3_square_0 11 rfl rfl)
theorem dX3_square_12 : decode cX3_square 12 = .ok (.invokespecial 22, 3) := dk_183 0 22 (dk_at dksX3_square_0 12 rfl rfl)
theorem dX3_square_15 : decode cX3_square 15 = .ok (.areturn, 1) := dk_176 (dk_at dksX3_square_0 15 rfl rfl)
abbrev cX3_init : ByteArray := prog_4_method_1_code
def yX3_init : MethodName := ⟨RX3, "<init>", "(IIII)V"⟩
def dkwX3_init_1 : List UInt8 := [181, 0, 19, 177]
abbrev dktX3_init_1 : List UInt8 := dkwX3_init_1 ++ []
def dkwX3_init_0 : List UInt8 := [42, 183, 0, 1, 42, 27, 181, 0, 7, 42, 28, 181, 0, 13, 42, 29, 181, 0, 16, 42, 21, 4]
abbrev dktX3_init_0 : List UInt8 := dkwX3_init_0 ++ dktX3_init_1
theorem dksX3_init_0 : cX3_init.data.toList.drop 0 = dktX3_init_0 := by decide +kernel
theorem dksX3_init_1 : cX3_init.data.toList.drop 22 = dktX3_init_1 := dk_seg dksX3_init_0 22 rfl rfl
theorem dX3_init_0 : decode cX3_init 0 = .ok (.aload_n 0, 1) := dk_42 (dk_at dksX3_init_0 0 rfl rfl)
theorem dX3_init_1 : decode cX3_init 1 = .ok (.invokespecial 1, 3) := dk_183 0 1 (dk_at dksX3_init_0 1 rfl rfl)
theorem dX3_init_4 : decode cX3_init 4 = .ok (.aload_n 0, 1) := dk_42 (dk_at dksX3_init_0 4 rfl rfl)
theorem dX3_init_5 : decode cX3_init 5 = .ok (.iload_n 1, 1) := dk_27 (dk_at dksX3_init_0 5 rfl rfl)
theorem dX3_init_6 : decode cX3_init 6 = .ok (.putfield 7, 3) := dk_181 0 7 (dk_at dksX3_init_0 6 rfl rfl)
theorem dX3_init_9 : decode cX3_init 9 = .ok (.aload_n 0, 1) := dk_42 (dk_at dksX3_init_0 9 rfl rfl)
theorem dX3_init_10 : decode cX3_init 10 = .ok (.iload_n 2, 1) := dk_28 (dk_at dksX3_init_0 10 rfl rfl)
theorem dX3_init_11 : decode cX3_init 11 = .ok (.putfield 13, 3) := dk_181 0 13 (dk_at dksX3_init_0 11 rfl rfl)
theorem dX3_init_14 : decode cX3_init 14 = .ok (.aload_n 0, 1) := dk_42 (dk_at dksX3_init_0 14 rfl rfl)
theorem dX3_init_15 : decode cX3_init 15 = .ok (.iload_n 3, 1) := dk_29 (dk_at dksX3_init_0 15 rfl rfl)
theorem dX3_init_16 : decode cX3_init 16 = .ok (.putfield 16, 3) := dk_181 0 16 (dk_at dksX3_init_0 16 rfl rfl)
theorem dX3_init_19 : decode cX3_init 19 = .ok (.aload_n 0, 1) := dk_42 (dk_at dksX3_init_0 19 rfl rfl)
theorem dX3_init_20 : decode cX3_init 20 = .ok (.iload 4, 2) := dk_21 4 (dk_at dksX3_init_0 20 rfl rfl)
theorem dX3_init_22 : decode cX3_init 22 = .ok (.putfield 19, 3) := dk_181 0 19 (dk_at dksX3_init_1 0 rfl rfl)
theorem dX3_init_25 : decode cX3_init 25 = .ok (.return_, 1) := dk_177 (dk_at dksX3_init_1 3 rfl rfl)
abbrev cX3_meets : ByteArray := prog_4_method_4_code
def yX3_meets : MethodName := ⟨RX3, "meets", "(IIII)Z"⟩
def dkwX3_meets_1 : List UInt8 := [163, 0, 15, 28, 42, 180, 0, 19, 163, 0, 7, 4, 167, 0, 4, 3, 172]
abbrev dktX3_meets_1 : List UInt8 := dkwX3_meets_1 ++ []
def dkwX3_meets_0 : List UInt8 := [42, 180, 0, 7, 29, 163, 0, 32, 27, 42, 180, 0, 16, 163, 0, 24, 42, 180, 0, 13, 21, 4]
abbrev dktX3_meets_0 : List UInt8 := dkwX3_meets_0 ++ dktX3_meets_1
theorem dksX3_meets_0 : cX3_meets.data.toList.drop 0 = dktX3_meets_0 := by decide +kernel
theorem dksX3_meets_1 : cX3_meets.data.toList.drop 22 = dktX3_meets_1 := dk_seg dksX3_meets_0 22 rfl rfl
theorem dX3_meets_0 : decode cX3_meets 0 = .ok (.aload_n 0, 1) := dk_42 (dk_at dksX3_meets_0 0 rfl rfl)
theorem dX3_meets_1 : decode cX3_meets 1 = .ok (.getfield 7, 3) := dk_180 0 7 (dk_at dksX3_meets_0 1 rfl rfl)
theorem dX3_meets_4 : decode cX3_meets 4 = .ok (.iload_n 3, 1) := dk_29 (dk_at dksX3_meets_0 4 rfl rfl)
theorem dX3_meets_5 : decode cX3_meets 5 = .ok (.if_icmp .gt 32, 3) := dk_163 0 32 (dk_at dksX3_meets_0 5 rfl rfl)
theorem dX3_meets_8 : decode cX3_meets 8 = .ok (.iload_n 1, 1) := dk_27 (dk_at dksX3_meets_0 8 rfl rfl)
theorem dX3_meets_9 : decode cX3_meets 9 = .ok (.aload_n 0, 1) := dk_42 (dk_at dksX3_meets_0 9 rfl rfl)
theorem dX3_meets_10 : decode cX3_meets 10 = .ok (.getfield 16, 3) := dk_180 0 16 (dk_at dksX3_meets_0 10 rfl rfl)
theorem dX3_meets_13 : decode cX3_meets 13 = .ok (.if_icmp .gt 24, 3) := dk_163 0 24 (dk_at dksX3_meets_0 13 rfl rfl)
theorem dX3_meets_16 : decode cX3_meets 16 = .ok (.aload_n 0, 1) := dk_42 (dk_at dksX3_meets_0 16 rfl rfl)
theorem dX3_meets_17 : decode cX3_meets 17 = .ok (.getfield 13, 3) := dk_180 0 13 (dk_at dksX3_meets_0 17 rfl rfl)
theorem dX3_meets_20 : decode cX3_meets 20 = .ok (.iload 4, 2) := dk_21 4 (dk_at dksX3_meets_0 20 rfl rfl)
theorem dX3_meets_22 : decode cX3_meets 22 = .ok (.if_icmp .gt 15, 3) := dk_163 0 15 (dk_at dksX3_meets_1 0 rfl rfl)
theorem dX3_meets_25 : decode cX3_meets 25 = .ok (.iload_n 2, 1) := dk_28 (dk_at dksX3_meets_1 3 rfl rfl)
theorem dX3_meets_26 : decode cX3_meets 26 = .ok (.aload_n 0, 1) := dk_42 (dk_at dksX3_meets_1 4 rfl rfl)
theorem dX3_meets_27 : decode cX3_meets 27 = .ok (.getfield 19, 3) := dk_180 0 19 (dk_at dksX3_meets_1 5 rfl rfl)
theorem dX3_meets_30 : decode cX3_meets 30 = .ok (.if_icmp .gt 7, 3) := dk_163 0 7 (dk_at dksX3_meets_1 8 rfl rfl)
theorem dX3_meets_33 : decode cX3_meets 33 = .ok (.iconst 1, 1) := dk_4 (dk_at dksX3_meets_1 11 rfl rfl)
theorem dX3_meets_34 : decode cX3_meets 34 = .ok (.goto 4, 3) := dk_167 0 4 (dk_at dksX3_meets_1 12 rfl rfl)
theorem dX3_meets_37 : decode cX3_meets 37 = .ok (.iconst 0, 1) := dk_3 (dk_at dksX3_meets_1 15 rfl rfl)
theorem dX3_meets_38 : decode cX3_meets 38 = .ok (.ireturn, 1) := dk_172 (dk_at dksX3_meets_1 16 rfl rfl)
abbrev cX3_meets_2 : ByteArray := prog_4_method_3_code
def yX3_meets_2 : MethodName := ⟨RX3, "meets", "(LTileServer$Box;)Z"⟩
def dkwX3_meets_2_0 : List UInt8 := [42, 43, 180, 0, 7, 43, 180, 0, 13, 43, 180, 0, 16, 43, 180, 0, 19, 182, 0, 25, 172]
abbrev dktX3_meets_2_0 : List UInt8 := dkwX3_meets_2_0 ++ []
theorem dksX3_meets_2_0 : cX3_meets_2.data.toList.drop 0 = dktX3_meets_2_0 := by decide +kernel
theorem dX3_meets_2_0 : decode cX3_meets_2 0 = .ok (.aload_n 0, 1) := dk_42 (dk_at dksX3_meets_2_0 0 rfl rfl)
theorem dX3_meets_2_1 : decode cX3_meets_2 1 = .ok (.aload_n 1, 1) := dk_43 (dk_at dksX3_meets_2_0 1 rfl rfl)
theorem dX3_meets_2_2 : decode cX3_meets_2 2 = .ok (.getfield 7, 3) := dk_180 0 7 (dk_at dksX3_meets_2_0 2 rfl rfl)
theorem dX3_meets_2_5 : decode cX3_meets_2 5 = .ok (.aload_n 1, 1) := dk_43 (dk_at dksX3_meets_2_0 5 rfl rfl)
theorem dX3_meets_2_6 : decode cX3_meets_2 6 = .ok (.getfield 13, 3) := dk_180 0 13 (dk_at dksX3_meets_2_0 6 rfl rfl)
theorem dX3_meets_2_9 : decode cX3_meets_2 9 = .ok (.aload_n 1, 1) := dk_43 (dk_at dksX3_meets_2_0 9 rfl rfl)
theorem dX3_meets_2_10 : decode cX3_meets_2 10 = .ok (.getfield 16, 3) := dk_180 0 16 (dk_at dksX3_meets_2_0 10 rfl rfl)
theorem dX3_meets_2_13 : decode cX3_meets_2 13 = .ok (.aload_n 1, 1) := dk_43 (dk_at dksX3_meets_2_0 13 rfl rfl)
theorem dX3_meets_2_14 : decode cX3_meets_2 14 = .ok (.getfield 19, 3) := dk_180 0 19 (dk_at dksX3_meets_2_0 14 rfl rfl)
theorem dX3_meets_2_17 : decode cX3_meets_2 17 = .ok (.invokevirtual 25, 3) := dk_182 0 25 (dk_at dksX3_meets_2_0 17 rfl rfl)
theorem dX3_meets_2_20 : decode cX3_meets_2 20 = .ok (.ireturn, 1) := dk_172 (dk_at dksX3_meets_2_0 20 rfl rfl)
abbrev cX3_isWithin : ByteArray := prog_4_method_6_code
def yX3_isWithin : MethodName := ⟨RX3, "isWithin", "(LTileServer$Box;)Z"⟩
def dkwX3_isWithin_2 : List UInt8 := [167, 0, 4, 3, 172]
abbrev dktX3_isWithin_2 : List UInt8 := dkwX3_isWithin_2 ++ []
def dkwX3_isWithin_1 : List UInt8 := [180, 0, 13, 43, 180, 0, 13, 161, 0, 18, 42, 180, 0, 19, 43, 180, 0, 19, 163, 0, 7, 4]
abbrev dktX3_isWithin_1 : List UInt8 := dkwX3_isWithin_1 ++ dktX3_isWithin_2
def dkwX3_isWithin_0 : List UInt8 := [42, 180, 0, 7, 43, 180, 0, 7, 161, 0, 40, 42, 180, 0, 16, 43, 180, 0, 16, 163, 0, 29, 42]
abbrev dktX3_isWithin_0 : List UInt8 := dkwX3_isWithin_0 ++ dktX3_isWithin_1
theorem dksX3_isWithin_0 : cX3_isWithin.data.toList.drop 0 = dktX3_isWithin_0 := by decide +kernel
theorem dksX3_isWithin_1 : cX3_isWithin.data.toList.drop 23 = dktX3_isWithin_1 := dk_seg dksX3_isWithin_0 23 rfl rfl
theorem dksX3_isWithin_2 : cX3_isWithin.data.toList.drop 45 = dktX3_isWithin_2 := dk_seg dksX3_isWithin_1 22 rfl rfl
theorem dX3_isWithin_0 : decode cX3_isWithin 0 = .ok (.aload_n 0, 1) := dk_42 (dk_at dksX3_isWithin_0 0 rfl rfl)
theorem dX3_isWithin_1 : decode cX3_isWithin 1 = .ok (.getfield 7, 3) := dk_180 0 7 (dk_at dksX3_isWithin_0 1 rfl rfl)
theorem dX3_isWithin_4 : decode cX3_isWithin 4 = .ok (.aload_n 1, 1) := dk_43 (dk_at dksX3_isWithin_0 4 rfl rfl)
theorem dX3_isWithin_5 : decode cX3_isWithin 5 = .ok (.getfield 7, 3) := dk_180 0 7 (dk_at dksX3_isWithin_0 5 rfl rfl)
theorem dX3_isWithin_8 : decode cX3_isWithin 8 = .ok (.if_icmp .lt 40, 3) := dk_161 0 40 (dk_at dksX3_isWithin_0 8 rfl rfl)
theorem dX3_isWithin_11 : decode cX3_isWithin 11 = .ok (.aload_n 0, 1) := dk_42 (dk_at dksX3_isWithin_0 11 rfl rfl)
theorem dX3_isWithin_12 : decode cX3_isWithin 12 = .ok (.getfield 16, 3) := dk_180 0 16 (dk_at dksX3_isWithin_0 12 rfl rfl)
theorem dX3_isWithin_15 : decode cX3_isWithin 15 = .ok (.aload_n 1, 1) := dk_43 (dk_at dksX3_isWithin_0 15 rfl rfl)
theorem dX3_isWithin_16 : decode cX3_isWithin 16 = .ok (.getfield 16, 3) := dk_180 0 16 (dk_at dksX3_isWithin_0 16 rfl rfl)
theorem dX3_isWithin_19 : decode cX3_isWithin 19 = .ok (.if_icmp .gt 29, 3) := dk_163 0 29 (dk_at dksX3_isWithin_0 19 rfl rfl)
theorem dX3_isWithin_22 : decode cX3_isWithin 22 = .ok (.aload_n 0, 1) := dk_42 (dk_at dksX3_isWithin_0 22 rfl rfl)
theorem dX3_isWithin_23 : decode cX3_isWithin 23 = .ok (.getfield 13, 3) := dk_180 0 13 (dk_at dksX3_isWithin_1 0 rfl rfl)
theorem dX3_isWithin_26 : decode cX3_isWithin 26 = .ok (.aload_n 1, 1) := dk_43 (dk_at dksX3_isWithin_1 3 rfl rfl)
theorem dX3_isWithin_27 : decode cX3_isWithin 27 = .ok (.getfield 13, 3) := dk_180 0 13 (dk_at dksX3_isWithin_1 4 rfl rfl)
theorem dX3_isWithin_30 : decode cX3_isWithin 30 = .ok (.if_icmp .lt 18, 3) := dk_161 0 18 (dk_at dksX3_isWithin_1 7 rfl rfl)
theorem dX3_isWithin_33 : decode cX3_isWithin 33 = .ok (.aload_n 0, 1) := dk_42 (dk_at dksX3_isWithin_1 10 rfl rfl)
theorem dX3_isWithin_34 : decode cX3_isWithin 34 = .ok (.getfield 19, 3) := dk_180 0 19 (dk_at dksX3_isWithin_1 11 rfl rfl)
theorem dX3_isWithin_37 : decode cX3_isWithin 37 = .ok (.aload_n 1, 1) := dk_43 (dk_at dksX3_isWithin_1 14 rfl rfl)
theorem dX3_isWithin_38 : decode cX3_isWithin 38 = .ok (.getfield 19, 3) := dk_180 0 19 (dk_at dksX3_isWithin_1 15 rfl rfl)
theorem dX3_isWithin_41 : decode cX3_isWithin 41 = .ok (.if_icmp .gt 7, 3) := dk_163 0 7 (dk_at dksX3_isWithin_1 18 rfl rfl)
theorem dX3_isWithin_44 : decode cX3_isWithin 44 = .ok (.iconst 1, 1) := dk_4 (dk_at dksX3_isWithin_1 21 rfl rfl)
theorem dX3_isWithin_45 : decode cX3_isWithin 45 = .ok (.goto 4, 3) := dk_167 0 4 (dk_at dksX3_isWithin_2 0 rfl rfl)
theorem dX3_isWithin_48 : decode cX3_isWithin 48 = .ok (.iconst 0, 1) := dk_3 (dk_at dksX3_isWithin_2 3 rfl rfl)
theorem dX3_isWithin_49 : decode cX3_isWithin 49 = .ok (.ireturn, 1) := dk_172 (dk_at dksX3_isWithin_2 4 rfl rfl)
abbrev cX3_overlaps : ByteArray := prog_4_method_5_code
def yX3_overlaps : MethodName := ⟨RX3, "overlaps", "(LTileServer$Box;)Z"⟩
def dkwX3_overlaps_2 : List UInt8 := [167, 0, 4, 3, 172]
abbrev dktX3_overlaps_2 : List UInt8 := dkwX3_overlaps_2 ++ []
def dkwX3_overlaps_1 : List UInt8 := [180, 0, 13, 43, 180, 0, 19, 162, 0, 18, 43, 180, 0, 13, 42, 180, 0, 19, 162, 0, 7, 4]
abbrev dktX3_overlaps_1 : List UInt8 := dkwX3_overlaps_1 ++ dktX3_overlaps_2
def dkwX3_overlaps_0 : List UInt8 := [42, 180, 0, 7, 43, 180, 0, 16, 162, 0, 40, 43, 180, 0, 7, 42, 180, 0, 16, 162, 0, 29, 42]
abbrev dktX3_overlaps_0 : List UInt8 := dkwX3_overlaps_0 ++ dktX3_overlaps_1
theorem dksX3_overlaps_0 : cX3_overlaps.data.toList.drop 0 = dktX3_overlaps_0 := by decide +kernel
theorem dksX3_overlaps_1 : cX3_overlaps.data.toList.drop 23 = dktX3_overlaps_1 := dk_seg dksX3_overlaps_0 23 rfl rfl
theorem dksX3_overlaps_2 : cX3_overlaps.data.toList.drop 45 = dktX3_overlaps_2 := dk_seg dksX3_overlaps_1 22 rfl rfl
theorem dX3_overlaps_0 : decode cX3_overlaps 0 = .ok (.aload_n 0, 1) := dk_42 (dk_at dksX3_overlaps_0 0 rfl rfl)
theorem dX3_overlaps_1 : decode cX3_overlaps 1 = .ok (.getfield 7, 3) := dk_180 0 7 (dk_at dksX3_overlaps_0 1 rfl rfl)
theorem dX3_overlaps_4 : decode cX3_overlaps 4 = .ok (.aload_n 1, 1) := dk_43 (dk_at dksX3_overlaps_0 4 rfl rfl)
theorem dX3_overlaps_5 : decode cX3_overlaps 5 = .ok (.getfield 16, 3) := dk_180 0 16 (dk_at dksX3_overlaps_0 5 rfl rfl)
theorem dX3_overlaps_8 : decode cX3_overlaps 8 = .ok (.if_icmp .ge 40, 3) := dk_162 0 40 (dk_at dksX3_overlaps_0 8 rfl rfl)
theorem dX3_overlaps_11 : decode cX3_overlaps 11 = .ok (.aload_n 1, 1) := dk_43 (dk_at dksX3_overlaps_0 11 rfl rfl)
theorem dX3_overlaps_12 : decode cX3_overlaps 12 = .ok (.getfield 7, 3) := dk_180 0 7 (dk_at dksX3_overlaps_0 12 rfl rfl)
theorem dX3_overlaps_15 : decode cX3_overlaps 15 = .ok (.aload_n 0, 1) := dk_42 (dk_at dksX3_overlaps_0 15 rfl rfl)
theorem dX3_overlaps_16 : decode cX3_overlaps 16 = .ok (.getfield 16, 3) := dk_180 0 16 (dk_at dksX3_overlaps_0 16 rfl rfl)
theorem dX3_overlaps_19 : decode cX3_overlaps 19 = .ok (.if_icmp .ge 29, 3) := dk_162 0 29 (dk_at dksX3_overlaps_0 19 rfl rfl)
theorem dX3_overlaps_22 : decode cX3_overlaps 22 = .ok (.aload_n 0, 1) := dk_42 (dk_at dksX3_overlaps_0 22 rfl rfl)
theorem dX3_overlaps_23 : decode cX3_overlaps 23 = .ok (.getfield 13, 3) := dk_180 0 13 (dk_at dksX3_overlaps_1 0 rfl rfl)
theorem dX3_overlaps_26 : decode cX3_overlaps 26 = .ok (.aload_n 1, 1) := dk_43 (dk_at dksX3_overlaps_1 3 rfl rfl)
theorem dX3_overlaps_27 : decode cX3_overlaps 27 = .ok (.getfield 19, 3) := dk_180 0 19 (dk_at dksX3_overlaps_1 4 rfl rfl)
theorem dX3_overlaps_30 : decode cX3_overlaps 30 = .ok (.if_icmp .ge 18, 3) := dk_162 0 18 (dk_at dksX3_overlaps_1 7 rfl rfl)
theorem dX3_overlaps_33 : decode cX3_overlaps 33 = .ok (.aload_n 1, 1) := dk_43 (dk_at dksX3_overlaps_1 10 rfl rfl)
theorem dX3_overlaps_34 : decode cX3_overlaps 34 = .ok (.getfield 13, 3) := dk_180 0 13 (dk_at dksX3_overlaps_1 11 rfl rfl)
theorem dX3_overlaps_37 : decode cX3_overlaps 37 = .ok (.aload_n 0, 1) := dk_42 (dk_at dksX3_overlaps_1 14 rfl rfl)
theorem dX3_overlaps_38 : decode cX3_overlaps 38 = .ok (.getfield 19, 3) := dk_180 0 19 (dk_at dksX3_overlaps_1 15 rfl rfl)
theorem dX3_overlaps_41 : decode cX3_overlaps 41 = .ok (.if_icmp .ge 7, 3) := dk_162 0 7 (dk_at dksX3_overlaps_1 18 rfl rfl)
theorem dX3_overlaps_44 : decode cX3_overlaps 44 = .ok (.iconst 1, 1) := dk_4 (dk_at dksX3_overlaps_1 21 rfl rfl)
theorem dX3_overlaps_45 : decode cX3_overlaps 45 = .ok (.goto 4, 3) := dk_167 0 4 (dk_at dksX3_overlaps_2 0 rfl rfl)
theorem dX3_overlaps_48 : decode cX3_overlaps 48 = .ok (.iconst 0, 1) := dk_3 (dk_at dksX3_overlaps_2 3 rfl rfl)
theorem dX3_overlaps_49 : decode cX3_overlaps 49 = .ok (.ireturn, 1) := dk_172 (dk_at dksX3_overlaps_2 4 rfl rfl)
theorem q68 : (Jvm.Cond.initialized "TileServer$Box") ∈ lw_all := lw_g (lw_at lw_m1 7 rfl) rfl
theorem q154 : (Jvm.Cond.static ({ cls := "TileServer$Box", name := "square", desc := "(III)LTileServer$Box;" } : Jvm.MethodName)) ∈ lw_all := lw_g (lw_at lw_m1 93 rfl) rfl
theorem q155 : (Jvm.Cond.code ({ cls := "TileServer$Box", name := "square", desc := "(III)LTileServer$Box;" } : Jvm.MethodName) prog_4_method_2_code (3 : Nat) (Option.some (Jvm.ClassFile.FieldType.object "TileServer$Box"))) ∈ lw_all := lw_g (lw_at lw_m1 94 rfl) rfl
theorem q156 : (Jvm.Cond.classLink "TileServer$Box" (8 : Nat) "TileServer$Box") ∈ lw_all := lw_g (lw_at lw_m1 95 rfl) rfl
theorem q157 : (Jvm.Cond.instantiable "TileServer$Box" (4 : Nat)) ∈ lw_all := lw_g (lw_at lw_m1 96 rfl) rfl
theorem q158 : (Jvm.Cond.methodLink "TileServer$Box" (22 : Nat) ({ cls := "TileServer$Box", name := "<init>", desc := "(IIII)V" } : Jvm.MethodName)) ∈ lw_all := lw_g (lw_at lw_m1 97 rfl) rfl
theorem q159 : (Jvm.Cond.instanceMethod ({ cls := "TileServer$Box", name := "<init>", desc := "(IIII)V" } : Jvm.MethodName)) ∈ lw_all := lw_g (lw_at lw_m1 98 rfl) rfl
theorem q160 : (Jvm.Cond.code ({ cls := "TileServer$Box", name := "<init>", desc := "(IIII)V" } : Jvm.MethodName) prog_4_method_1_code (5 : Nat) (Option.none : Option Jvm.ClassFile.FieldType)) ∈ lw_all := lw_g (lw_at lw_m1 99 rfl) rfl
theorem q161 : (Jvm.Cond.methodLink "TileServer$Box" (1 : Nat) ({ cls := "java/lang/Object", name := "<init>", desc := "()V" } : Jvm.MethodName)) ∈ lw_all := lw_g (lw_at lw_m1 100 rfl) rfl
theorem q162 : (Jvm.Cond.fieldLink "TileServer$Box" (7 : Nat) "TileServer$Box" "left" "I") ∈ lw_all := lw_g (lw_at lw_m1 101 rfl) rfl
theorem q165 : (Jvm.Cond.fieldLink "TileServer$Box" (13 : Nat) "TileServer$Box" "low" "I") ∈ lw_all := lw_g (lw_at lw_m1 104 rfl) rfl
theorem q168 : (Jvm.Cond.fieldLink "TileServer$Box" (16 : Nat) "TileServer$Box" "right" "I") ∈ lw_all := lw_g (lw_at lw_m1 107 rfl) rfl
theorem q170 : (Jvm.Cond.fieldLink "TileServer$Box" (19 : Nat) "TileServer$Box" "high" "I") ∈ lw_all := lw_g (lw_at lw_m1 109 rfl) rfl
theorem q172 : (Jvm.Cond.laysFinal "TileServer$Box" "TileServer$Box" "left" "I") ∈ lw_all := lw_g (lw_at lw_m1 111 rfl) rfl
theorem q173 : (Jvm.Cond.soleField "TileServer$Box" "left") ∈ lw_all := lw_g (lw_at lw_m1 112 rfl) rfl
theorem q174 : (Jvm.Cond.laysFinal "TileServer$Box" "TileServer$Box" "low" "I") ∈ lw_all := lw_g (lw_at lw_m1 113 rfl) rfl
theorem q175 : (Jvm.Cond.soleField "TileServer$Box" "low") ∈ lw_all := lw_g (lw_at lw_m1 114 rfl) rfl
theorem q176 : (Jvm.Cond.laysFinal "TileServer$Box" "TileServer$Box" "right" "I") ∈ lw_all := lw_g (lw_at lw_m1 115 rfl) rfl
theorem q177 : (Jvm.Cond.soleField "TileServer$Box" "right") ∈ lw_all := lw_g (lw_at lw_m1 116 rfl) rfl
theorem q178 : (Jvm.Cond.laysFinal "TileServer$Box" "TileServer$Box" "high" "I") ∈ lw_all := lw_g (lw_at lw_m1 117 rfl) rfl
theorem q179 : (Jvm.Cond.soleField "TileServer$Box" "high") ∈ lw_all := lw_g (lw_at lw_m1 118 rfl) rfl
theorem q180 : (Jvm.Cond.superclass "TileServer$Box" "java/lang/Object") ∈ lw_all := lw_g (lw_at lw_m1 119 rfl) rfl
theorem q546 : (Jvm.Cond.selects "TileServer$Box" ({ cls := "java/lang/Object", name := "getClass", desc := "()Ljava/lang/Class;" } : Jvm.MethodName) ({ cls := "java/lang/Object", name := "getClass", desc := "()Ljava/lang/Class;" } : Jvm.MethodName)) ∈ lw_all := lw_g (lw_at lw_m3 5 rfl) rfl
theorem q631 : (Jvm.Cond.instanceMethod ({ cls := "TileServer$Box", name := "meets", desc := "(IIII)Z" } : Jvm.MethodName)) ∈ lw_all := lw_g (lw_at lw_m3 90 rfl) rfl
theorem q632 : (Jvm.Cond.selects "TileServer$Box" ({ cls := "TileServer$Box", name := "meets", desc := "(IIII)Z" } : Jvm.MethodName) ({ cls := "TileServer$Box", name := "meets", desc := "(IIII)Z" } : Jvm.MethodName)) ∈ lw_all := lw_g (lw_at lw_m3 91 rfl) rfl
theorem q633 : (Jvm.Cond.code ({ cls := "TileServer$Box", name := "meets", desc := "(IIII)Z" } : Jvm.MethodName) prog_4_method_4_code (5 : Nat) (Option.some Jvm.ClassFile.FieldType.boolean)) ∈ lw_all := lw_g (lw_at lw_m3 92 rfl) rfl
theorem q774 : (Jvm.Cond.instanceMethod ({ cls := "TileServer$Box", name := "meets", desc := "(LTileServer$Box;)Z" } : Jvm.MethodName)) ∈ lw_all := lw_g (lw_at lw_m3 233 rfl) rfl
theorem q775 : (Jvm.Cond.selects "TileServer$Box" ({ cls := "TileServer$Box", name := "meets", desc := "(LTileServer$Box;)Z" } : Jvm.MethodName) ({ cls := "TileServer$Box", name := "meets", desc := "(LTileServer$Box;)Z" } : Jvm.MethodName)) ∈ lw_all := lw_g (lw_at lw_m3 234 rfl) rfl
theorem q776 : (Jvm.Cond.code ({ cls := "TileServer$Box", name := "meets", desc := "(LTileServer$Box;)Z" } : Jvm.MethodName) prog_4_method_3_code (2 : Nat) (Option.some Jvm.ClassFile.FieldType.boolean)) ∈ lw_all := lw_g (lw_at lw_m3 235 rfl) rfl
theorem q777 : (Jvm.Cond.methodLink "TileServer$Box" (25 : Nat) ({ cls := "TileServer$Box", name := "meets", desc := "(IIII)Z" } : Jvm.MethodName)) ∈ lw_all := lw_g (lw_at lw_m3 236 rfl) rfl
theorem q970 : (Jvm.Cond.selects "TileServer$Box" ({ cls := "java/lang/Object", name := "equals", desc := "(Ljava/lang/Object;)Z" } : Jvm.MethodName) ({ cls := "java/lang/Object", name := "equals", desc := "(Ljava/lang/Object;)Z" } : Jvm.MethodName)) ∈ lw_all := lw_g (lw_at lw_m4 189 rfl) rfl
theorem q1540 : (Jvm.Cond.instanceMethod ({ cls := "TileServer$Box", name := "isWithin", desc := "(LTileServer$Box;)Z" } : Jvm.MethodName)) ∈ lw_all := lw_g (lw_at lw_m7 39 rfl) rfl
theorem q1541 : (Jvm.Cond.selects "TileServer$Box" ({ cls := "TileServer$Box", name := "isWithin", desc := "(LTileServer$Box;)Z" } : Jvm.MethodName) ({ cls := "TileServer$Box", name := "isWithin", desc := "(LTileServer$Box;)Z" } : Jvm.MethodName)) ∈ lw_all := lw_g (lw_at lw_m7 40 rfl) rfl
theorem q1542 : (Jvm.Cond.code ({ cls := "TileServer$Box", name := "isWithin", desc := "(LTileServer$Box;)Z" } : Jvm.MethodName) prog_4_method_6_code (2 : Nat) (Option.some Jvm.ClassFile.FieldType.boolean)) ∈ lw_all := lw_g (lw_at lw_m7 41 rfl) rfl
theorem q1545 : (Jvm.Cond.instanceMethod ({ cls := "TileServer$Box", name := "overlaps", desc := "(LTileServer$Box;)Z" } : Jvm.MethodName)) ∈ lw_all := lw_g (lw_at lw_m7 44 rfl) rfl
theorem q1546 : (Jvm.Cond.selects "TileServer$Box" ({ cls := "TileServer$Box", name := "overlaps", desc := "(LTileServer$Box;)Z" } : Jvm.MethodName) ({ cls := "TileServer$Box", name := "overlaps", desc := "(LTileServer$Box;)Z" } : Jvm.MethodName)) ∈ lw_all := lw_g (lw_at lw_m7 45 rfl) rfl
theorem q1547 : (Jvm.Cond.code ({ cls := "TileServer$Box", name := "overlaps", desc := "(LTileServer$Box;)Z" } : Jvm.MethodName) prog_4_method_5_code (2 : Nat) (Option.some Jvm.ClassFile.FieldType.boolean)) ∈ lw_all := lw_g (lw_at lw_m7 46 rfl) rfl
theorem q1997 : (Jvm.Cond.castable "TileServer$Box" "java/lang/Object") ∈ lw_tbl := lw_at lw_m9 16 rfl
theorem in_X3 : ∀ w ∈ wsX30, w ∈ lw_all := lw_in wsX30 [172, 174, 176, 178] (by decide +kernel) (by decide +kernel)
/-! TileServer$Shape -/
set_option maxRecDepth 100000
def RX5 : String := "TileServer$Shape"
abbrev cX5_init : ByteArray := prog_8_method_1_code
def yX5_init : MethodName := ⟨RX5, "<init>", "(I)V"⟩
def dkwX5_init_0 : List UInt8 := [42, 183, 0, 1, 42, 27, 181, 0, 7, 177]
abbrev dktX5_init_0 : List UInt8 := dkwX5_init_0 ++ []
theorem dksX5_init_0 : cX5_init.data.toList.drop 0 = dktX5_init_0 := by decide +kernel
theorem dX5_init_0 : decode cX5_init 0 = .ok (.aload_n 0, 1) := dk_42 (dk_at dksX5_init_0 0 rfl rfl)
theorem dX5_init_1 : decode cX5_init 1 = .ok (.invokespecial 1, 3) := dk_183 0 1 (dk_at dksX5_init_0 1 rfl rfl)
theorem dX5_init_4 : decode cX5_init 4 = .ok (.aload_n 0, 1) := dk_42 (dk_at dksX5_init_0 4 rfl rfl)
theorem dX5_init_5 : decode cX5_init 5 = .ok (.iload_n 1, 1) := dk_27 (dk_at dksX5_init_0 5 rfl rfl)
theorem dX5_init_6 : decode cX5_init 6 = .ok (.putfield 7, 3) := dk_181 0 7 (dk_at dksX5_init_0 6 rfl rfl)
theorem dX5_init_9 : decode cX5_init 9 = .ok (.return_, 1) := dk_177 (dk_at dksX5_init_0 9 rfl rfl)
theorem q75 : (Jvm.Cond.initialized "TileServer$Shape") ∈ lw_all := lw_g (lw_at lw_m1 14 rfl) rfl
theorem q409 : (Jvm.Cond.declares ({ cls := "TileServer$Shape", name := "sketch", desc := "(I)LTileServer$Sketch;" } : Jvm.MethodName)) ∈ lw_tbl := lw_at lw_m2 108 rfl
theorem q410 : (Jvm.Cond.sameMethod "TileServer$Shape" "TileServer$Shape" "sketch" "(I)LTileServer$Sketch;") ∈ lw_all := lw_g (lw_at lw_m2 109 rfl) rfl
theorem q737 : (Jvm.Cond.instanceMethod ({ cls := "TileServer$Shape", name := "<init>", desc := "(I)V" } : Jvm.MethodName)) ∈ lw_all := lw_g (lw_at lw_m3 196 rfl) rfl
theorem q738 : (Jvm.Cond.code ({ cls := "TileServer$Shape", name := "<init>", desc := "(I)V" } : Jvm.MethodName) prog_8_method_1_code (2 : Nat) (Option.none : Option Jvm.ClassFile.FieldType)) ∈ lw_all := lw_g (lw_at lw_m3 197 rfl) rfl
theorem q739 : (Jvm.Cond.methodLink "TileServer$Shape" (1 : Nat) ({ cls := "java/lang/Object", name := "<init>", desc := "()V" } : Jvm.MethodName)) ∈ lw_all := lw_g (lw_at lw_m3 198 rfl) rfl
theorem q742 : (Jvm.Cond.fieldLink "TileServer$Shape" (7 : Nat) "TileServer$Shape" "number" "I") ∈ lw_all := lw_g (lw_at lw_m3 201 rfl) rfl
theorem q750 : (Jvm.Cond.soleField "TileServer$Shape" "number") ∈ lw_all := lw_g (lw_at lw_m3 209 rfl) rfl
theorem q752 : (Jvm.Cond.soleField "TileServer$Shape" "labelWidth") ∈ lw_all := lw_g (lw_at lw_m3 211 rfl) rfl
theorem q754 : (Jvm.Cond.soleField "TileServer$Shape" "rank") ∈ lw_all := lw_g (lw_at lw_m3 213 rfl) rfl
theorem q763 : (Jvm.Cond.declares ({ cls := "TileServer$Shape", name := "box", desc := "()LTileServer$Box;" } : Jvm.MethodName)) ∈ lw_tbl := lw_at lw_m3 222 rfl
theorem q764 : (Jvm.Cond.sameMethod "TileServer$Shape" "TileServer$Shape" "box" "()LTileServer$Box;") ∈ lw_all := lw_g (lw_at lw_m3 223 rfl) rfl
theorem q1032 : (Jvm.Cond.declares ({ cls := "TileServer$Shape", name := "kind", desc := "()C" } : Jvm.MethodName)) ∈ lw_tbl := lw_at lw_m5 11 rfl
theorem q1033 : (Jvm.Cond.sameMethod "TileServer$Shape" "TileServer$Shape" "kind" "()C") ∈ lw_all := lw_g (lw_at lw_m5 12 rfl) rfl
/-! TileServer$Line -/
set_option maxRecDepth 100000
def RX6 : String := "TileServer$Line"
def TX6 : u_T := fun k => match k with
  | 0 => ("TileServer$Shape", "number", "I", true)
  | 1 => ("TileServer$Shape", "labelWidth", "I", false)
  | 2 => ("TileServer$Shape", "rank", "I", false)
  | _ => ("TileServer$Line", "points", "Ljava/util/List;", true)
def tyX6 : Nat → FieldType := fun k => match k with
  | 0 => .int
  | 1 => .int
  | 2 => .int
  | _ => .object "java/util/List"
abbrev wsX60 : List Cond := u_ws RX6 TX6 4
theorem nmX6 : ∀ a, a < 4 → ∀ b, b < 4 → a ≠ b → (TX6 a).2.1 ≠ (TX6 b).2.1 := by decide +kernel
theorem tyX6_ok : ∀ k, k < 4 → parseFieldDescriptor (TX6 k).2.2.1 = some (tyX6 k) := by decide +kernel
abbrev cX6_sketch : ByteArray := prog_6_method_16_code
def yX6_sketch : MethodName := ⟨RX6, "sketch", "(I)LTileServer$Sketch;"⟩
def dkwX6_sketch_0 : List UInt8 := [42, 27, 182, 0, 125, 176]
abbrev dktX6_sketch_0 : List UInt8 := dkwX6_sketch_0 ++ []
theorem dksX6_sketch_0 : cX6_sketch.data.toList.drop 0 = dktX6_sketch_0 := by decide +kernel
theorem dX6_sketch_0 : decode cX6_sketch 0 = .ok (.aload_n 0, 1) := dk_42 (dk_at dksX6_sketch_0 0 rfl rfl)
theorem dX6_sketch_1 : decode cX6_sketch 1 = .ok (.iload_n 1, 1) := dk_27 (dk_at dksX6_sketch_0 1 rfl rfl)
theorem dX6_sketch_2 : decode cX6_sketch 2 = .ok (.invokevirtual 125, 3) := dk_182 0 125 (dk_at dksX6_sketch_0 2 rfl rfl)
theorem dX6_sketch_5 : decode cX6_sketch 5 = .ok (.areturn, 1) := dk_176 (dk_at dksX6_sketch_0 5 rfl rfl)
abbrev cX6_path : ByteArray := prog_6_method_15_code
def yX6_path : MethodName := ⟨RX6, "path", "(I)LTileServer$Path;"⟩
def dkwX6_path_3 : List UInt8 := [176]
abbrev dktX6_path_3 : List UInt8 := dkwX6_path_3 ++ []
def dkwX6_path_2 : List UInt8 := [185, 0, 18, 2, 0, 87, 132, 4, 1, 167, 255, 218, 187, 0, 116, 89, 42, 182, 0, 118, 45, 183, 0, 122]
abbrev dktX6_path_2 : List UInt8 := dkwX6_path_2 ++ dktX6_path_3
def dkwX6_path_1 : List UInt8 := [44, 21, 4, 51, 153, 0, 24, 45, 42, 180, 0, 12, 21, 4, 185, 0, 24, 2, 0, 192, 0, 28]
abbrev dktX6_path_1 : List UInt8 := dkwX6_path_1 ++ dktX6_path_2
def dkwX6_path_0 : List UInt8 := [42, 27, 182, 0, 112, 77, 187, 0, 7, 89, 183, 0, 9, 78, 3, 54, 4, 21, 4, 44, 190, 162, 0, 37]
abbrev dktX6_path_0 : List UInt8 := dkwX6_path_0 ++ dktX6_path_1
theorem dksX6_path_0 : cX6_path.data.toList.drop 0 = dktX6_path_0 := by decide +kernel
theorem dksX6_path_1 : cX6_path.data.toList.drop 24 = dktX6_path_1 := dk_seg dksX6_path_0 24 rfl rfl
theorem dksX6_path_2 : cX6_path.data.toList.drop 46 = dktX6_path_2 := dk_seg dksX6_path_1 22 rfl rfl
theorem dksX6_path_3 : cX6_path.data.toList.drop 70 = dktX6_path_3 := dk_seg dksX6_path_2 24 rfl rfl
theorem dX6_path_0 : decode cX6_path 0 = .ok (.aload_n 0, 1) := dk_42 (dk_at dksX6_path_0 0 rfl rfl)
theorem dX6_path_1 : decode cX6_path 1 = .ok (.iload_n 1, 1) := dk_27 (dk_at dksX6_path_0 1 rfl rfl)
theorem dX6_path_2 : decode cX6_path 2 = .ok (.invokevirtual 112, 3) := dk_182 0 112 (dk_at dksX6_path_0 2 rfl rfl)
theorem dX6_path_5 : decode cX6_path 5 = .ok (.astore_n 2, 1) := dk_77 (dk_at dksX6_path_0 5 rfl rfl)
theorem dX6_path_6 : decode cX6_path 6 = .ok (.new 7, 3) := dk_187 0 7 (dk_at dksX6_path_0 6 rfl rfl)
theorem dX6_path_9 : decode cX6_path 9 = .ok (.dup, 1) := dk_89 (dk_at dksX6_path_0 9 rfl rfl)
theorem dX6_path_10 : decode cX6_path 10 = .ok (.invokespecial 9, 3) := dk_183 0 9 (dk_at dksX6_path_0 10 rfl rfl)
theorem dX6_path_13 : decode cX6_path 13 = .ok (.astore_n 3, 1) := dk_78 (dk_at dksX6_path_0 13 rfl rfl)
theorem dX6_path_14 : decode cX6_path 14 = .ok (.iconst 0, 1) := dk_3 (dk_at dksX6_path_0 14 rfl rfl)
theorem dX6_path_15 : decode cX6_path 15 = .ok (.istore 4, 2) := dk_54 4 (dk_at dksX6_path_0 15 rfl rfl)
theorem dX6_path_17 : decode cX6_path 17 = .ok (.iload 4, 2) := dk_21 4 (dk_at dksX6_path_0 17 rfl rfl)
theorem dX6_path_19 : decode cX6_path 19 = .ok (.aload_n 2, 1) := dk_44 (dk_at dksX6_path_0 19 rfl rfl)
theorem dX6_path_20 : decode cX6_path 20 = .ok (.arraylength, 1) := dk_190 (dk_at dksX6_path_0 20 rfl rfl)
theorem dX6_path_21 : decode cX6_path 21 = .ok (.if_icmp .ge 37, 3) := dk_162 0 37 (dk_at dksX6_path_0 21 rfl rfl)
theorem dX6_path_24 : decode cX6_path 24 = .ok (.aload_n 2, 1) := dk_44 (dk_at dksX6_path_1 0 rfl rfl)
theorem dX6_path_25 : decode cX6_path 25 = .ok (.iload 4, 2) := dk_21 4 (dk_at dksX6_path_1 1 rfl rfl)
theorem dX6_path_27 : decode cX6_path 27 = .ok (.baload, 1) := dk_51 (dk_at dksX6_path_1 3 rfl rfl)
theorem dX6_path_28 : decode cX6_path 28 = .ok (.ifCond .eq 24, 3) := dk_153 0 24 (dk_at dksX6_path_1 4 rfl rfl)
theorem dX6_path_31 : decode cX6_path 31 = .ok (.aload_n 3, 1) := dk_45 (dk_at dksX6_path_1 7 rfl rfl)
theorem dX6_path_32 : decode cX6_path 32 = .ok (.aload_n 0, 1) := dk_42 (dk_at dksX6_path_1 8 rfl rfl)
theorem dX6_path_33 : decode cX6_path 33 = .ok (.getfield 12, 3) := dk_180 0 12 (dk_at dksX6_path_1 9 rfl rfl)
theorem dX6_path_36 : decode cX6_path 36 = .ok (.iload 4, 2) := dk_21 4 (dk_at dksX6_path_1 12 rfl rfl)
theorem dX6_path_38 : decode cX6_path 38 = .ok (.invokeinterface 24 2, 5) := by decide +kernel
theorem dX6_path_43 : decode cX6_path 43 = .ok (.checkcast 28, 3) := dk_192 0 28 (dk_at dksX6_path_1 19 rfl rfl)
theorem dX6_path_46 : decode cX6_path 46 = .ok (.invokeinterface 18 2, 5) := by decide +kernel
theorem dX6_path_51 : decode cX6_path 51 = .ok (.pop, 1) := dk_87 (dk_at dksX6_path_2 5 rfl rfl)
theorem dX6_path_52 : decode cX6_path 52 = .ok (.iinc 4 1, 3) := dk_132 4 1 (dk_at dksX6_path_2 6 rfl rfl)
theorem dX6_path_55 : decode cX6_path 55 = .ok (.goto (-38), 3) := dk_167 255 218 (dk_at dksX6_path_2 9 rfl rfl)
theorem dX6_path_58 : decode cX6_path 58 = .ok (.new 116, 3) := dk_187 0 116 (dk_at dksX6_path_2 12 rfl rfl)
theorem dX6_path_61 : decode cX6_path 61 = .ok (.dup, 1) := dk_89 (dk_at dksX6_path_2 15 rfl rfl)
theorem dX6_path_62 : decode cX6_path 62 = .ok (.aload_n 0, 1) := dk_42 (dk_at dksX6_path_2 16 rfl rfl)
theorem dX6_path_63 : decode cX6_path 63 = .ok (.invokevirtual 118, 3) := dk_182 0 118 (dk_at dksX6_path_2 17 rfl rfl)
theorem dX6_path_66 : decode cX6_path 66 = .ok (.aload_n 3, 1) := dk_45 (dk_at dksX6_path_2 20 rfl rfl)
theorem dX6_path_67 : decode cX6_path 67 = .ok (.invokespecial 122, 3) := dk_183 0 122 (dk_at dksX6_path_2 21 rfl rfl)
theorem dX6_path_70 : decode cX6_path 70 = .ok (.areturn, 1) := dk_176 (dk_at dksX6_path_3 0 rfl rfl)
abbrev cX6_kept : ByteArray := prog_6_method_13_code
def yX6_kept : MethodName := ⟨RX6, "kept", "(I)[Z"⟩
def dkwX6_kept_1 : List UInt8 := [176]
abbrev dktX6_kept_1 : List UInt8 := dkwX6_kept_1 ++ []
def dkwX6_kept_0 : List UInt8 := [42, 182, 0, 105, 77, 42, 3, 42, 180, 0, 12, 185, 0, 61, 1, 0, 4, 100, 27, 44, 182, 0, 101, 44]
abbrev dktX6_kept_0 : List UInt8 := dkwX6_kept_0 ++ dktX6_kept_1
theorem dksX6_kept_0 : cX6_kept.data.toList.drop 0 = dktX6_kept_0 := by decide +kernel
theorem dksX6_kept_1 : cX6_kept.data.toList.drop 24 = dktX6_kept_1 := dk_seg dksX6_kept_0 24 rfl rfl
theorem dX6_kept_0 : decode cX6_kept 0 = .ok (.aload_n 0, 1) := dk_42 (dk_at dksX6_kept_0 0 rfl rfl)
theorem dX6_kept_1 : decode cX6_kept 1 = .ok (.invokevirtual 105, 3) := dk_182 0 105 (dk_at dksX6_kept_0 1 rfl rfl)
theorem dX6_kept_4 : decode cX6_kept 4 = .ok (.astore_n 2, 1) := dk_77 (dk_at dksX6_kept_0 4 rfl rfl)
theorem dX6_kept_5 : decode cX6_kept 5 = .ok (.aload_n 0, 1) := dk_42 (dk_at dksX6_kept_0 5 rfl rfl)
theorem dX6_kept_6 : decode cX6_kept 6 = .ok (.iconst 0, 1) := dk_3 (dk_at dksX6_kept_0 6 rfl rfl)
theorem dX6_kept_7 : decode cX6_kept 7 = .ok (.aload_n 0, 1) := dk_42 (dk_at dksX6_kept_0 7 rfl rfl)
theorem dX6_kept_8 : decode cX6_kept 8 = .ok (.getfield 12, 3) := dk_180 0 12 (dk_at dksX6_kept_0 8 rfl rfl)
theorem dX6_kept_11 : decode cX6_kept 11 = .ok (.invokeinterface 61 1, 5) := by decide +kernel
theorem dX6_kept_16 : decode cX6_kept 16 = .ok (.iconst 1, 1) := dk_4 (dk_at dksX6_kept_0 16 rfl rfl)
theorem dX6_kept_17 : decode cX6_kept 17 = .ok (.isub, 1) := dk_100 (dk_at dksX6_kept_0 17 rfl rfl)
theorem dX6_kept_18 : decode cX6_kept 18 = .ok (.iload_n 1, 1) := dk_27 (dk_at dksX6_kept_0 18 rfl rfl)
theorem dX6_kept_19 : decode cX6_kept 19 = .ok (.aload_n 2, 1) := dk_44 (dk_at dksX6_kept_0 19 rfl rfl)
theorem dX6_kept_20 : decode cX6_kept 20 = .ok (.invokevirtual 101, 3) := dk_182 0 101 (dk_at dksX6_kept_0 20 rfl rfl)
theorem dX6_kept_23 : decode cX6_kept 23 = .ok (.aload_n 2, 1) := dk_44 (dk_at dksX6_kept_0 23 rfl rfl)
theorem dX6_kept_24 : decode cX6_kept 24 = .ok (.areturn, 1) := dk_176 (dk_at dksX6_kept_1 0 rfl rfl)
abbrev cX6_ends : ByteArray := prog_6_method_12_code
def yX6_ends : MethodName := ⟨RX6, "ends", "()[Z"⟩
def dkwX6_ends_1 : List UInt8 := [176]
abbrev dktX6_ends_1 : List UInt8 := dkwX6_ends_1 ++ []
def dkwX6_ends_0 : List UInt8 := [42, 180, 0, 12, 185, 0, 61, 1, 0, 188, 4, 76, 43, 3, 4, 84, 43, 43, 190, 4, 100, 4, 84, 43]
abbrev dktX6_ends_0 : List UInt8 := dkwX6_ends_0 ++ dktX6_ends_1
theorem dksX6_ends_0 : cX6_ends.data.toList.drop 0 = dktX6_ends_0 := by decide +kernel
theorem dksX6_ends_1 : cX6_ends.data.toList.drop 24 = dktX6_ends_1 := dk_seg dksX6_ends_0 24 rfl rfl
theorem dX6_ends_0 : decode cX6_ends 0 = .ok (.aload_n 0, 1) := dk_42 (dk_at dksX6_ends_0 0 rfl rfl)
theorem dX6_ends_1 : decode cX6_ends 1 = .ok (.getfield 12, 3) := dk_180 0 12 (dk_at dksX6_ends_0 1 rfl rfl)
theorem dX6_ends_4 : decode cX6_ends 4 = .ok (.invokeinterface 61 1, 5) := by decide +kernel
theorem dX6_ends_9 : decode cX6_ends 9 = .ok (.newarray .boolean, 2) := dk_188_4 (dk_at dksX6_ends_0 9 rfl rfl)
theorem dX6_ends_11 : decode cX6_ends 11 = .ok (.astore_n 1, 1) := dk_76 (dk_at dksX6_ends_0 11 rfl rfl)
theorem dX6_ends_12 : decode cX6_ends 12 = .ok (.aload_n 1, 1) := dk_43 (dk_at dksX6_ends_0 12 rfl rfl)
theorem dX6_ends_13 : decode cX6_ends 13 = .ok (.iconst 0, 1) := dk_3 (dk_at dksX6_ends_0 13 rfl rfl)
theorem dX6_ends_14 : decode cX6_ends 14 = .ok (.iconst 1, 1) := dk_4 (dk_at dksX6_ends_0 14 rfl rfl)
theorem dX6_ends_15 : decode cX6_ends 15 = .ok (.bastore, 1) := dk_84 (dk_at dksX6_ends_0 15 rfl rfl)
theorem dX6_ends_16 : decode cX6_ends 16 = .ok (.aload_n 1, 1) := dk_43 (dk_at dksX6_ends_0 16 rfl rfl)
theorem dX6_ends_17 : decode cX6_ends 17 = .ok (.aload_n 1, 1) := dk_43 (dk_at dksX6_ends_0 17 rfl rfl)
theorem dX6_ends_18 : decode cX6_ends 18 = .ok (.arraylength, 1) := dk_190 (dk_at dksX6_ends_0 18 rfl rfl)
theorem dX6_ends_19 : decode cX6_ends 19 = .ok (.iconst 1, 1) := dk_4 (dk_at dksX6_ends_0 19 rfl rfl)
theorem dX6_ends_20 : decode cX6_ends 20 = .ok (.isub, 1) := dk_100 (dk_at dksX6_ends_0 20 rfl rfl)
theorem dX6_ends_21 : decode cX6_ends 21 = .ok (.iconst 1, 1) := dk_4 (dk_at dksX6_ends_0 21 rfl rfl)
theorem dX6_ends_22 : decode cX6_ends 22 = .ok (.bastore, 1) := dk_84 (dk_at dksX6_ends_0 22 rfl rfl)
theorem dX6_ends_23 : decode cX6_ends 23 = .ok (.aload_n 1, 1) := dk_43 (dk_at dksX6_ends_0 23 rfl rfl)
theorem dX6_ends_24 : decode cX6_ends 24 = .ok (.areturn, 1) := dk_176 (dk_at dksX6_ends_1 0 rfl rfl)
abbrev cX6_divide : ByteArray := prog_6_method_11_code
def yX6_divide : MethodName := ⟨RX6, "divide", "(III[Z)V"⟩
def dkwX6_divide_1 : List UInt8 := [21, 5, 29, 25, 4, 182, 0, 101, 42, 21, 5, 28, 29, 25, 4, 182, 0, 101, 177]
abbrev dktX6_divide_1 : List UInt8 := dkwX6_divide_1 ++ []
def dkwX6_divide_0 : List UInt8 := [42, 27, 28, 29, 182, 0, 98, 54, 5, 21, 5, 27, 164, 0, 29, 25, 4, 21, 5, 4, 84, 42, 27]
abbrev dktX6_divide_0 : List UInt8 := dkwX6_divide_0 ++ dktX6_divide_1
theorem dksX6_divide_0 : cX6_divide.data.toList.drop 0 = dktX6_divide_0 := by decide +kernel
theorem dksX6_divide_1 : cX6_divide.data.toList.drop 23 = dktX6_divide_1 := dk_seg dksX6_divide_0 23 rfl rfl
theorem dX6_divide_0 : decode cX6_divide 0 = .ok (.aload_n 0, 1) := dk_42 (dk_at dksX6_divide_0 0 rfl rfl)
theorem dX6_divide_1 : decode cX6_divide 1 = .ok (.iload_n 1, 1) := dk_27 (dk_at dksX6_divide_0 1 rfl rfl)
theorem dX6_divide_2 : decode cX6_divide 2 = .ok (.iload_n 2, 1) := dk_28 (dk_at dksX6_divide_0 2 rfl rfl)
theorem dX6_divide_3 : decode cX6_divide 3 = .ok (.iload_n 3, 1) := dk_29 (dk_at dksX6_divide_0 3 rfl rfl)
theorem dX6_divide_4 : decode cX6_divide 4 = .ok (.invokevirtual 98, 3) := dk_182 0 98 (dk_at dksX6_divide_0 4 rfl rfl)
theorem dX6_divide_7 : decode cX6_divide 7 = .ok (.istore 5, 2) := dk_54 5 (dk_at dksX6_divide_0 7 rfl rfl)
theorem dX6_divide_9 : decode cX6_divide 9 = .ok (.iload 5, 2) := dk_21 5 (dk_at dksX6_divide_0 9 rfl rfl)
theorem dX6_divide_11 : decode cX6_divide 11 = .ok (.iload_n 1, 1) := dk_27 (dk_at dksX6_divide_0 11 rfl rfl)
theorem dX6_divide_12 : decode cX6_divide 12 = .ok (.if_icmp .le 29, 3) := dk_164 0 29 (dk_at dksX6_divide_0 12 rfl rfl)
theorem dX6_divide_15 : decode cX6_divide 15 = .ok (.aload 4, 2) := dk_25 4 (dk_at dksX6_divide_0 15 rfl rfl)
theorem dX6_divide_17 : decode cX6_divide 17 = .ok (.iload 5, 2) := dk_21 5 (dk_at dksX6_divide_0 17 rfl rfl)
theorem dX6_divide_19 : decode cX6_divide 19 = .ok (.iconst 1, 1) := dk_4 (dk_at dksX6_divide_0 19 rfl rfl)
theorem dX6_divide_20 : decode cX6_divide 20 = .ok (.bastore, 1) := dk_84 (dk_at dksX6_divide_0 20 rfl rfl)
theorem dX6_divide_21 : decode cX6_divide 21 = .ok (.aload_n 0, 1) := dk_42 (dk_at dksX6_divide_0 21 rfl rfl)
theorem dX6_divide_22 : decode cX6_divide 22 = .ok (.iload_n 1, 1) := dk_27 (dk_at dksX6_divide_0 22 rfl rfl)
theorem dX6_divide_23 : decode cX6_divide 23 = .ok (.iload 5, 2) := dk_21 5 (dk_at dksX6_divide_1 0 rfl rfl)
theorem dX6_divide_25 : decode cX6_divide 25 = .ok (.iload_n 3, 1) := dk_29 (dk_at dksX6_divide_1 2 rfl rfl)
theorem dX6_divide_26 : decode cX6_divide 26 = .ok (.aload 4, 2) := dk_25 4 (dk_at dksX6_divide_1 3 rfl rfl)
theorem dX6_divide_28 : decode cX6_divide 28 = .ok (.invokevirtual 101, 3) := dk_182 0 101 (dk_at dksX6_divide_1 5 rfl rfl)
theorem dX6_divide_31 : decode cX6_divide 31 = .ok (.aload_n 0, 1) := dk_42 (dk_at dksX6_divide_1 8 rfl rfl)
theorem dX6_divide_32 : decode cX6_divide 32 = .ok (.iload 5, 2) := dk_21 5 (dk_at dksX6_divide_1 9 rfl rfl)
theorem dX6_divide_34 : decode cX6_divide 34 = .ok (.iload_n 2, 1) := dk_28 (dk_at dksX6_divide_1 11 rfl rfl)
theorem dX6_divide_35 : decode cX6_divide 35 = .ok (.iload_n 3, 1) := dk_29 (dk_at dksX6_divide_1 12 rfl rfl)
theorem dX6_divide_36 : decode cX6_divide 36 = .ok (.aload 4, 2) := dk_25 4 (dk_at dksX6_divide_1 13 rfl rfl)
theorem dX6_divide_38 : decode cX6_divide 38 = .ok (.invokevirtual 101, 3) := dk_182 0 101 (dk_at dksX6_divide_1 15 rfl rfl)
theorem dX6_divide_41 : decode cX6_divide 41 = .ok (.return_, 1) := dk_177 (dk_at dksX6_divide_1 18 rfl rfl)
abbrev cX6_farthest : ByteArray := prog_6_method_10_code
def yX6_farthest : MethodName := ⟨RX6, "farthest", "(III)I"⟩
def dkwX6_farthest_4 : List UInt8 := [172]
abbrev dktX6_farthest_4 : List UInt8 := dkwX6_farthest_4 ++ []
def dkwX6_farthest_3 : List UInt8 := [42, 27, 28, 21, 4, 182, 0, 75, 29, 184, 0, 79, 21, 5, 104, 164, 0, 8, 21, 4, 167, 0, 4, 27]
abbrev dktX6_farthest_3 : List UInt8 := dkwX6_farthest_3 ++ dktX6_farthest_4
def dkwX6_farthest_2 : List UInt8 := [182, 0, 83, 153, 0, 7, 4, 167, 0, 9, 42, 27, 28, 182, 0, 87, 54, 5, 21, 4, 27, 164, 0, 26]
abbrev dktX6_farthest_2 : List UInt8 := dkwX6_farthest_2 ++ dktX6_farthest_3
def dkwX6_farthest_1 : List UInt8 := [21, 5, 21, 4, 182, 0, 94, 153, 0, 7, 21, 5, 54, 4, 132, 5, 1, 167, 255, 224, 42, 27, 28]
abbrev dktX6_farthest_1 : List UInt8 := dkwX6_farthest_1 ++ dktX6_farthest_2
def dkwX6_farthest_0 : List UInt8 := [27, 54, 4, 27, 4, 96, 54, 5, 21, 5, 28, 162, 0, 32, 21, 4, 27, 159, 0, 16, 42, 27, 28]
abbrev dktX6_farthest_0 : List UInt8 := dkwX6_farthest_0 ++ dktX6_farthest_1
theorem dksX6_farthest_0 : cX6_farthest.data.toList.drop 0 = dktX6_farthest_0 := by decide +kernel
theorem dksX6_farthest_1 : cX6_farthest.data.toList.drop 23 = dktX6_farthest_1 := dk_seg dksX6_farthest_0 23 rfl rfl
theorem dksX6_farthest_2 : cX6_farthest.data.toList.drop 46 = dktX6_farthest_2 := dk_seg dksX6_farthest_1 23 rfl rfl
theorem dksX6_farthest_3 : cX6_farthest.data.toList.drop 70 = dktX6_farthest_3 := dk_seg dksX6_farthest_2 24 rfl rfl
theorem dksX6_farthest_4 : cX6_farthest.data.toList.drop 94 = dktX6_farthest_4 := dk_seg dksX6_farthest_3 24 rfl rfl
theorem dX6_farthest_0 : decode cX6_farthest 0 = .ok (.iload_n 1, 1) := dk_27 (dk_at dksX6_farthest_0 0 rfl rfl)
theorem dX6_farthest_1 : decode cX6_farthest 1 = .ok (.istore 4, 2) := dk_54 4 (dk_at dksX6_farthest_0 1 rfl rfl)
theorem dX6_farthest_3 : decode cX6_farthest 3 = .ok (.iload_n 1, 1) := dk_27 (dk_at dksX6_farthest_0 3 rfl rfl)
theorem dX6_farthest_4 : decode cX6_farthest 4 = .ok (.iconst 1, 1) := dk_4 (dk_at dksX6_farthest_0 4 rfl rfl)
theorem dX6_farthest_5 : decode cX6_farthest 5 = .ok (.iadd, 1) := dk_96 (dk_at dksX6_farthest_0 5 rfl rfl)
theorem dX6_farthest_6 : decode cX6_farthest 6 = .ok (.istore 5, 2) := dk_54 5 (dk_at dksX6_farthest_0 6 rfl rfl)
theorem dX6_farthest_8 : decode cX6_farthest 8 = .ok (.iload 5, 2) := dk_21 5 (dk_at dksX6_farthest_0 8 rfl rfl)
theorem dX6_farthest_10 : decode cX6_farthest 10 = .ok (.iload_n 2, 1) := dk_28 (dk_at dksX6_farthest_0 10 rfl rfl)
theorem dX6_farthest_11 : decode cX6_farthest 11 = .ok (.if_icmp .ge 32, 3) := dk_162 0 32 (dk_at dksX6_farthest_0 11 rfl rfl)
theorem dX6_farthest_14 : decode cX6_farthest 14 = .ok (.iload 4, 2) := dk_21 4 (dk_at dksX6_farthest_0 14 rfl rfl)
theorem dX6_farthest_16 : decode cX6_farthest 16 = .ok (.iload_n 1, 1) := dk_27 (dk_at dksX6_farthest_0 16 rfl rfl)
theorem dX6_farthest_17 : decode cX6_farthest 17 = .ok (.if_icmp .eq 16, 3) := dk_159 0 16 (dk_at dksX6_farthest_0 17 rfl rfl)
theorem dX6_farthest_20 : decode cX6_farthest 20 = .ok (.aload_n 0, 1) := dk_42 (dk_at dksX6_farthest_0 20 rfl rfl)
theorem dX6_farthest_21 : decode cX6_farthest 21 = .ok (.iload_n 1, 1) := dk_27 (dk_at dksX6_farthest_0 21 rfl rfl)
theorem dX6_farthest_22 : decode cX6_farthest 22 = .ok (.iload_n 2, 1) := dk_28 (dk_at dksX6_farthest_0 22 rfl rfl)
theorem dX6_farthest_23 : decode cX6_farthest 23 = .ok (.iload 5, 2) := dk_21 5 (dk_at dksX6_farthest_1 0 rfl rfl)
theorem dX6_farthest_25 : decode cX6_farthest 25 = .ok (.iload 4, 2) := dk_21 4 (dk_at dksX6_farthest_1 2 rfl rfl)
theorem dX6_farthest_27 : decode cX6_farthest 27 = .ok (.invokevirtual 94, 3) := dk_182 0 94 (dk_at dksX6_farthest_1 4 rfl rfl)
theorem dX6_farthest_30 : decode cX6_farthest 30 = .ok (.ifCond .eq 7, 3) := dk_153 0 7 (dk_at dksX6_farthest_1 7 rfl rfl)
theorem dX6_farthest_33 : decode cX6_farthest 33 = .ok (.iload 5, 2) := dk_21 5 (dk_at dksX6_farthest_1 10 rfl rfl)
theorem dX6_farthest_35 : decode cX6_farthest 35 = .ok (.istore 4, 2) := dk_54 4 (dk_at dksX6_farthest_1 12 rfl rfl)
theorem dX6_farthest_37 : decode cX6_farthest 37 = .ok (.iinc 5 1, 3) := dk_132 5 1 (dk_at dksX6_farthest_1 14 rfl rfl)
theorem dX6_farthest_40 : decode cX6_farthest 40 = .ok (.goto (-32), 3) := dk_167 255 224 (dk_at dksX6_farthest_1 17 rfl rfl)
theorem dX6_farthest_43 : decode cX6_farthest 43 = .ok (.aload_n 0, 1) := dk_42 (dk_at dksX6_farthest_1 20 rfl rfl)
theorem dX6_farthest_44 : decode cX6_farthest 44 = .ok (.iload_n 1, 1) := dk_27 (dk_at dksX6_farthest_1 21 rfl rfl)
theorem dX6_farthest_45 : decode cX6_farthest 45 = .ok (.iload_n 2, 1) := dk_28 (dk_at dksX6_farthest_1 22 rfl rfl)
theorem dX6_farthest_46 : decode cX6_farthest 46 = .ok (.invokevirtual 83, 3) := dk_182 0 83 (dk_at dksX6_farthest_2 0 rfl rfl)
theorem dX6_farthest_49 : decode cX6_farthest 49 = .ok (.ifCond .eq 7, 3) := dk_153 0 7 (dk_at dksX6_farthest_2 3 rfl rfl)
theorem dX6_farthest_52 : decode cX6_farthest 52 = .ok (.iconst 1, 1) := dk_4 (dk_at dksX6_farthest_2 6 rfl rfl)
theorem dX6_farthest_53 : decode cX6_farthest 53 = .ok (.goto 9, 3) := dk_167 0 9 (dk_at dksX6_farthest_2 7 rfl rfl)
theorem dX6_farthest_56 : decode cX6_farthest 56 = .ok (.aload_n 0, 1) := dk_42 (dk_at dksX6_farthest_2 10 rfl rfl)
theorem dX6_farthest_57 : decode cX6_farthest 57 = .ok (.iload_n 1, 1) := dk_27 (dk_at dksX6_farthest_2 11 rfl rfl)
theorem dX6_farthest_58 : decode cX6_farthest 58 = .ok (.iload_n 2, 1) := dk_28 (dk_at dksX6_farthest_2 12 rfl rfl)
theorem dX6_farthest_59 : decode cX6_farthest 59 = .ok (.invokevirtual 87, 3) := dk_182 0 87 (dk_at dksX6_farthest_2 13 rfl rfl)
theorem dX6_farthest_62 : decode cX6_farthest 62 = .ok (.istore 5, 2) := dk_54 5 (dk_at dksX6_farthest_2 16 rfl rfl)
theorem dX6_farthest_64 : decode cX6_farthest 64 = .ok (.iload 4, 2) := dk_21 4 (dk_at dksX6_farthest_2 18 rfl rfl)
theorem dX6_farthest_66 : decode cX6_farthest 66 = .ok (.iload_n 1, 1) := dk_27 (dk_at dksX6_farthest_2 20 rfl rfl)
theorem dX6_farthest_67 : decode cX6_farthest 67 = .ok (.if_icmp .le 26, 3) := dk_164 0 26 (dk_at dksX6_farthest_2 21 rfl rfl)
theorem dX6_farthest_70 : decode cX6_farthest 70 = .ok (.aload_n 0, 1) := dk_42 (dk_at dksX6_farthest_3 0 rfl rfl)
theorem dX6_farthest_71 : decode cX6_farthest 71 = .ok (.iload_n 1, 1) := dk_27 (dk_at dksX6_farthest_3 1 rfl rfl)
theorem dX6_farthest_72 : decode cX6_farthest 72 = .ok (.iload_n 2, 1) := dk_28 (dk_at dksX6_farthest_3 2 rfl rfl)
theorem dX6_farthest_73 : decode cX6_farthest 73 = .ok (.iload 4, 2) := dk_21 4 (dk_at dksX6_farthest_3 3 rfl rfl)
theorem dX6_farthest_75 : decode cX6_farthest 75 = .ok (.invokevirtual 75, 3) := dk_182 0 75 (dk_at dksX6_farthest_3 5 rfl rfl)
theorem dX6_farthest_78 : decode cX6_farthest 78 = .ok (.iload_n 3, 1) := dk_29 (dk_at dksX6_farthest_3 8 rfl rfl)
theorem dX6_farthest_79 : decode cX6_farthest 79 = .ok (.invokestatic 79, 3) := dk_184 0 79 (dk_at dksX6_farthest_3 9 rfl rfl)
theorem dX6_farthest_82 : decode cX6_farthest 82 = .ok (.iload 5, 2) := dk_21 5 (dk_at dksX6_farthest_3 12 rfl rfl)
theorem dX6_farthest_84 : decode cX6_farthest 84 = .ok (.imul, 1) := dk_104 (dk_at dksX6_farthest_3 14 rfl rfl)
theorem dX6_farthest_85 : decode cX6_farthest 85 = .ok (.if_icmp .le 8, 3) := dk_164 0 8 (dk_at dksX6_farthest_3 15 rfl rfl)
theorem dX6_farthest_88 : decode cX6_farthest 88 = .ok (.iload 4, 2) := dk_21 4 (dk_at dksX6_farthest_3 18 rfl rfl)
theorem dX6_farthest_90 : decode cX6_farthest 90 = .ok (.goto 4, 3) := dk_167 0 4 (dk_at dksX6_farthest_3 20 rfl rfl)
theorem dX6_farthest_93 : decode cX6_farthest 93 = .ok (.iload_n 1, 1) := dk_27 (dk_at dksX6_farthest_3 23 rfl rfl)
theorem dX6_farthest_94 : decode cX6_farthest 94 = .ok (.ireturn, 1) := dk_172 (dk_at dksX6_farthest_4 0 rfl rfl)
abbrev cX6_isFarther : ByteArray := prog_6_method_5_code
def yX6_isFarther : MethodName := ⟨RX6, "isFarther", "(IIII)Z"⟩
def dkwX6_isFarther_0 : List UInt8 := [42, 27, 28, 29, 182, 0, 75, 42, 27, 28, 21, 4, 182, 0, 75, 164, 0, 7, 4, 167, 0, 4, 3, 172]
abbrev dktX6_isFarther_0 : List UInt8 := dkwX6_isFarther_0 ++ []
theorem dksX6_isFarther_0 : cX6_isFarther.data.toList.drop 0 = dktX6_isFarther_0 := by decide +kernel
theorem dX6_isFarther_0 : decode cX6_isFarther 0 = .ok (.aload_n 0, 1) := dk_42 (dk_at dksX6_isFarther_0 0 rfl rfl)
theorem dX6_isFarther_1 : decode cX6_isFarther 1 = .ok (.iload_n 1, 1) := dk_27 (dk_at dksX6_isFarther_0 1 rfl rfl)
theorem dX6_isFarther_2 : decode cX6_isFarther 2 = .ok (.iload_n 2, 1) := dk_28 (dk_at dksX6_isFarther_0 2 rfl rfl)
theorem dX6_isFarther_3 : decode cX6_isFarther 3 = .ok (.iload_n 3, 1) := dk_29 (dk_at dksX6_isFarther_0 3 rfl rfl)
theorem dX6_isFarther_4 : decode cX6_isFarther 4 = .ok (.invokevirtual 75, 3) := dk_182 0 75 (dk_at dksX6_isFarther_0 4 rfl rfl)
theorem dX6_isFarther_7 : decode cX6_isFarther 7 = .ok (.aload_n 0, 1) := dk_42 (dk_at dksX6_isFarther_0 7 rfl rfl)
theorem dX6_isFarther_8 : decode cX6_isFarther 8 = .ok (.iload_n 1, 1) := dk_27 (dk_at dksX6_isFarther_0 8 rfl rfl)
theorem dX6_isFarther_9 : decode cX6_isFarther 9 = .ok (.iload_n 2, 1) := dk_28 (dk_at dksX6_isFarther_0 9 rfl rfl)
theorem dX6_isFarther_10 : decode cX6_isFarther 10 = .ok (.iload 4, 2) := dk_21 4 (dk_at dksX6_isFarther_0 10 rfl rfl)
theorem dX6_isFarther_12 : decode cX6_isFarther 12 = .ok (.invokevirtual 75, 3) := dk_182 0 75 (dk_at dksX6_isFarther_0 12 rfl rfl)
theorem dX6_isFarther_15 : decode cX6_isFarther 15 = .ok (.if_icmp .le 7, 3) := dk_164 0 7 (dk_at dksX6_isFarther_0 15 rfl rfl)
theorem dX6_isFarther_18 : decode cX6_isFarther 18 = .ok (.iconst 1, 1) := dk_4 (dk_at dksX6_isFarther_0 18 rfl rfl)
theorem dX6_isFarther_19 : decode cX6_isFarther 19 = .ok (.goto 4, 3) := dk_167 0 4 (dk_at dksX6_isFarther_0 19 rfl rfl)
theorem dX6_isFarther_22 : decode cX6_isFarther 22 = .ok (.iconst 0, 1) := dk_3 (dk_at dksX6_isFarther_0 22 rfl rfl)
theorem dX6_isFarther_23 : decode cX6_isFarther 23 = .ok (.ireturn, 1) := dk_172 (dk_at dksX6_isFarther_0 23 rfl rfl)
abbrev cX6_measure : ByteArray := prog_6_method_9_code
def yX6_measure : MethodName := ⟨RX6, "measure", "(III)I"⟩
def dkwX6_measure_3 : List UInt8 := [184, 0, 79, 172]
abbrev dktX6_measure_3 : List UInt8 := dkwX6_measure_3 ++ []
def dkwX6_measure_2 : List UInt8 := [180, 0, 12, 28, 185, 0, 24, 2, 0, 192, 0, 28, 25, 4, 3, 46, 25, 4, 4, 46, 184, 0, 90]
abbrev dktX6_measure_2 : List UInt8 := dkwX6_measure_2 ++ dktX6_measure_3
def dkwX6_measure_1 : List UInt8 := [185, 0, 24, 2, 0, 192, 0, 28, 58, 4, 42, 180, 0, 12, 27, 185, 0, 24, 2, 0, 192, 0, 28, 42]
abbrev dktX6_measure_1 : List UInt8 := dkwX6_measure_1 ++ dktX6_measure_2
def dkwX6_measure_0 : List UInt8 := [42, 27, 28, 182, 0, 83, 153, 0, 10, 42, 27, 29, 182, 0, 87, 172, 42, 180, 0, 12, 29]
abbrev dktX6_measure_0 : List UInt8 := dkwX6_measure_0 ++ dktX6_measure_1
theorem dksX6_measure_0 : cX6_measure.data.toList.drop 0 = dktX6_measure_0 := by decide +kernel
theorem dksX6_measure_1 : cX6_measure.data.toList.drop 21 = dktX6_measure_1 := dk_seg dksX6_measure_0 21 rfl rfl
theorem dksX6_measure_2 : cX6_measure.data.toList.drop 45 = dktX6_measure_2 := dk_seg dksX6_measure_1 24 rfl rfl
theorem dksX6_measure_3 : cX6_measure.data.toList.drop 68 = dktX6_measure_3 := dk_seg dksX6_measure_2 23 rfl rfl
theorem dX6_measure_0 : decode cX6_measure 0 = .ok (.aload_n 0, 1) := dk_42 (dk_at dksX6_measure_0 0 rfl rfl)
theorem dX6_measure_1 : decode cX6_measure 1 = .ok (.iload_n 1, 1) := dk_27 (dk_at dksX6_measure_0 1 rfl rfl)
theorem dX6_measure_2 : decode cX6_measure 2 = .ok (.iload_n 2, 1) := dk_28 (dk_at dksX6_measure_0 2 rfl rfl)
theorem dX6_measure_3 : decode cX6_measure 3 = .ok (.invokevirtual 83, 3) := dk_182 0 83 (dk_at dksX6_measure_0 3 rfl rfl)
theorem dX6_measure_6 : decode cX6_measure 6 = .ok (.ifCond .eq 10, 3) := dk_153 0 10 (dk_at dksX6_measure_0 6 rfl rfl)
theorem dX6_measure_9 : decode cX6_measure 9 = .ok (.aload_n 0, 1) := dk_42 (dk_at dksX6_measure_0 9 rfl rfl)
theorem dX6_measure_10 : decode cX6_measure 10 = .ok (.iload_n 1, 1) := dk_27 (dk_at dksX6_measure_0 10 rfl rfl)
theorem dX6_measure_11 : decode cX6_measure 11 = .ok (.iload_n 3, 1) := dk_29 (dk_at dksX6_measure_0 11 rfl rfl)
theorem dX6_measure_12 : decode cX6_measure 12 = .ok (.invokevirtual 87, 3) := dk_182 0 87 (dk_at dksX6_measure_0 12 rfl rfl)
theorem dX6_measure_15 : decode cX6_measure 15 = .ok (.ireturn, 1) := dk_172 (dk_at dksX6_measure_0 15 rfl rfl)
theorem dX6_measure_16 : decode cX6_measure 16 = .ok (.aload_n 0, 1) := dk_42 (dk_at dksX6_measure_0 16 rfl rfl)
theorem dX6_measure_17 : decode cX6_measure 17 = .ok (.getfield 12, 3) := dk_180 0 12 (dk_at dksX6_measure_0 17 rfl rfl)
theorem dX6_measure_20 : decode cX6_measure 20 = .ok (.iload_n 3, 1) := dk_29 (dk_at dksX6_measure_0 20 rfl rfl)
theorem dX6_measure_21 : decode cX6_measure 21 = .ok (.invokeinterface 24 2, 5) := by decide +kernel
theorem dX6_measure_26 : decode cX6_measure 26 = .ok (.checkcast 28, 3) := dk_192 0 28 (dk_at dksX6_measure_1 5 rfl rfl)
theorem dX6_measure_29 : decode cX6_measure 29 = .ok (.astore 4, 2) := dk_58 4 (dk_at dksX6_measure_1 8 rfl rfl)
theorem dX6_measure_31 : decode cX6_measure 31 = .ok (.aload_n 0, 1) := dk_42 (dk_at dksX6_measure_1 10 rfl rfl)
theorem dX6_measure_32 : decode cX6_measure 32 = .ok (.getfield 12, 3) := dk_180 0 12 (dk_at dksX6_measure_1 11 rfl rfl)
theorem dX6_measure_35 : decode cX6_measure 35 = .ok (.iload_n 1, 1) := dk_27 (dk_at dksX6_measure_1 14 rfl rfl)
theorem dX6_measure_36 : decode cX6_measure 36 = .ok (.invokeinterface 24 2, 5) := by decide +kernel
theorem dX6_measure_41 : decode cX6_measure 41 = .ok (.checkcast 28, 3) := dk_192 0 28 (dk_at dksX6_measure_1 20 rfl rfl)
theorem dX6_measure_44 : decode cX6_measure 44 = .ok (.aload_n 0, 1) := dk_42 (dk_at dksX6_measure_1 23 rfl rfl)
theorem dX6_measure_45 : decode cX6_measure 45 = .ok (.getfield 12, 3) := dk_180 0 12 (dk_at dksX6_measure_2 0 rfl rfl)
theorem dX6_measure_48 : decode cX6_measure 48 = .ok (.iload_n 2, 1) := dk_28 (dk_at dksX6_measure_2 3 rfl rfl)
theorem dX6_measure_49 : decode cX6_measure 49 = .ok (.invokeinterface 24 2, 5) := by decide +kernel
theorem dX6_measure_54 : decode cX6_measure 54 = .ok (.checkcast 28, 3) := dk_192 0 28 (dk_at dksX6_measure_2 9 rfl rfl)
theorem dX6_measure_57 : decode cX6_measure 57 = .ok (.aload 4, 2) := dk_25 4 (dk_at dksX6_measure_2 12 rfl rfl)
theorem dX6_measure_59 : decode cX6_measure 59 = .ok (.iconst 0, 1) := dk_3 (dk_at dksX6_measure_2 14 rfl rfl)
theorem dX6_measure_60 : decode cX6_measure 60 = .ok (.iaload, 1) := dk_46 (dk_at dksX6_measure_2 15 rfl rfl)
theorem dX6_measure_61 : decode cX6_measure 61 = .ok (.aload 4, 2) := dk_25 4 (dk_at dksX6_measure_2 16 rfl rfl)
theorem dX6_measure_63 : decode cX6_measure 63 = .ok (.iconst 1, 1) := dk_4 (dk_at dksX6_measure_2 18 rfl rfl)
theorem dX6_measure_64 : decode cX6_measure 64 = .ok (.iaload, 1) := dk_46 (dk_at dksX6_measure_2 19 rfl rfl)
theorem dX6_measure_65 : decode cX6_measure 65 = .ok (.invokestatic 90, 3) := dk_184 0 90 (dk_at dksX6_measure_2 20 rfl rfl)
theorem dX6_measure_68 : decode cX6_measure 68 = .ok (.invokestatic 79, 3) := dk_184 0 79 (dk_at dksX6_measure_3 0 rfl rfl)
theorem dX6_measure_71 : decode cX6_measure 71 = .ok (.ireturn, 1) := dk_172 (dk_at dksX6_measure_3 3 rfl rfl)
abbrev cX6_isSamePlace : ByteArray := prog_6_method_6_code
def yX6_isSamePlace : MethodName := ⟨RX6, "isSamePlace", "(II)Z"⟩
def dkwX6_isSamePlace_3 : List UInt8 := [167, 0, 4, 3, 172]
abbrev dktX6_isSamePlace_3 : List UInt8 := dkwX6_isSamePlace_3 ++ []
def dkwX6_isSamePlace_2 : List UInt8 := [192, 0, 28, 4, 46, 42, 180, 0, 12, 28, 185, 0, 24, 2, 0, 192, 0, 28, 4, 46, 160, 0, 7, 4]
abbrev dktX6_isSamePlace_2 : List UInt8 := dkwX6_isSamePlace_2 ++ dktX6_isSamePlace_3
def dkwX6_isSamePlace_1 : List UInt8 := [185, 0, 24, 2, 0, 192, 0, 28, 3, 46, 160, 0, 40, 42, 180, 0, 12, 27, 185, 0, 24, 2, 0]
abbrev dktX6_isSamePlace_1 : List UInt8 := dkwX6_isSamePlace_1 ++ dktX6_isSamePlace_2
def dkwX6_isSamePlace_0 : List UInt8 := [42, 180, 0, 12, 27, 185, 0, 24, 2, 0, 192, 0, 28, 3, 46, 42, 180, 0, 12, 28]
abbrev dktX6_isSamePlace_0 : List UInt8 := dkwX6_isSamePlace_0 ++ dktX6_isSamePlace_1
theorem dksX6_isSamePlace_0 : cX6_isSamePlace.data.toList.drop 0 = dktX6_isSamePlace_0 := by decide +kernel
theorem dksX6_isSamePlace_1 : cX6_isSamePlace.data.toList.drop 20 = dktX6_isSamePlace_1 := dk_seg dksX6_isSamePlace_0 20 rfl rfl
theorem dksX6_isSamePlace_2 : cX6_isSamePlace.data.toList.drop 43 = dktX6_isSamePlace_2 := dk_seg dksX6_isSamePlace_1 23 rfl rfl
theorem dksX6_isSamePlace_3 : cX6_isSamePlace.data.toList.drop 67 = dktX6_isSamePlace_3 := dk_seg dksX6_isSamePlace_2 24 rfl rfl
theorem dX6_isSamePlace_0 : decode cX6_isSamePlace 0 = .ok (.aload_n 0, 1) := dk_42 (dk_at dksX6_isSamePlace_0 0 rfl rfl)
theorem dX6_isSamePlace_1 : decode cX6_isSamePlace 1 = .ok (.getfield 12, 3) := dk_180 0 12 (dk_at dksX6_isSamePlace_0 1 rfl rfl)
theorem dX6_isSamePlace_4 : decode cX6_isSamePlace 4 = .ok (.iload_n 1, 1) := dk_27 (dk_at dksX6_isSamePlace_0 4 rfl rfl)
theorem dX6_isSamePlace_5 : decode cX6_isSamePlace 5 = .ok (.invokeinterface 24 2, 5) := by decide +kernel
theorem dX6_isSamePlace_10 : decode cX6_isSamePlace 10 = .ok (.checkcast 28, 3) := dk_192 0 28 (dk_at dksX6_isSamePlace_0 10 rfl rfl)
theorem dX6_isSamePlace_13 : decode cX6_isSamePlace 13 = .ok (.iconst 0, 1) := dk_3 (dk_at dksX6_isSamePlace_0 13 rfl rfl)
theorem dX6_isSamePlace_14 : decode cX6_isSamePlace 14 = .ok (.iaload, 1) := dk_46 (dk_at dksX6_isSamePlace_0 14 rfl rfl)
theorem dX6_isSamePlace_15 : decode cX6_isSamePlace 15 = .ok (.aload_n 0, 1) := dk_42 (dk_at dksX6_isSamePlace_0 15 rfl rfl)
theorem dX6_isSamePlace_16 : decode cX6_isSamePlace 16 = .ok (.getfield 12, 3) := dk_180 0 12 (dk_at dksX6_isSamePlace_0 16 rfl rfl)
theorem dX6_isSamePlace_19 : decode cX6_isSamePlace 19 = .ok (.iload_n 2, 1) := dk_28 (dk_at dksX6_isSamePlace_0 19 rfl rfl)
theorem dX6_isSamePlace_20 : decode cX6_isSamePlace 20 = .ok (.invokeinterface 24 2, 5) := by decide +kernel
theorem dX6_isSamePlace_25 : decode cX6_isSamePlace 25 = .ok (.checkcast 28, 3) := dk_192 0 28 (dk_at dksX6_isSamePlace_1 5 rfl rfl)
theorem dX6_isSamePlace_28 : decode cX6_isSamePlace 28 = .ok (.iconst 0, 1) := dk_3 (dk_at dksX6_isSamePlace_1 8 rfl rfl)
theorem dX6_isSamePlace_29 : decode cX6_isSamePlace 29 = .ok (.iaload, 1) := dk_46 (dk_at dksX6_isSamePlace_1 9 rfl rfl)
theorem dX6_isSamePlace_30 : decode cX6_isSamePlace 30 = .ok (.if_icmp .ne 40, 3) := dk_160 0 40 (dk_at dksX6_isSamePlace_1 10 rfl rfl)
theorem dX6_isSamePlace_33 : decode cX6_isSamePlace 33 = .ok (.aload_n 0, 1) := dk_42 (dk_at dksX6_isSamePlace_1 13 rfl rfl)
theorem dX6_isSamePlace_34 : decode cX6_isSamePlace 34 = .ok (.getfield 12, 3) := dk_180 0 12 (dk_at dksX6_isSamePlace_1 14 rfl rfl)
theorem dX6_isSamePlace_37 : decode cX6_isSamePlace 37 = .ok (.iload_n 1, 1) := dk_27 (dk_at dksX6_isSamePlace_1 17 rfl rfl)
theorem dX6_isSamePlace_38 : decode cX6_isSamePlace 38 = .ok (.invokeinterface 24 2, 5) := by decide +kernel
theorem dX6_isSamePlace_43 : decode cX6_isSamePlace 43 = .ok (.checkcast 28, 3) := dk_192 0 28 (dk_at dksX6_isSamePlace_2 0 rfl rfl)
theorem dX6_isSamePlace_46 : decode cX6_isSamePlace 46 = .ok (.iconst 1, 1) := dk_4 (dk_at dksX6_isSamePlace_2 3 rfl rfl)
theorem dX6_isSamePlace_47 : decode cX6_isSamePlace 47 = .ok (.iaload, 1) := dk_46 (dk_at dksX6_isSamePlace_2 4 rfl rfl)
theorem dX6_isSamePlace_48 : decode cX6_isSamePlace 48 = .ok (.aload_n 0, 1) := dk_42 (dk_at dksX6_isSamePlace_2 5 rfl rfl)
theorem dX6_isSamePlace_49 : decode cX6_isSamePlace 49 = .ok (.getfield 12, 3) := dk_180 0 12 (dk_at dksX6_isSamePlace_2 6 rfl rfl)
theorem dX6_isSamePlace_52 : decode cX6_isSamePlace 52 = .ok (.iload_n 2, 1) := dk_28 (dk_at dksX6_isSamePlace_2 9 rfl rfl)
theorem dX6_isSamePlace_53 : decode cX6_isSamePlace 53 = .ok (.invokeinterface 24 2, 5) := by decide +kernel
theorem dX6_isSamePlace_58 : decode cX6_isSamePlace 58 = .ok (.checkcast 28, 3) := dk_192 0 28 (dk_at dksX6_isSamePlace_2 15 rfl rfl)
theorem dX6_isSamePlace_61 : decode cX6_isSamePlace 61 = .ok (.iconst 1, 1) := dk_4 (dk_at dksX6_isSamePlace_2 18 rfl rfl)
theorem dX6_isSamePlace_62 : decode cX6_isSamePlace 62 = .ok (.iaload, 1) := dk_46 (dk_at dksX6_isSamePlace_2 19 rfl rfl)
theorem dX6_isSamePlace_63 : decode cX6_isSamePlace 63 = .ok (.if_icmp .ne 7, 3) := dk_160 0 7 (dk_at dksX6_isSamePlace_2 20 rfl rfl)
theorem dX6_isSamePlace_66 : decode cX6_isSamePlace 66 = .ok (.iconst 1, 1) := dk_4 (dk_at dksX6_isSamePlace_2 23 rfl rfl)
theorem dX6_isSamePlace_67 : decode cX6_isSamePlace 67 = .ok (.goto 4, 3) := dk_167 0 4 (dk_at dksX6_isSamePlace_3 0 rfl rfl)
theorem dX6_isSamePlace_70 : decode cX6_isSamePlace 70 = .ok (.iconst 0, 1) := dk_3 (dk_at dksX6_isSamePlace_3 3 rfl rfl)
theorem dX6_isSamePlace_71 : decode cX6_isSamePlace 71 = .ok (.ireturn, 1) := dk_172 (dk_at dksX6_isSamePlace_3 4 rfl rfl)
abbrev cX6_squareOfLength : ByteArray := prog_6_method_8_code
def yX6_squareOfLength : MethodName := ⟨RX6, "squareOfLength", "(II)I"⟩
def dkwX6_squareOfLength_3 : List UInt8 := [96, 172]
abbrev dktX6_squareOfLength_3 : List UInt8 := dkwX6_squareOfLength_3 ++ []
def dkwX6_squareOfLength_2 : List UInt8 := [192, 0, 28, 4, 46, 42, 180, 0, 12, 27, 185, 0, 24, 2, 0, 192, 0, 28, 4, 46, 100, 184, 0, 79]
abbrev dktX6_squareOfLength_2 : List UInt8 := dkwX6_squareOfLength_2 ++ dktX6_squareOfLength_3
def dkwX6_squareOfLength_1 : List UInt8 := [185, 0, 24, 2, 0, 192, 0, 28, 3, 46, 100, 184, 0, 79, 42, 180, 0, 12, 28, 185, 0, 24, 2, 0]
abbrev dktX6_squareOfLength_1 : List UInt8 := dkwX6_squareOfLength_1 ++ dktX6_squareOfLength_2
def dkwX6_squareOfLength_0 : List UInt8 := [42, 180, 0, 12, 28, 185, 0, 24, 2, 0, 192, 0, 28, 3, 46, 42, 180, 0, 12, 27]
abbrev dktX6_squareOfLength_0 : List UInt8 := dkwX6_squareOfLength_0 ++ dktX6_squareOfLength_1
theorem dksX6_squareOfLength_0 : cX6_squareOfLength.data.toList.drop 0 = dktX6_squareOfLength_0 := by decide +kernel
theorem dksX6_squareOfLength_1 : cX6_squareOfLength.data.toList.drop 20 = dktX6_squareOfLength_1 := dk_seg dksX6_squareOfLength_0 20 rfl rfl
theorem dksX6_squareOfLength_2 : cX6_squareOfLength.data.toList.drop 44 = dktX6_squareOfLength_2 := dk_seg dksX6_squareOfLength_1 24 rfl rfl
theorem dksX6_squareOfLength_3 : cX6_squareOfLength.data.toList.drop 68 = dktX6_squareOfLength_3 := dk_seg dksX6_squareOfLength_2 24 rfl rfl
theorem dX6_squareOfLength_0 : decode cX6_squareOfLength 0 = .ok (.aload_n 0, 1) := dk_42 (dk_at dksX6_squareOfLength_0 0 rfl rfl)
theorem dX6_squareOfLength_1 : decode cX6_squareOfLength 1 = .ok (.getfield 12, 3) := dk_180 0 12 (dk_at dksX6_squareOfLength_0 1 rfl rfl)
theorem dX6_squareOfLength_4 : decode cX6_squareOfLength 4 = .ok (.iload_n 2, 1) := dk_28 (dk_at dksX6_squareOfLength_0 4 rfl rfl)
theorem dX6_squareOfLength_5 : decode cX6_squareOfLength 5 = .ok (.invokeinterface 24 2, 5) := by decide +kernel
theorem dX6_squareOfLength_10 : decode cX6_squareOfLength 10 = .ok (.checkcast 28, 3) := dk_192 0 28 (dk_at dksX6_squareOfLength_0 10 rfl rfl)
theorem dX6_squareOfLength_13 : decode cX6_squareOfLength 13 = .ok (.iconst 0, 1) := dk_3 (dk_at dksX6_squareOfLength_0 13 rfl rfl)
theorem dX6_squareOfLength_14 : decode cX6_squareOfLength 14 = .ok (.iaload, 1) := dk_46 (dk_at dksX6_squareOfLength_0 14 rfl rfl)
theorem dX6_squareOfLength_15 : decode cX6_squareOfLength 15 = .ok (.aload_n 0, 1) := dk_42 (dk_at dksX6_squareOfLength_0 15 rfl rfl)
theorem dX6_squareOfLength_16 : decode cX6_squareOfLength 16 = .ok (.getfield 12, 3) := dk_180 0 12 (dk_at dksX6_squareOfLength_0 16 rfl rfl)
theorem dX6_squareOfLength_19 : decode cX6_squareOfLength 19 = .ok (.iload_n 1, 1) := dk_27 (dk_at dksX6_squareOfLength_0 19 rfl rfl)
theorem dX6_squareOfLength_20 : decode cX6_squareOfLength 20 = .ok (.invokeinterface 24 2, 5) := by decide +kernel
theorem dX6_squareOfLength_25 : decode cX6_squareOfLength 25 = .ok (.checkcast 28, 3) := dk_192 0 28 (dk_at dksX6_squareOfLength_1 5 rfl rfl)
theorem dX6_squareOfLength_28 : decode cX6_squareOfLength 28 = .ok (.iconst 0, 1) := dk_3 (dk_at dksX6_squareOfLength_1 8 rfl rfl)
theorem dX6_squareOfLength_29 : decode cX6_squareOfLength 29 = .ok (.iaload, 1) := dk_46 (dk_at dksX6_squareOfLength_1 9 rfl rfl)
theorem dX6_squareOfLength_30 : decode cX6_squareOfLength 30 = .ok (.isub, 1) := dk_100 (dk_at dksX6_squareOfLength_1 10 rfl rfl)
theorem dX6_squareOfLength_31 : decode cX6_squareOfLength 31 = .ok (.invokestatic 79, 3) := dk_184 0 79 (dk_at dksX6_squareOfLength_1 11 rfl rfl)
theorem dX6_squareOfLength_34 : decode cX6_squareOfLength 34 = .ok (.aload_n 0, 1) := dk_42 (dk_at dksX6_squareOfLength_1 14 rfl rfl)
theorem dX6_squareOfLength_35 : decode cX6_squareOfLength 35 = .ok (.getfield 12, 3) := dk_180 0 12 (dk_at dksX6_squareOfLength_1 15 rfl rfl)
theorem dX6_squareOfLength_38 : decode cX6_squareOfLength 38 = .ok (.iload_n 2, 1) := dk_28 (dk_at dksX6_squareOfLength_1 18 rfl rfl)
theorem dX6_squareOfLength_39 : decode cX6_squareOfLength 39 = .ok (.invokeinterface 24 2, 5) := by decide +kernel
theorem dX6_squareOfLength_44 : decode cX6_squareOfLength 44 = .ok (.checkcast 28, 3) := dk_192 0 28 (dk_at dksX6_squareOfLength_2 0 rfl rfl)
theorem dX6_squareOfLength_47 : decode cX6_squareOfLength 47 = .ok (.iconst 1, 1) := dk_4 (dk_at dksX6_squareOfLength_2 3 rfl rfl)
theorem dX6_squareOfLength_48 : decode cX6_squareOfLength 48 = .ok (.iaload, 1) := dk_46 (dk_at dksX6_squareOfLength_2 4 rfl rfl)
theorem dX6_squareOfLength_49 : decode cX6_squareOfLength 49 = .ok (.aload_n 0, 1) := dk_42 (dk_at dksX6_squareOfLength_2 5 rfl rfl)
theorem dX6_squareOfLength_50 : decode cX6_squareOfLength 50 = .ok (.getfield 12, 3) := dk_180 0 12 (dk_at dksX6_squareOfLength_2 6 rfl rfl)
theorem dX6_squareOfLength_53 : decode cX6_squareOfLength 53 = .ok (.iload_n 1, 1) := dk_27 (dk_at dksX6_squareOfLength_2 9 rfl rfl)
theorem dX6_squareOfLength_54 : decode cX6_squareOfLength 54 = .ok (.invokeinterface 24 2, 5) := by decide +kernel
theorem dX6_squareOfLength_59 : decode cX6_squareOfLength 59 = .ok (.checkcast 28, 3) := dk_192 0 28 (dk_at dksX6_squareOfLength_2 15 rfl rfl)
theorem dX6_squareOfLength_62 : decode cX6_squareOfLength 62 = .ok (.iconst 1, 1) := dk_4 (dk_at dksX6_squareOfLength_2 18 rfl rfl)
theorem dX6_squareOfLength_63 : decode cX6_squareOfLength 63 = .ok (.iaload, 1) := dk_46 (dk_at dksX6_squareOfLength_2 19 rfl rfl)
theorem dX6_squareOfLength_64 : decode cX6_squareOfLength 64 = .ok (.isub, 1) := dk_100 (dk_at dksX6_squareOfLength_2 20 rfl rfl)
theorem dX6_squareOfLength_65 : decode cX6_squareOfLength 65 = .ok (.invokestatic 79, 3) := dk_184 0 79 (dk_at dksX6_squareOfLength_2 21 rfl rfl)
theorem dX6_squareOfLength_68 : decode cX6_squareOfLength 68 = .ok (.iadd, 1) := dk_96 (dk_at dksX6_squareOfLength_3 0 rfl rfl)
theorem dX6_squareOfLength_69 : decode cX6_squareOfLength 69 = .ok (.ireturn, 1) := dk_172 (dk_at dksX6_squareOfLength_3 1 rfl rfl)
abbrev cX6_square : ByteArray := prog_6_method_7_code
def yX6_square : MethodName := ⟨RX6, "square", "(I)I"⟩
def dkwX6_square_0 : List UInt8 := [26, 26, 104, 172]
abbrev dktX6_square_0 : List UInt8 := dkwX6_square_0 ++ []
theorem dksX6_square_0 : cX6_square.data.toList.drop 0 = dktX6_square_0 := by decide +kernel
theorem dX6_square_0 : decode cX6_square 0 = .ok (.iload_n 0, 1) := dk_26 (dk_at dksX6_square_0 0 rfl rfl)
theorem dX6_square_1 : decode cX6_square 1 = .ok (.iload_n 0, 1) := dk_26 (dk_at dksX6_square_0 1 rfl rfl)
theorem dX6_square_2 : decode cX6_square 2 = .ok (.imul, 1) := dk_104 (dk_at dksX6_square_0 2 rfl rfl)
theorem dX6_square_3 : decode cX6_square 3 = .ok (.ireturn, 1) := dk_172 (dk_at dksX6_square_0 3 rfl rfl)
abbrev cX6_box : ByteArray := prog_6_method_3_code
def yX6_box : MethodName := ⟨RX6, "box", "()LTileServer$Box;"⟩
def dkwX6_box_6 : List UInt8 := [183, 0, 58, 176]
abbrev dktX6_box_6 : List UInt8 := dkwX6_box_6 ++ []
def dkwX6_box_5 : List UInt8 := [167, 255, 214, 167, 255, 188, 187, 0, 56, 89, 43, 3, 46, 43, 4, 46, 44, 3, 46, 44, 4, 46]
abbrev dktX6_box_5 : List UInt8 := dkwX6_box_5 ++ dktX6_box_6
def dkwX6_box_4 : List UInt8 := [184, 0, 47, 79, 44, 21, 5, 44, 21, 5, 46, 25, 4, 21, 5, 46, 184, 0, 53, 79, 132, 5, 1]
abbrev dktX6_box_4 : List UInt8 := dkwX6_box_4 ++ dktX6_box_5
def dkwX6_box_3 : List UInt8 := [58, 4, 3, 54, 5, 21, 5, 43, 190, 162, 0, 41, 43, 21, 5, 43, 21, 5, 46, 25, 4, 21, 5, 46]
abbrev dktX6_box_3 : List UInt8 := dkwX6_box_3 ++ dktX6_box_4
def dkwX6_box_2 : List UInt8 := [185, 0, 34, 1, 0, 78, 45, 185, 0, 38, 1, 0, 153, 0, 65, 45, 185, 0, 44, 1, 0, 192, 0, 28]
abbrev dktX6_box_2 : List UInt8 := dkwX6_box_2 ++ dktX6_box_3
def dkwX6_box_1 : List UInt8 := [3, 185, 0, 24, 2, 0, 192, 0, 28, 182, 0, 30, 192, 0, 28, 77, 42, 180, 0, 12]
abbrev dktX6_box_1 : List UInt8 := dkwX6_box_1 ++ dktX6_box_2
def dkwX6_box_0 : List UInt8 := [42, 180, 0, 12, 3, 185, 0, 24, 2, 0, 192, 0, 28, 182, 0, 30, 192, 0, 28, 76, 42, 180, 0, 12]
abbrev dktX6_box_0 : List UInt8 := dkwX6_box_0 ++ dktX6_box_1
theorem dksX6_box_0 : cX6_box.data.toList.drop 0 = dktX6_box_0 := by decide +kernel
theorem dksX6_box_1 : cX6_box.data.toList.drop 24 = dktX6_box_1 := dk_seg dksX6_box_0 24 rfl rfl
theorem dksX6_box_2 : cX6_box.data.toList.drop 44 = dktX6_box_2 := dk_seg dksX6_box_1 20 rfl rfl
theorem dksX6_box_3 : cX6_box.data.toList.drop 68 = dktX6_box_3 := dk_seg dksX6_box_2 24 rfl rfl
theorem dksX6_box_4 : cX6_box.data.toList.drop 92 = dktX6_box_4 := dk_seg dksX6_box_3 24 rfl rfl
theorem dksX6_box_5 : cX6_box.data.toList.drop 115 = dktX6_box_5 := dk_seg dksX6_box_4 23 rfl rfl
theorem dksX6_box_6 : cX6_box.data.toList.drop 137 = dktX6_box_6 := dk_seg dksX6_box_5 22 rfl rfl
theorem dX6_box_0 : decode cX6_box 0 = .ok (.aload_n 0, 1) := dk_42 (dk_at dksX6_box_0 0 rfl rfl)
theorem dX6_box_1 : decode cX6_box 1 = .ok (.getfield 12, 3) := dk_180 0 12 (dk_at dksX6_box_0 1 rfl rfl)
theorem dX6_box_4 : decode cX6_box 4 = .ok (.iconst 0, 1) := dk_3 (dk_at dksX6_box_0 4 rfl rfl)
theorem dX6_box_5 : decode cX6_box 5 = .ok (.invokeinterface 24 2, 5) := by decide +kernel
theorem dX6_box_10 : decode cX6_box 10 = .ok (.checkcast 28, 3) := dk_192 0 28 (dk_at dksX6_box_0 10 rfl rfl)
theorem dX6_box_13 : decode cX6_box 13 = .ok (.invokevirtual 30, 3) := dk_182 0 30 (dk_at dksX6_box_0 13 rfl rfl)
theorem dX6_box_16 : decode cX6_box 16 = .ok (.checkcast 28, 3) := dk_192 0 28 (dk_at dksX6_box_0 16 rfl rfl)
theorem dX6_box_19 : decode cX6_box 19 = .ok (.astore_n 1, 1) := dk_76 (dk_at dksX6_box_0 19 rfl rfl)
theorem dX6_box_20 : decode cX6_box 20 = .ok (.aload_n 0, 1) := dk_42 (dk_at dksX6_box_0 20 rfl rfl)
theorem dX6_box_21 : decode cX6_box 21 = .ok (.getfield 12, 3) := dk_180 0 12 (dk_at dksX6_box_0 21 rfl rfl)
theorem dX6_box_24 : decode cX6_box 24 = .ok (.iconst 0, 1) := dk_3 (dk_at dksX6_box_1 0 rfl rfl)
theorem dX6_box_25 : decode cX6_box 25 = .ok (.invokeinterface 24 2, 5) := by decide +kernel
theorem dX6_box_30 : decode cX6_box 30 = .ok (.checkcast 28, 3) := dk_192 0 28 (dk_at dksX6_box_1 6 rfl rfl)
theorem dX6_box_33 : decode cX6_box 33 = .ok (.invokevirtual 30, 3) := dk_182 0 30 (dk_at dksX6_box_1 9 rfl rfl)
theorem dX6_box_36 : decode cX6_box 36 = .ok (.checkcast 28, 3) := dk_192 0 28 (dk_at dksX6_box_1 12 rfl rfl)
theorem dX6_box_39 : decode cX6_box 39 = .ok (.astore_n 2, 1) := dk_77 (dk_at dksX6_box_1 15 rfl rfl)
theorem dX6_box_40 : decode cX6_box 40 = .ok (.aload_n 0, 1) := dk_42 (dk_at dksX6_box_1 16 rfl rfl)
theorem dX6_box_41 : decode cX6_box 41 = .ok (.getfield 12, 3) := dk_180 0 12 (dk_at dksX6_box_1 17 rfl rfl)
theorem dX6_box_44 : decode cX6_box 44 = .ok (.invokeinterface 34 1, 5) := by decide +kernel
theorem dX6_box_49 : decode cX6_box 49 = .ok (.astore_n 3, 1) := dk_78 (dk_at dksX6_box_2 5 rfl rfl)
theorem dX6_box_50 : decode cX6_box 50 = .ok (.aload_n 3, 1) := dk_45 (dk_at dksX6_box_2 6 rfl rfl)
theorem dX6_box_51 : decode cX6_box 51 = .ok (.invokeinterface 38 1, 5) := by decide +kernel
theorem dX6_box_56 : decode cX6_box 56 = .ok (.ifCond .eq 65, 3) := dk_153 0 65 (dk_at dksX6_box_2 12 rfl rfl)
theorem dX6_box_59 : decode cX6_box 59 = .ok (.aload_n 3, 1) := dk_45 (dk_at dksX6_box_2 15 rfl rfl)
theorem dX6_box_60 : decode cX6_box 60 = .ok (.invokeinterface 44 1, 5) := by decide +kernel
theorem dX6_box_65 : decode cX6_box 65 = .ok (.checkcast 28, 3) := dk_192 0 28 (dk_at dksX6_box_2 21 rfl rfl)
theorem dX6_box_68 : decode cX6_box 68 = .ok (.astore 4, 2) := dk_58 4 (dk_at dksX6_box_3 0 rfl rfl)
theorem dX6_box_70 : decode cX6_box 70 = .ok (.iconst 0, 1) := dk_3 (dk_at dksX6_box_3 2 rfl rfl)
theorem dX6_box_71 : decode cX6_box 71 = .ok (.istore 5, 2) := dk_54 5 (dk_at dksX6_box_3 3 rfl rfl)
theorem dX6_box_73 : decode cX6_box 73 = .ok (.iload 5, 2) := dk_21 5 (dk_at dksX6_box_3 5 rfl rfl)
theorem dX6_box_75 : decode cX6_box 75 = .ok (.aload_n 1, 1) := dk_43 (dk_at dksX6_box_3 7 rfl rfl)
theorem dX6_box_76 : decode cX6_box 76 = .ok (.arraylength, 1) := dk_190 (dk_at dksX6_box_3 8 rfl rfl)
theorem dX6_box_77 : decode cX6_box 77 = .ok (.if_icmp .ge 41, 3) := dk_162 0 41 (dk_at dksX6_box_3 9 rfl rfl)
theorem dX6_box_80 : decode cX6_box 80 = .ok (.aload_n 1, 1) := dk_43 (dk_at dksX6_box_3 12 rfl rfl)
theorem dX6_box_81 : decode cX6_box 81 = .ok (.iload 5, 2) := dk_21 5 (dk_at dksX6_box_3 13 rfl rfl)
theorem dX6_box_83 : decode cX6_box 83 = .ok (.aload_n 1, 1) := dk_43 (dk_at dksX6_box_3 15 rfl rfl)
theorem dX6_box_84 : decode cX6_box 84 = .ok (.iload 5, 2) := dk_21 5 (dk_at dksX6_box_3 16 rfl rfl)
theorem dX6_box_86 : decode cX6_box 86 = .ok (.iaload, 1) := dk_46 (dk_at dksX6_box_3 18 rfl rfl)
theorem dX6_box_87 : decode cX6_box 87 = .ok (.aload 4, 2) := dk_25 4 (dk_at dksX6_box_3 19 rfl rfl)
theorem dX6_box_89 : decode cX6_box 89 = .ok (.iload 5, 2) := dk_21 5 (dk_at dksX6_box_3 21 rfl rfl)
theorem dX6_box_91 : decode cX6_box 91 = .ok (.iaload, 1) := dk_46 (dk_at dksX6_box_3 23 rfl rfl)
theorem dX6_box_92 : decode cX6_box 92 = .ok (.invokestatic 47, 3) := dk_184 0 47 (dk_at dksX6_box_4 0 rfl rfl)
theorem dX6_box_95 : decode cX6_box 95 = .ok (.iastore, 1) := dk_79 (dk_at dksX6_box_4 3 rfl rfl)
theorem dX6_box_96 : decode cX6_box 96 = .ok (.aload_n 2, 1) := dk_44 (dk_at dksX6_box_4 4 rfl rfl)
theorem dX6_box_97 : decode cX6_box 97 = .ok (.iload 5, 2) := dk_21 5 (dk_at dksX6_box_4 5 rfl rfl)
theorem dX6_box_99 : decode cX6_box 99 = .ok (.aload_n 2, 1) := dk_44 (dk_at dksX6_box_4 7 rfl rfl)
theorem dX6_box_100 : decode cX6_box 100 = .ok (.iload 5, 2) := dk_21 5 (dk_at dksX6_box_4 8 rfl rfl)
theorem dX6_box_102 : decode cX6_box 102 = .ok (.iaload, 1) := dk_46 (dk_at dksX6_box_4 10 rfl rfl)
theorem dX6_box_103 : decode cX6_box 103 = .ok (.aload 4, 2) := dk_25 4 (dk_at dksX6_box_4 11 rfl rfl)
theorem dX6_box_105 : decode cX6_box 105 = .ok (.iload 5, 2) := dk_21 5 (dk_at dksX6_box_4 13 rfl rfl)
theorem dX6_box_107 : decode cX6_box 107 = .ok (.iaload, 1) := dk_46 (dk_at dksX6_box_4 15 rfl rfl)
theorem dX6_box_108 : decode cX6_box 108 = .ok (.invokestatic 53, 3) := dk_184 0 53 (dk_at dksX6_box_4 16 rfl rfl)
theorem dX6_box_111 : decode cX6_box 111 = .ok (.iastore, 1) := dk_79 (dk_at dksX6_box_4 19 rfl rfl)
theorem dX6_box_112 : decode cX6_box 112 = .ok (.iinc 5 1, 3) := dk_132 5 1 (dk_at dksX6_box_4 20 rfl rfl)
theorem dX6_box_115 : decode cX6_box 115 = .ok (.goto (-42), 3) := dk_167 255 214 (dk_at dksX6_box_5 0 rfl rfl)
theorem dX6_box_118 : decode cX6_box 118 = .ok (.goto (-68), 3) := dk_167 255 188 (dk_at dksX6_box_5 3 rfl rfl)
theorem dX6_box_121 : decode cX6_box 121 = .ok (.new 56, 3) := dk_187 0 56 (dk_at dksX6_box_5 6 rfl rfl)
theorem dX6_box_124 : decode cX6_box 124 = .ok (.dup, 1) := dk_89 (dk_at dksX6_box_5 9 rfl rfl)
theorem dX6_box_125 : decode cX6_box 125 = .ok (.aload_n 1, 1) := dk_43 (dk_at dksX6_box_5 10 rfl rfl)
theorem dX6_box_126 : decode cX6_box 126 = .ok (.iconst 0, 1) := dk_3 (dk_at dksX6_box_5 11 rfl rfl)
theorem dX6_box_127 : decode cX6_box 127 = .ok (.iaload, 1) := dk_46 (dk_at dksX6_box_5 12 rfl rfl)
theorem dX6_box_128 : decode cX6_box 128 = .ok (.aload_n 1, 1) := dk_43 (dk_at dksX6_box_5 13 rfl rfl)
theorem dX6_box_129 : decode cX6_box 129 = .ok (.iconst 1, 1) := dk_4 (dk_at dksX6_box_5 14 rfl rfl)
theorem dX6_box_130 : decode cX6_box 130 = .ok (.iaload, 1) := dk_46 (dk_at dksX6_box_5 15 rfl rfl)
theorem dX6_box_131 : decode cX6_box 131 = .ok (.aload_n 2, 1) := dk_44 (dk_at dksX6_box_5 16 rfl rfl)
theorem dX6_box_132 : decode cX6_box 132 = .ok (.iconst 0, 1) := dk_3 (dk_at dksX6_box_5 17 rfl rfl)
theorem dX6_box_133 : decode cX6_box 133 = .ok (.iaload, 1) := dk_46 (dk_at dksX6_box_5 18 rfl rfl)
theorem dX6_box_134 : decode cX6_box 134 = .ok (.aload_n 2, 1) := dk_44 (dk_at dksX6_box_5 19 rfl rfl)
theorem dX6_box_135 : decode cX6_box 135 = .ok (.iconst 1, 1) := dk_4 (dk_at dksX6_box_5 20 rfl rfl)
theorem dX6_box_136 : decode cX6_box 136 = .ok (.iaload, 1) := dk_46 (dk_at dksX6_box_5 21 rfl rfl)
theorem dX6_box_137 : decode cX6_box 137 = .ok (.invokespecial 58, 3) := dk_183 0 58 (dk_at dksX6_box_6 0 rfl rfl)
theorem dX6_box_140 : decode cX6_box 140 = .ok (.areturn, 1) := dk_176 (dk_at dksX6_box_6 3 rfl rfl)
abbrev cX6_init : ByteArray := prog_6_method_1_code
def yX6_init : MethodName := ⟨RX6, "<init>", "(I[I[I)V"⟩
def dkwX6_init_1 : List UInt8 := [185, 0, 18, 2, 0, 87, 42, 180, 0, 12, 45, 185, 0, 18, 2, 0, 87, 177]
abbrev dktX6_init_1 : List UInt8 := dkwX6_init_1 ++ []
def dkwX6_init_0 : List UInt8 := [42, 27, 183, 0, 1, 42, 187, 0, 7, 89, 183, 0, 9, 181, 0, 12, 42, 180, 0, 12, 44]
abbrev dktX6_init_0 : List UInt8 := dkwX6_init_0 ++ dktX6_init_1
theorem dksX6_init_0 : cX6_init.data.toList.drop 0 = dktX6_init_0 := by decide +kernel
theorem dksX6_init_1 : cX6_init.data.toList.drop 21 = dktX6_init_1 := dk_seg dksX6_init_0 21 rfl rfl
theorem dX6_init_0 : decode cX6_init 0 = .ok (.aload_n 0, 1) := dk_42 (dk_at dksX6_init_0 0 rfl rfl)
theorem dX6_init_1 : decode cX6_init 1 = .ok (.iload_n 1, 1) := dk_27 (dk_at dksX6_init_0 1 rfl rfl)
theorem dX6_init_2 : decode cX6_init 2 = .ok (.invokespecial 1, 3) := dk_183 0 1 (dk_at dksX6_init_0 2 rfl rfl)
theorem dX6_init_5 : decode cX6_init 5 = .ok (.aload_n 0, 1) := dk_42 (dk_at dksX6_init_0 5 rfl rfl)
theorem dX6_init_6 : decode cX6_init 6 = .ok (.new 7, 3) := dk_187 0 7 (dk_at dksX6_init_0 6 rfl rfl)
theorem dX6_init_9 : decode cX6_init 9 = .ok (.dup, 1) := dk_89 (dk_at dksX6_init_0 9 rfl rfl)
theorem dX6_init_10 : decode cX6_init 10 = .ok (.invokespecial 9, 3) := dk_183 0 9 (dk_at dksX6_init_0 10 rfl rfl)
theorem dX6_init_13 : decode cX6_init 13 = .ok (.putfield 12, 3) := dk_181 0 12 (dk_at dksX6_init_0 13 rfl rfl)
theorem dX6_init_16 : decode cX6_init 16 = .ok (.aload_n 0, 1) := dk_42 (dk_at dksX6_init_0 16 rfl rfl)
theorem dX6_init_17 : decode cX6_init 17 = .ok (.getfield 12, 3) := dk_180 0 12 (dk_at dksX6_init_0 17 rfl rfl)
theorem dX6_init_20 : decode cX6_init 20 = .ok (.aload_n 2, 1) := dk_44 (dk_at dksX6_init_0 20 rfl rfl)
theorem dX6_init_21 : decode cX6_init 21 = .ok (.invokeinterface 18 2, 5) := by decide +kernel
theorem dX6_init_26 : decode cX6_init 26 = .ok (.pop, 1) := dk_87 (dk_at dksX6_init_1 5 rfl rfl)
theorem dX6_init_27 : decode cX6_init 27 = .ok (.aload_n 0, 1) := dk_42 (dk_at dksX6_init_1 6 rfl rfl)
theorem dX6_init_28 : decode cX6_init 28 = .ok (.getfield 12, 3) := dk_180 0 12 (dk_at dksX6_init_1 7 rfl rfl)
theorem dX6_init_31 : decode cX6_init 31 = .ok (.aload_n 3, 1) := dk_45 (dk_at dksX6_init_1 10 rfl rfl)
theorem dX6_init_32 : decode cX6_init 32 = .ok (.invokeinterface 18 2, 5) := by decide +kernel
theorem dX6_init_37 : decode cX6_init 37 = .ok (.pop, 1) := dk_87 (dk_at dksX6_init_1 16 rfl rfl)
theorem dX6_init_38 : decode cX6_init 38 = .ok (.return_, 1) := dk_177 (dk_at dksX6_init_1 17 rfl rfl)
abbrev cX6_checkedPoint : ByteArray := prog_6_method_4_code
def yX6_checkedPoint : MethodName := ⟨RX6, "checkedPoint", "(I)[I"⟩
def dkwX6_checkedPoint_1 : List UInt8 := [185, 0, 24, 2, 0, 192, 0, 28, 176]
abbrev dktX6_checkedPoint_1 : List UInt8 := dkwX6_checkedPoint_1 ++ []
def dkwX6_checkedPoint_0 : List UInt8 := [27, 3, 42, 180, 0, 12, 185, 0, 61, 1, 0, 4, 100, 184, 0, 65, 184, 0, 71, 42, 180, 0, 12, 27]
abbrev dktX6_checkedPoint_0 : List UInt8 := dkwX6_checkedPoint_0 ++ dktX6_checkedPoint_1
theorem dksX6_checkedPoint_0 : cX6_checkedPoint.data.toList.drop 0 = dktX6_checkedPoint_0 := by decide +kernel
theorem dksX6_checkedPoint_1 : cX6_checkedPoint.data.toList.drop 24 = dktX6_checkedPoint_1 := dk_seg dksX6_checkedPoint_0 24 rfl rfl
theorem dX6_checkedPoint_0 : decode cX6_checkedPoint 0 = .ok (.iload_n 1, 1) := dk_27 (dk_at dksX6_checkedPoint_0 0 rfl rfl)
theorem dX6_checkedPoint_1 : decode cX6_checkedPoint 1 = .ok (.iconst 0, 1) := dk_3 (dk_at dksX6_checkedPoint_0 1 rfl rfl)
theorem dX6_checkedPoint_2 : decode cX6_checkedPoint 2 = .ok (.aload_n 0, 1) := dk_42 (dk_at dksX6_checkedPoint_0 2 rfl rfl)
theorem dX6_checkedPoint_3 : decode cX6_checkedPoint 3 = .ok (.getfield 12, 3) := dk_180 0 12 (dk_at dksX6_checkedPoint_0 3 rfl rfl)
theorem dX6_checkedPoint_6 : decode cX6_checkedPoint 6 = .ok (.invokeinterface 61 1, 5) := by decide +kernel
theorem dX6_checkedPoint_11 : decode cX6_checkedPoint 11 = .ok (.iconst 1, 1) := dk_4 (dk_at dksX6_checkedPoint_0 11 rfl rfl)
theorem dX6_checkedPoint_12 : decode cX6_checkedPoint 12 = .ok (.isub, 1) := dk_100 (dk_at dksX6_checkedPoint_0 12 rfl rfl)
theorem dX6_checkedPoint_13 : decode cX6_checkedPoint 13 = .ok (.invokestatic 65, 3) := dk_184 0 65 (dk_at dksX6_checkedPoint_0 13 rfl rfl)
theorem dX6_checkedPoint_16 : decode cX6_checkedPoint 16 = .ok (.invokestatic 71, 3) := dk_184 0 71 (dk_at dksX6_checkedPoint_0 16 rfl rfl)
theorem dX6_checkedPoint_19 : decode cX6_checkedPoint 19 = .ok (.aload_n 0, 1) := dk_42 (dk_at dksX6_checkedPoint_0 19 rfl rfl)
theorem dX6_checkedPoint_20 : decode cX6_checkedPoint 20 = .ok (.getfield 12, 3) := dk_180 0 12 (dk_at dksX6_checkedPoint_0 20 rfl rfl)
theorem dX6_checkedPoint_23 : decode cX6_checkedPoint 23 = .ok (.iload_n 1, 1) := dk_27 (dk_at dksX6_checkedPoint_0 23 rfl rfl)
theorem dX6_checkedPoint_24 : decode cX6_checkedPoint 24 = .ok (.invokeinterface 24 2, 5) := by decide +kernel
theorem dX6_checkedPoint_29 : decode cX6_checkedPoint 29 = .ok (.checkcast 28, 3) := dk_192 0 28 (dk_at dksX6_checkedPoint_1 5 rfl rfl)
theorem dX6_checkedPoint_32 : decode cX6_checkedPoint 32 = .ok (.areturn, 1) := dk_176 (dk_at dksX6_checkedPoint_1 8 rfl rfl)
abbrev cX6_kind : ByteArray := prog_6_method_2_code
def yX6_kind : MethodName := ⟨RX6, "kind", "()C"⟩
theorem dX6_kind_0 : decode cX6_kind 0 = .ok (.bipush 108, 2) := by decide +kernel
theorem dX6_kind_2 : decode cX6_kind 2 = .ok (.ireturn, 1) := by decide +kernel
abbrev cX6_keptByMarks : ByteArray := prog_6_method_14_code
def yX6_keptByMarks : MethodName := ⟨RX6, "keptByMarks", "(I)[Z"⟩
def dkwX6_keptByMarks_3 : List UInt8 := [21, 7, 4, 84, 21, 6, 54, 5, 132, 6, 1, 167, 255, 202, 167, 255, 178, 44, 176]
abbrev dktX6_keptByMarks_3 : List UInt8 := dkwX6_keptByMarks_3 ++ []
def dkwX6_keptByMarks_2 : List UInt8 := [21, 6, 27, 182, 0, 98, 54, 7, 29, 21, 7, 21, 5, 164, 0, 7, 4, 167, 0, 4, 3, 128, 62, 44]
abbrev dktX6_keptByMarks_2 : List UInt8 := dkwX6_keptByMarks_2 ++ dktX6_keptByMarks_3
def dkwX6_keptByMarks_1 : List UInt8 := [54, 5, 4, 54, 6, 21, 6, 25, 4, 190, 162, 0, 52, 25, 4, 21, 6, 51, 153, 0, 38, 42, 21, 5]
abbrev dktX6_keptByMarks_1 : List UInt8 := dkwX6_keptByMarks_1 ++ dktX6_keptByMarks_2
def dkwX6_keptByMarks_0 : List UInt8 := [42, 182, 0, 105, 77, 4, 62, 29, 153, 0, 80, 44, 182, 0, 109, 192, 0, 110, 58, 4, 3, 62, 3]
abbrev dktX6_keptByMarks_0 : List UInt8 := dkwX6_keptByMarks_0 ++ dktX6_keptByMarks_1
theorem dksX6_keptByMarks_0 : cX6_keptByMarks.data.toList.drop 0 = dktX6_keptByMarks_0 := by decide +kernel
theorem dksX6_keptByMarks_1 : cX6_keptByMarks.data.toList.drop 23 = dktX6_keptByMarks_1 := dk_seg dksX6_keptByMarks_0 23 rfl rfl
theorem dksX6_keptByMarks_2 : cX6_keptByMarks.data.toList.drop 47 = dktX6_keptByMarks_2 := dk_seg dksX6_keptByMarks_1 24 rfl rfl
theorem dksX6_keptByMarks_3 : cX6_keptByMarks.data.toList.drop 71 = dktX6_keptByMarks_3 := dk_seg dksX6_keptByMarks_2 24 rfl rfl
theorem dX6_keptByMarks_0 : decode cX6_keptByMarks 0 = .ok (.aload_n 0, 1) := dk_42 (dk_at dksX6_keptByMarks_0 0 rfl rfl)
theorem dX6_keptByMarks_1 : decode cX6_keptByMarks 1 = .ok (.invokevirtual 105, 3) := dk_182 0 105 (dk_at dksX6_keptByMarks_0 1 rfl rfl)
theorem dX6_keptByMarks_4 : decode cX6_keptByMarks 4 = .ok (.astore_n 2, 1) := dk_77 (dk_at dksX6_keptByMarks_0 4 rfl rfl)
theorem dX6_keptByMarks_5 : decode cX6_keptByMarks 5 = .ok (.iconst 1, 1) := dk_4 (dk_at dksX6_keptByMarks_0 5 rfl rfl)
theorem dX6_keptByMarks_6 : decode cX6_keptByMarks 6 = .ok (.istore_n 3, 1) := dk_62 (dk_at dksX6_keptByMarks_0 6 rfl rfl)
theorem dX6_keptByMarks_7 : decode cX6_keptByMarks 7 = .ok (.iload_n 3, 1) := dk_29 (dk_at dksX6_keptByMarks_0 7 rfl rfl)
theorem dX6_keptByMarks_8 : decode cX6_keptByMarks 8 = .ok (.ifCond .eq 80, 3) := dk_153 0 80 (dk_at dksX6_keptByMarks_0 8 rfl rfl)
theorem dX6_keptByMarks_11 : decode cX6_keptByMarks 11 = .ok (.aload_n 2, 1) := dk_44 (dk_at dksX6_keptByMarks_0 11 rfl rfl)
theorem dX6_keptByMarks_12 : decode cX6_keptByMarks 12 = .ok (.invokevirtual 109, 3) := dk_182 0 109 (dk_at dksX6_keptByMarks_0 12 rfl rfl)
theorem dX6_keptByMarks_15 : decode cX6_keptByMarks 15 = .ok (.checkcast 110, 3) := dk_192 0 110 (dk_at dksX6_keptByMarks_0 15 rfl rfl)
theorem dX6_keptByMarks_18 : decode cX6_keptByMarks 18 = .ok (.astore 4, 2) := dk_58 4 (dk_at dksX6_keptByMarks_0 18 rfl rfl)
theorem dX6_keptByMarks_20 : decode cX6_keptByMarks 20 = .ok (.iconst 0, 1) := dk_3 (dk_at dksX6_keptByMarks_0 20 rfl rfl)
theorem dX6_keptByMarks_21 : decode cX6_keptByMarks 21 = .ok (.istore_n 3, 1) := dk_62 (dk_at dksX6_keptByMarks_0 21 rfl rfl)
theorem dX6_keptByMarks_22 : decode cX6_keptByMarks 22 = .ok (.iconst 0, 1) := dk_3 (dk_at dksX6_keptByMarks_0 22 rfl rfl)
theorem dX6_keptByMarks_23 : decode cX6_keptByMarks 23 = .ok (.istore 5, 2) := dk_54 5 (dk_at dksX6_keptByMarks_1 0 rfl rfl)
theorem dX6_keptByMarks_25 : decode cX6_keptByMarks 25 = .ok (.iconst 1, 1) := dk_4 (dk_at dksX6_keptByMarks_1 2 rfl rfl)
theorem dX6_keptByMarks_26 : decode cX6_keptByMarks 26 = .ok (.istore 6, 2) := dk_54 6 (dk_at dksX6_keptByMarks_1 3 rfl rfl)
theorem dX6_keptByMarks_28 : decode cX6_keptByMarks 28 = .ok (.iload 6, 2) := dk_21 6 (dk_at dksX6_keptByMarks_1 5 rfl rfl)
theorem dX6_keptByMarks_30 : decode cX6_keptByMarks 30 = .ok (.aload 4, 2) := dk_25 4 (dk_at dksX6_keptByMarks_1 7 rfl rfl)
theorem dX6_keptByMarks_32 : decode cX6_keptByMarks 32 = .ok (.arraylength, 1) := dk_190 (dk_at dksX6_keptByMarks_1 9 rfl rfl)
theorem dX6_keptByMarks_33 : decode cX6_keptByMarks 33 = .ok (.if_icmp .ge 52, 3) := dk_162 0 52 (dk_at dksX6_keptByMarks_1 10 rfl rfl)
theorem dX6_keptByMarks_36 : decode cX6_keptByMarks 36 = .ok (.aload 4, 2) := dk_25 4 (dk_at dksX6_keptByMarks_1 13 rfl rfl)
theorem dX6_keptByMarks_38 : decode cX6_keptByMarks 38 = .ok (.iload 6, 2) := dk_21 6 (dk_at dksX6_keptByMarks_1 15 rfl rfl)
theorem dX6_keptByMarks_40 : decode cX6_keptByMarks 40 = .ok (.baload, 1) := dk_51 (dk_at dksX6_keptByMarks_1 17 rfl rfl)
theorem dX6_keptByMarks_41 : decode cX6_keptByMarks 41 = .ok (.ifCond .eq 38, 3) := dk_153 0 38 (dk_at dksX6_keptByMarks_1 18 rfl rfl)
theorem dX6_keptByMarks_44 : decode cX6_keptByMarks 44 = .ok (.aload_n 0, 1) := dk_42 (dk_at dksX6_keptByMarks_1 21 rfl rfl)
theorem dX6_keptByMarks_45 : decode cX6_keptByMarks 45 = .ok (.iload 5, 2) := dk_21 5 (dk_at dksX6_keptByMarks_1 22 rfl rfl)
theorem dX6_keptByMarks_47 : decode cX6_keptByMarks 47 = .ok (.iload 6, 2) := dk_21 6 (dk_at dksX6_keptByMarks_2 0 rfl rfl)
theorem dX6_keptByMarks_49 : decode cX6_keptByMarks 49 = .ok (.iload_n 1, 1) := dk_27 (dk_at dksX6_keptByMarks_2 2 rfl rfl)
theorem dX6_keptByMarks_50 : decode cX6_keptByMarks 50 = .ok (.invokevirtual 98, 3) := dk_182 0 98 (dk_at dksX6_keptByMarks_2 3 rfl rfl)
theorem dX6_keptByMarks_53 : decode cX6_keptByMarks 53 = .ok (.istore 7, 2) := dk_54 7 (dk_at dksX6_keptByMarks_2 6 rfl rfl)
theorem dX6_keptByMarks_55 : decode cX6_keptByMarks 55 = .ok (.iload_n 3, 1) := dk_29 (dk_at dksX6_keptByMarks_2 8 rfl rfl)
theorem dX6_keptByMarks_56 : decode cX6_keptByMarks 56 = .ok (.iload 7, 2) := dk_21 7 (dk_at dksX6_keptByMarks_2 9 rfl rfl)
theorem dX6_keptByMarks_58 : decode cX6_keptByMarks 58 = .ok (.iload 5, 2) := dk_21 5 (dk_at dksX6_keptByMarks_2 11 rfl rfl)
theorem dX6_keptByMarks_60 : decode cX6_keptByMarks 60 = .ok (.if_icmp .le 7, 3) := dk_164 0 7 (dk_at dksX6_keptByMarks_2 13 rfl rfl)
theorem dX6_keptByMarks_63 : decode cX6_keptByMarks 63 = .ok (.iconst 1, 1) := dk_4 (dk_at dksX6_keptByMarks_2 16 rfl rfl)
theorem dX6_keptByMarks_64 : decode cX6_keptByMarks 64 = .ok (.goto 4, 3) := dk_167 0 4 (dk_at dksX6_keptByMarks_2 17 rfl rfl)
theorem dX6_keptByMarks_67 : decode cX6_keptByMarks 67 = .ok (.iconst 0, 1) := dk_3 (dk_at dksX6_keptByMarks_2 20 rfl rfl)
theorem dX6_keptByMarks_68 : decode cX6_keptByMarks 68 = .ok (.ior, 1) := dk_128 (dk_at dksX6_keptByMarks_2 21 rfl rfl)
theorem dX6_keptByMarks_69 : decode cX6_keptByMarks 69 = .ok (.istore_n 3, 1) := dk_62 (dk_at dksX6_keptByMarks_2 22 rfl rfl)
theorem dX6_keptByMarks_70 : decode cX6_keptByMarks 70 = .ok (.aload_n 2, 1) := dk_44 (dk_at dksX6_keptByMarks_2 23 rfl rfl)
theorem dX6_keptByMarks_71 : decode cX6_keptByMarks 71 = .ok (.iload 7, 2) := dk_21 7 (dk_at dksX6_keptByMarks_3 0 rfl rfl)
theorem dX6_keptByMarks_73 : decode cX6_keptByMarks 73 = .ok (.iconst 1, 1) := dk_4 (dk_at dksX6_keptByMarks_3 2 rfl rfl)
theorem dX6_keptByMarks_74 : decode cX6_keptByMarks 74 = .ok (.bastore, 1) := dk_84 (dk_at dksX6_keptByMarks_3 3 rfl rfl)
theorem dX6_keptByMarks_75 : decode cX6_keptByMarks 75 = .ok (.iload 6, 2) := dk_21 6 (dk_at dksX6_keptByMarks_3 4 rfl rfl)
theorem dX6_keptByMarks_77 : decode cX6_keptByMarks 77 = .ok (.istore 5, 2) := dk_54 5 (dk_at dksX6_keptByMarks_3 6 rfl rfl)
theorem dX6_keptByMarks_79 : decode cX6_keptByMarks 79 = .ok (.iinc 6 1, 3) := dk_132 6 1 (dk_at dksX6_keptByMarks_3 8 rfl rfl)
theorem dX6_keptByMarks_82 : decode cX6_keptByMarks 82 = .ok (.goto (-54), 3) := dk_167 255 202 (dk_at dksX6_keptByMarks_3 11 rfl rfl)
theorem dX6_keptByMarks_85 : decode cX6_keptByMarks 85 = .ok (.goto (-78), 3) := dk_167 255 178 (dk_at dksX6_keptByMarks_3 14 rfl rfl)
theorem dX6_keptByMarks_88 : decode cX6_keptByMarks 88 = .ok (.aload_n 2, 1) := dk_44 (dk_at dksX6_keptByMarks_3 17 rfl rfl)
theorem dX6_keptByMarks_89 : decode cX6_keptByMarks 89 = .ok (.areturn, 1) := dk_176 (dk_at dksX6_keptByMarks_3 18 rfl rfl)
theorem q76 : (Jvm.Cond.initialized "TileServer$Line") ∈ lw_all := lw_g (lw_at lw_m1 15 rfl) rfl
theorem q436 : (Jvm.Cond.selects "TileServer$Line" ({ cls := "TileServer$Shape", name := "sketch", desc := "(I)LTileServer$Sketch;" } : Jvm.MethodName) ({ cls := "TileServer$Line", name := "sketch", desc := "(I)LTileServer$Sketch;" } : Jvm.MethodName)) ∈ lw_all := lw_g (lw_at lw_m2 135 rfl) rfl
theorem q437 : (Jvm.Cond.instanceMethod ({ cls := "TileServer$Line", name := "sketch", desc := "(I)LTileServer$Sketch;" } : Jvm.MethodName)) ∈ lw_all := lw_g (lw_at lw_m2 136 rfl) rfl
theorem q438 : (Jvm.Cond.code ({ cls := "TileServer$Line", name := "sketch", desc := "(I)LTileServer$Sketch;" } : Jvm.MethodName) prog_6_method_16_code (2 : Nat) (Option.some (Jvm.ClassFile.FieldType.object "TileServer$Sketch"))) ∈ lw_all := lw_g (lw_at lw_m2 137 rfl) rfl
theorem q439 : (Jvm.Cond.methodLink "TileServer$Line" (125 : Nat) ({ cls := "TileServer$Line", name := "path", desc := "(I)LTileServer$Path;" } : Jvm.MethodName)) ∈ lw_all := lw_g (lw_at lw_m2 138 rfl) rfl
theorem q440 : (Jvm.Cond.instanceMethod ({ cls := "TileServer$Line", name := "path", desc := "(I)LTileServer$Path;" } : Jvm.MethodName)) ∈ lw_all := lw_g (lw_at lw_m2 139 rfl) rfl
theorem q441 : (Jvm.Cond.selects "TileServer$Line" ({ cls := "TileServer$Line", name := "path", desc := "(I)LTileServer$Path;" } : Jvm.MethodName) ({ cls := "TileServer$Line", name := "path", desc := "(I)LTileServer$Path;" } : Jvm.MethodName)) ∈ lw_all := lw_g (lw_at lw_m2 140 rfl) rfl
theorem q442 : (Jvm.Cond.code ({ cls := "TileServer$Line", name := "path", desc := "(I)LTileServer$Path;" } : Jvm.MethodName) prog_6_method_15_code (5 : Nat) (Option.some (Jvm.ClassFile.FieldType.object "TileServer$Path"))) ∈ lw_all := lw_g (lw_at lw_m2 141 rfl) rfl
theorem q443 : (Jvm.Cond.methodLink "TileServer$Line" (112 : Nat) ({ cls := "TileServer$Line", name := "kept", desc := "(I)[Z" } : Jvm.MethodName)) ∈ lw_all := lw_g (lw_at lw_m2 142 rfl) rfl
theorem q444 : (Jvm.Cond.instanceMethod ({ cls := "TileServer$Line", name := "kept", desc := "(I)[Z" } : Jvm.MethodName)) ∈ lw_all := lw_g (lw_at lw_m2 143 rfl) rfl
theorem q445 : (Jvm.Cond.selects "TileServer$Line" ({ cls := "TileServer$Line", name := "kept", desc := "(I)[Z" } : Jvm.MethodName) ({ cls := "TileServer$Line", name := "kept", desc := "(I)[Z" } : Jvm.MethodName)) ∈ lw_all := lw_g (lw_at lw_m2 144 rfl) rfl
theorem q446 : (Jvm.Cond.code ({ cls := "TileServer$Line", name := "kept", desc := "(I)[Z" } : Jvm.MethodName) prog_6_method_13_code (3 : Nat) (Option.some (Jvm.ClassFile.FieldType.array Jvm.ClassFile.FieldType.boolean))) ∈ lw_all := lw_g (lw_at lw_m2 145 rfl) rfl
theorem q447 : (Jvm.Cond.methodLink "TileServer$Line" (105 : Nat) ({ cls := "TileServer$Line", name := "ends", desc := "()[Z" } : Jvm.MethodName)) ∈ lw_all := lw_g (lw_at lw_m2 146 rfl) rfl
theorem q448 : (Jvm.Cond.privateMethod ({ cls := "TileServer$Line", name := "ends", desc := "()[Z" } : Jvm.MethodName)) ∈ lw_tbl := lw_at lw_m2 147 rfl
theorem q449 : (Jvm.Cond.instanceMethod ({ cls := "TileServer$Line", name := "ends", desc := "()[Z" } : Jvm.MethodName)) ∈ lw_all := lw_g (lw_at lw_m2 148 rfl) rfl
theorem q450 : (Jvm.Cond.instantiable "TileServer$Line" (4 : Nat)) ∈ lw_all := lw_g (lw_at lw_m2 149 rfl) rfl
theorem q451 : (Jvm.Cond.code ({ cls := "TileServer$Line", name := "ends", desc := "()[Z" } : Jvm.MethodName) prog_6_method_12_code (2 : Nat) (Option.some (Jvm.ClassFile.FieldType.array Jvm.ClassFile.FieldType.boolean))) ∈ lw_all := lw_g (lw_at lw_m2 150 rfl) rfl
theorem q452 : (Jvm.Cond.interfaceEntry "TileServer$Line" (61 : Nat)) ∈ lw_tbl := lw_at lw_m2 151 rfl
theorem q453 : (Jvm.Cond.methodLink "TileServer$Line" (61 : Nat) ({ cls := "java/util/List", name := "size", desc := "()I" } : Jvm.MethodName)) ∈ lw_all := lw_g (lw_at lw_m2 152 rfl) rfl
theorem q454 : (Jvm.Cond.methodLink "TileServer$Line" (101 : Nat) ({ cls := "TileServer$Line", name := "divide", desc := "(III[Z)V" } : Jvm.MethodName)) ∈ lw_all := lw_g (lw_at lw_m2 153 rfl) rfl
theorem q455 : (Jvm.Cond.privateMethod ({ cls := "TileServer$Line", name := "divide", desc := "(III[Z)V" } : Jvm.MethodName)) ∈ lw_tbl := lw_at lw_m2 154 rfl
theorem q456 : (Jvm.Cond.instanceMethod ({ cls := "TileServer$Line", name := "divide", desc := "(III[Z)V" } : Jvm.MethodName)) ∈ lw_all := lw_g (lw_at lw_m2 155 rfl) rfl
theorem q457 : (Jvm.Cond.code ({ cls := "TileServer$Line", name := "divide", desc := "(III[Z)V" } : Jvm.MethodName) prog_6_method_11_code (6 : Nat) (Option.none : Option Jvm.ClassFile.FieldType)) ∈ lw_all := lw_g (lw_at lw_m2 156 rfl) rfl
theorem q458 : (Jvm.Cond.methodLink "TileServer$Line" (98 : Nat) ({ cls := "TileServer$Line", name := "farthest", desc := "(III)I" } : Jvm.MethodName)) ∈ lw_all := lw_g (lw_at lw_m2 157 rfl) rfl
theorem q459 : (Jvm.Cond.privateMethod ({ cls := "TileServer$Line", name := "farthest", desc := "(III)I" } : Jvm.MethodName)) ∈ lw_tbl := lw_at lw_m2 158 rfl
theorem q460 : (Jvm.Cond.instanceMethod ({ cls := "TileServer$Line", name := "farthest", desc := "(III)I" } : Jvm.MethodName)) ∈ lw_all := lw_g (lw_at lw_m2 159 rfl) rfl
theorem q461 : (Jvm.Cond.code ({ cls := "TileServer$Line", name := "farthest", desc := "(III)I" } : Jvm.MethodName) prog_6_method_10_code (6 : Nat) (Option.some Jvm.ClassFile.FieldType.int)) ∈ lw_all := lw_g (lw_at lw_m2 160 rfl) rfl
theorem q462 : (Jvm.Cond.methodLink "TileServer$Line" (94 : Nat) ({ cls := "TileServer$Line", name := "isFarther", desc := "(IIII)Z" } : Jvm.MethodName)) ∈ lw_all := lw_g (lw_at lw_m2 161 rfl) rfl
theorem q463 : (Jvm.Cond.privateMethod ({ cls := "TileServer$Line", name := "isFarther", desc := "(IIII)Z" } : Jvm.MethodName)) ∈ lw_tbl := lw_at lw_m2 162 rfl
theorem q464 : (Jvm.Cond.instanceMethod ({ cls := "TileServer$Line", name := "isFarther", desc := "(IIII)Z" } : Jvm.MethodName)) ∈ lw_all := lw_g (lw_at lw_m2 163 rfl) rfl
theorem q465 : (Jvm.Cond.code ({ cls := "TileServer$Line", name := "isFarther", desc := "(IIII)Z" } : Jvm.MethodName) prog_6_method_5_code (5 : Nat) (Option.some Jvm.ClassFile.FieldType.boolean)) ∈ lw_all := lw_g (lw_at lw_m2 164 rfl) rfl
theorem q466 : (Jvm.Cond.methodLink "TileServer$Line" (75 : Nat) ({ cls := "TileServer$Line", name := "measure", desc := "(III)I" } : Jvm.MethodName)) ∈ lw_all := lw_g (lw_at lw_m2 165 rfl) rfl
theorem q467 : (Jvm.Cond.privateMethod ({ cls := "TileServer$Line", name := "measure", desc := "(III)I" } : Jvm.MethodName)) ∈ lw_tbl := lw_at lw_m2 166 rfl
theorem q468 : (Jvm.Cond.instanceMethod ({ cls := "TileServer$Line", name := "measure", desc := "(III)I" } : Jvm.MethodName)) ∈ lw_all := lw_g (lw_at lw_m2 167 rfl) rfl
theorem q469 : (Jvm.Cond.code ({ cls := "TileServer$Line", name := "measure", desc := "(III)I" } : Jvm.MethodName) prog_6_method_9_code (5 : Nat) (Option.some Jvm.ClassFile.FieldType.int)) ∈ lw_all := lw_g (lw_at lw_m2 168 rfl) rfl
theorem q470 : (Jvm.Cond.methodLink "TileServer$Line" (83 : Nat) ({ cls := "TileServer$Line", name := "isSamePlace", desc := "(II)Z" } : Jvm.MethodName)) ∈ lw_all := lw_g (lw_at lw_m2 169 rfl) rfl
theorem q471 : (Jvm.Cond.privateMethod ({ cls := "TileServer$Line", name := "isSamePlace", desc := "(II)Z" } : Jvm.MethodName)) ∈ lw_tbl := lw_at lw_m2 170 rfl
theorem q472 : (Jvm.Cond.instanceMethod ({ cls := "TileServer$Line", name := "isSamePlace", desc := "(II)Z" } : Jvm.MethodName)) ∈ lw_all := lw_g (lw_at lw_m2 171 rfl) rfl
theorem q473 : (Jvm.Cond.code ({ cls := "TileServer$Line", name := "isSamePlace", desc := "(II)Z" } : Jvm.MethodName) prog_6_method_6_code (3 : Nat) (Option.some Jvm.ClassFile.FieldType.boolean)) ∈ lw_all := lw_g (lw_at lw_m2 172 rfl) rfl
theorem q474 : (Jvm.Cond.interfaceEntry "TileServer$Line" (24 : Nat)) ∈ lw_tbl := lw_at lw_m2 173 rfl
theorem q475 : (Jvm.Cond.methodLink "TileServer$Line" (24 : Nat) ({ cls := "java/util/List", name := "get", desc := "(I)Ljava/lang/Object;" } : Jvm.MethodName)) ∈ lw_all := lw_g (lw_at lw_m2 174 rfl) rfl
theorem q493 : (Jvm.Cond.classLink "TileServer$Line" (28 : Nat) "[I") ∈ lw_all := lw_g (lw_at lw_m2 192 rfl) rfl
theorem q494 : (Jvm.Cond.methodLink "TileServer$Line" (87 : Nat) ({ cls := "TileServer$Line", name := "squareOfLength", desc := "(II)I" } : Jvm.MethodName)) ∈ lw_all := lw_g (lw_at lw_m2 193 rfl) rfl
theorem q495 : (Jvm.Cond.privateMethod ({ cls := "TileServer$Line", name := "squareOfLength", desc := "(II)I" } : Jvm.MethodName)) ∈ lw_tbl := lw_at lw_m2 194 rfl
theorem q496 : (Jvm.Cond.instanceMethod ({ cls := "TileServer$Line", name := "squareOfLength", desc := "(II)I" } : Jvm.MethodName)) ∈ lw_all := lw_g (lw_at lw_m2 195 rfl) rfl
theorem q497 : (Jvm.Cond.code ({ cls := "TileServer$Line", name := "squareOfLength", desc := "(II)I" } : Jvm.MethodName) prog_6_method_8_code (3 : Nat) (Option.some Jvm.ClassFile.FieldType.int)) ∈ lw_all := lw_g (lw_at lw_m2 196 rfl) rfl
theorem q498 : (Jvm.Cond.methodLink "TileServer$Line" (79 : Nat) ({ cls := "TileServer$Line", name := "square", desc := "(I)I" } : Jvm.MethodName)) ∈ lw_all := lw_g (lw_at lw_m2 197 rfl) rfl
theorem q499 : (Jvm.Cond.static ({ cls := "TileServer$Line", name := "square", desc := "(I)I" } : Jvm.MethodName)) ∈ lw_all := lw_g (lw_at lw_m2 198 rfl) rfl
theorem q500 : (Jvm.Cond.code ({ cls := "TileServer$Line", name := "square", desc := "(I)I" } : Jvm.MethodName) prog_6_method_7_code (1 : Nat) (Option.some Jvm.ClassFile.FieldType.int)) ∈ lw_all := lw_g (lw_at lw_m2 199 rfl) rfl
theorem q501 : (Jvm.Cond.methodLinkNest "TileServer$Line" (90 : Nat) ({ cls := "TileServer", name := "crossProduct", desc := "([I[III)I" } : Jvm.MethodName) "TileServer") ∈ lw_tbl := lw_at lw_m2 200 rfl
theorem q504 : (Jvm.Cond.classLink "TileServer$Line" (7 : Nat) "java/util/ArrayList") ∈ lw_all := lw_g (lw_at lw_m2 203 rfl) rfl
theorem q505 : (Jvm.Cond.methodLink "TileServer$Line" (9 : Nat) ({ cls := "java/util/ArrayList", name := "<init>", desc := "()V" } : Jvm.MethodName)) ∈ lw_all := lw_g (lw_at lw_m2 204 rfl) rfl
theorem q506 : (Jvm.Cond.interfaceEntry "TileServer$Line" (18 : Nat)) ∈ lw_tbl := lw_at lw_m2 205 rfl
theorem q507 : (Jvm.Cond.methodLink "TileServer$Line" (18 : Nat) ({ cls := "java/util/List", name := "add", desc := "(Ljava/lang/Object;)Z" } : Jvm.MethodName)) ∈ lw_all := lw_g (lw_at lw_m2 206 rfl) rfl
theorem q548 : (Jvm.Cond.selects "TileServer$Line" ({ cls := "java/lang/Object", name := "getClass", desc := "()Ljava/lang/Class;" } : Jvm.MethodName) ({ cls := "java/lang/Object", name := "getClass", desc := "()Ljava/lang/Class;" } : Jvm.MethodName)) ∈ lw_all := lw_g (lw_at lw_m3 7 rfl) rfl
theorem q582 : (Jvm.Cond.classLink "TileServer$Line" (116 : Nat) "TileServer$Path") ∈ lw_all := lw_g (lw_at lw_m3 41 rfl) rfl
theorem q584 : (Jvm.Cond.methodLink "TileServer$Line" (118 : Nat) ({ cls := "TileServer$Line", name := "box", desc := "()LTileServer$Box;" } : Jvm.MethodName)) ∈ lw_all := lw_g (lw_at lw_m3 43 rfl) rfl
theorem q585 : (Jvm.Cond.instanceMethod ({ cls := "TileServer$Line", name := "box", desc := "()LTileServer$Box;" } : Jvm.MethodName)) ∈ lw_all := lw_g (lw_at lw_m3 44 rfl) rfl
theorem q586 : (Jvm.Cond.selects "TileServer$Line" ({ cls := "TileServer$Line", name := "box", desc := "()LTileServer$Box;" } : Jvm.MethodName) ({ cls := "TileServer$Line", name := "box", desc := "()LTileServer$Box;" } : Jvm.MethodName)) ∈ lw_all := lw_g (lw_at lw_m3 45 rfl) rfl
theorem q587 : (Jvm.Cond.code ({ cls := "TileServer$Line", name := "box", desc := "()LTileServer$Box;" } : Jvm.MethodName) prog_6_method_3_code (6 : Nat) (Option.some (Jvm.ClassFile.FieldType.object "TileServer$Box"))) ∈ lw_all := lw_g (lw_at lw_m3 46 rfl) rfl
theorem q588 : (Jvm.Cond.methodLink "TileServer$Line" (30 : Nat) ({ cls := "[I", name := "clone", desc := "()Ljava/lang/Object;" } : Jvm.MethodName)) ∈ lw_all := lw_g (lw_at lw_m3 47 rfl) rfl
theorem q592 : (Jvm.Cond.interfaceEntry "TileServer$Line" (34 : Nat)) ∈ lw_tbl := lw_at lw_m3 51 rfl
theorem q593 : (Jvm.Cond.methodLink "TileServer$Line" (34 : Nat) ({ cls := "java/util/List", name := "iterator", desc := "()Ljava/util/Iterator;" } : Jvm.MethodName)) ∈ lw_all := lw_g (lw_at lw_m3 52 rfl) rfl
theorem q594 : (Jvm.Cond.interfaceEntry "TileServer$Line" (38 : Nat)) ∈ lw_tbl := lw_at lw_m3 53 rfl
theorem q595 : (Jvm.Cond.methodLink "TileServer$Line" (38 : Nat) ({ cls := "java/util/Iterator", name := "hasNext", desc := "()Z" } : Jvm.MethodName)) ∈ lw_all := lw_g (lw_at lw_m3 54 rfl) rfl
theorem q596 : (Jvm.Cond.interfaceEntry "TileServer$Line" (44 : Nat)) ∈ lw_tbl := lw_at lw_m3 55 rfl
theorem q597 : (Jvm.Cond.methodLink "TileServer$Line" (44 : Nat) ({ cls := "java/util/Iterator", name := "next", desc := "()Ljava/lang/Object;" } : Jvm.MethodName)) ∈ lw_all := lw_g (lw_at lw_m3 56 rfl) rfl
theorem q598 : (Jvm.Cond.methodLink "TileServer$Line" (47 : Nat) ({ cls := "java/lang/Math", name := "min", desc := "(II)I" } : Jvm.MethodName)) ∈ lw_all := lw_g (lw_at lw_m3 57 rfl) rfl
theorem q599 : (Jvm.Cond.methodLink "TileServer$Line" (53 : Nat) ({ cls := "java/lang/Math", name := "max", desc := "(II)I" } : Jvm.MethodName)) ∈ lw_all := lw_g (lw_at lw_m3 58 rfl) rfl
theorem q600 : (Jvm.Cond.classLink "TileServer$Line" (56 : Nat) "TileServer$Box") ∈ lw_all := lw_g (lw_at lw_m3 59 rfl) rfl
theorem q601 : (Jvm.Cond.methodLink "TileServer$Line" (58 : Nat) ({ cls := "TileServer$Box", name := "<init>", desc := "(IIII)V" } : Jvm.MethodName)) ∈ lw_all := lw_g (lw_at lw_m3 60 rfl) rfl
theorem q602 : (Jvm.Cond.methodLink "TileServer$Line" (122 : Nat) ({ cls := "TileServer$Path", name := "<init>", desc := "(LTileServer$Box;Ljava/util/List;)V" } : Jvm.MethodName)) ∈ lw_all := lw_g (lw_at lw_m3 61 rfl) rfl
theorem q734 : (Jvm.Cond.instanceMethod ({ cls := "TileServer$Line", name := "<init>", desc := "(I[I[I)V" } : Jvm.MethodName)) ∈ lw_all := lw_g (lw_at lw_m3 193 rfl) rfl
theorem q735 : (Jvm.Cond.code ({ cls := "TileServer$Line", name := "<init>", desc := "(I[I[I)V" } : Jvm.MethodName) prog_6_method_1_code (4 : Nat) (Option.none : Option Jvm.ClassFile.FieldType)) ∈ lw_all := lw_g (lw_at lw_m3 194 rfl) rfl
theorem q736 : (Jvm.Cond.methodLink "TileServer$Line" (1 : Nat) ({ cls := "TileServer$Shape", name := "<init>", desc := "(I)V" } : Jvm.MethodName)) ∈ lw_all := lw_g (lw_at lw_m3 195 rfl) rfl
theorem q740 : (Jvm.Cond.fieldLink "TileServer$Line" (12 : Nat) "TileServer$Line" "points" "Ljava/util/List;") ∈ lw_all := lw_g (lw_at lw_m3 199 rfl) rfl
theorem q747 : (Jvm.Cond.laysFinal "TileServer$Line" "TileServer$Line" "points" "Ljava/util/List;") ∈ lw_all := lw_g (lw_at lw_m3 206 rfl) rfl
theorem q748 : (Jvm.Cond.soleField "TileServer$Line" "points") ∈ lw_all := lw_g (lw_at lw_m3 207 rfl) rfl
theorem q749 : (Jvm.Cond.laysFinal "TileServer$Line" "TileServer$Shape" "number" "I") ∈ lw_all := lw_g (lw_at lw_m3 208 rfl) rfl
theorem q751 : (Jvm.Cond.lays "TileServer$Line" "TileServer$Shape" "labelWidth" "I") ∈ lw_all := lw_g (lw_at lw_m3 210 rfl) rfl
theorem q753 : (Jvm.Cond.lays "TileServer$Line" "TileServer$Shape" "rank" "I") ∈ lw_all := lw_g (lw_at lw_m3 212 rfl) rfl
theorem q755 : (Jvm.Cond.superclass "TileServer$Line" "TileServer$Shape") ∈ lw_all := lw_g (lw_at lw_m3 214 rfl) rfl
theorem q766 : (Jvm.Cond.selects "TileServer$Line" ({ cls := "TileServer$Shape", name := "box", desc := "()LTileServer$Box;" } : Jvm.MethodName) ({ cls := "TileServer$Line", name := "box", desc := "()LTileServer$Box;" } : Jvm.MethodName)) ∈ lw_all := lw_g (lw_at lw_m3 225 rfl) rfl
theorem q868 : (Jvm.Cond.instanceMethod ({ cls := "TileServer$Line", name := "checkedPoint", desc := "(I)[I" } : Jvm.MethodName)) ∈ lw_all := lw_g (lw_at lw_m4 87 rfl) rfl
theorem q869 : (Jvm.Cond.selects "TileServer$Line" ({ cls := "TileServer$Line", name := "checkedPoint", desc := "(I)[I" } : Jvm.MethodName) ({ cls := "TileServer$Line", name := "checkedPoint", desc := "(I)[I" } : Jvm.MethodName)) ∈ lw_all := lw_g (lw_at lw_m4 88 rfl) rfl
theorem q870 : (Jvm.Cond.code ({ cls := "TileServer$Line", name := "checkedPoint", desc := "(I)[I" } : Jvm.MethodName) prog_6_method_4_code (2 : Nat) (Option.some (Jvm.ClassFile.FieldType.array Jvm.ClassFile.FieldType.int))) ∈ lw_all := lw_g (lw_at lw_m4 89 rfl) rfl
theorem q871 : (Jvm.Cond.methodLinkNest "TileServer$Line" (65 : Nat) ({ cls := "TileServer", name := "isBetween", desc := "(III)Z" } : Jvm.MethodName) "TileServer") ∈ lw_tbl := lw_at lw_m4 90 rfl
theorem q872 : (Jvm.Cond.methodLinkNest "TileServer$Line" (71 : Nat) ({ cls := "TileServer", name := "checkIndex", desc := "(Z)V" } : Jvm.MethodName) "TileServer") ∈ lw_tbl := lw_at lw_m4 91 rfl
theorem q972 : (Jvm.Cond.selects "TileServer$Line" ({ cls := "java/lang/Object", name := "equals", desc := "(Ljava/lang/Object;)Z" } : Jvm.MethodName) ({ cls := "java/lang/Object", name := "equals", desc := "(Ljava/lang/Object;)Z" } : Jvm.MethodName)) ∈ lw_all := lw_g (lw_at lw_m4 191 rfl) rfl
theorem q1037 : (Jvm.Cond.selects "TileServer$Line" ({ cls := "TileServer$Shape", name := "kind", desc := "()C" } : Jvm.MethodName) ({ cls := "TileServer$Line", name := "kind", desc := "()C" } : Jvm.MethodName)) ∈ lw_all := lw_g (lw_at lw_m5 16 rfl) rfl
theorem q1038 : (Jvm.Cond.instanceMethod ({ cls := "TileServer$Line", name := "kind", desc := "()C" } : Jvm.MethodName)) ∈ lw_all := lw_g (lw_at lw_m5 17 rfl) rfl
theorem q1039 : (Jvm.Cond.code ({ cls := "TileServer$Line", name := "kind", desc := "()C" } : Jvm.MethodName) prog_6_method_2_code (1 : Nat) (Option.some Jvm.ClassFile.FieldType.char)) ∈ lw_all := lw_g (lw_at lw_m5 18 rfl) rfl
theorem q1077 : (Jvm.Cond.instanceMethod ({ cls := "TileServer$Line", name := "keptByMarks", desc := "(I)[Z" } : Jvm.MethodName)) ∈ lw_all := lw_g (lw_at lw_m5 56 rfl) rfl
theorem q1078 : (Jvm.Cond.selects "TileServer$Line" ({ cls := "TileServer$Line", name := "keptByMarks", desc := "(I)[Z" } : Jvm.MethodName) ({ cls := "TileServer$Line", name := "keptByMarks", desc := "(I)[Z" } : Jvm.MethodName)) ∈ lw_all := lw_g (lw_at lw_m5 57 rfl) rfl
theorem q1079 : (Jvm.Cond.code ({ cls := "TileServer$Line", name := "keptByMarks", desc := "(I)[Z" } : Jvm.MethodName) prog_6_method_14_code (8 : Nat) (Option.some (Jvm.ClassFile.FieldType.array Jvm.ClassFile.FieldType.boolean))) ∈ lw_all := lw_g (lw_at lw_m5 58 rfl) rfl
theorem q1080 : (Jvm.Cond.methodLink "TileServer$Line" (109 : Nat) ({ cls := "[Z", name := "clone", desc := "()Ljava/lang/Object;" } : Jvm.MethodName)) ∈ lw_all := lw_g (lw_at lw_m5 59 rfl) rfl
theorem q1084 : (Jvm.Cond.classLink "TileServer$Line" (110 : Nat) "[Z") ∈ lw_all := lw_g (lw_at lw_m5 63 rfl) rfl
theorem q1989 : (Jvm.Cond.castable "TileServer$Line" "TileServer$Shape") ∈ lw_tbl := lw_at lw_m9 8 rfl
theorem q2001 : (Jvm.Cond.castable "TileServer$Line" "java/lang/Object") ∈ lw_tbl := lw_at lw_m9 20 rfl
theorem in_X6 : ∀ w ∈ wsX60, w ∈ lw_all := lw_in wsX60 [749, 751, 753, 747] (by decide +kernel) (by decide +kernel)
/-! TileServer$Area -/
set_option maxRecDepth 100000
def RX7 : String := "TileServer$Area"
def TX7 : u_T := fun k => match k with
  | 0 => ("TileServer$Shape", "number", "I", true)
  | 1 => ("TileServer$Shape", "labelWidth", "I", false)
  | 2 => ("TileServer$Shape", "rank", "I", false)
  | 3 => ("TileServer$Area", "reach", "I", true)
  | 4 => ("TileServer$Area", "cut", "I", true)
  | 5 => ("TileServer$Area", "x", "I", false)
  | _ => ("TileServer$Area", "y", "I", false)
def tyX7 : Nat → FieldType := fun k => match k with
  | 0 => .int
  | 1 => .int
  | 2 => .int
  | 3 => .int
  | 4 => .int
  | 5 => .int
  | _ => .int
abbrev wsX70 : List Cond := u_ws RX7 TX7 7
theorem nmX7 : ∀ a, a < 7 → ∀ b, b < 7 → a ≠ b → (TX7 a).2.1 ≠ (TX7 b).2.1 := by decide +kernel
theorem tyX7_ok : ∀ k, k < 7 → parseFieldDescriptor (TX7 k).2.2.1 = some (tyX7 k) := by decide +kernel
abbrev cX7_sketch : ByteArray := prog_2_method_4_code
def yX7_sketch : MethodName := ⟨RX7, "sketch", "(I)LTileServer$Sketch;"⟩
def dkwX7_sketch_0 : List UInt8 := [187, 0, 27, 89, 42, 182, 0, 29, 42, 183, 0, 33, 176]
abbrev dktX7_sketch_0 : List UInt8 := dkwX7_sketch_0 ++ []
theorem dksX7_sketch_0 : cX7_sketch.data.toList.drop 0 = dktX7_sketch_0 := by decide +kernel
theorem dX7_sketch_0 : decode cX7_sketch 0 = .ok (.new 27, 3) := dk_187 0 27 (dk_at dksX7_sketch_0 0 rfl rfl)
theorem dX7_sketch_3 : decode cX7_sketch 3 = .ok (.dup, 1) := dk_89 (dk_at dksX7_sketch_0 3 rfl rfl)
theorem dX7_sketch_4 : decode cX7_sketch 4 = .ok (.aload_n 0, 1) := dk_42 (dk_at dksX7_sketch_0 4 rfl rfl)
theorem dX7_sketch_5 : decode cX7_sketch 5 = .ok (.invokevirtual 29, 3) := dk_182 0 29 (dk_at dksX7_sketch_0 5 rfl rfl)
theorem dX7_sketch_8 : decode cX7_sketch 8 = .ok (.aload_n 0, 1) := dk_42 (dk_at dksX7_sketch_0 8 rfl rfl)
theorem dX7_sketch_9 : decode cX7_sketch 9 = .ok (.invokespecial 33, 3) := dk_183 0 33 (dk_at dksX7_sketch_0 9 rfl rfl)
theorem dX7_sketch_12 : decode cX7_sketch 12 = .ok (.areturn, 1) := dk_176 (dk_at dksX7_sketch_0 12 rfl rfl)
abbrev cX7_box : ByteArray := prog_2_method_3_code
def yX7_box : MethodName := ⟨RX7, "box", "()LTileServer$Box;"⟩
def dkwX7_box_1 : List UInt8 := [180, 0, 7, 42, 180, 0, 16, 96, 42, 180, 0, 13, 42, 180, 0, 16, 96, 183, 0, 24, 176]
abbrev dktX7_box_1 : List UInt8 := dkwX7_box_1 ++ []
def dkwX7_box_0 : List UInt8 := [187, 0, 22, 89, 42, 180, 0, 7, 42, 180, 0, 16, 100, 42, 180, 0, 13, 42, 180, 0, 16, 100, 42]
abbrev dktX7_box_0 : List UInt8 := dkwX7_box_0 ++ dktX7_box_1
theorem dksX7_box_0 : cX7_box.data.toList.drop 0 = dktX7_box_0 := by decide +kernel
theorem dksX7_box_1 : cX7_box.data.toList.drop 23 = dktX7_box_1 := dk_seg dksX7_box_0 23 rfl rfl
theorem dX7_box_0 : decode cX7_box 0 = .ok (.new 22, 3) := dk_187 0 22 (dk_at dksX7_box_0 0 rfl rfl)
theorem dX7_box_3 : decode cX7_box 3 = .ok (.dup, 1) := dk_89 (dk_at dksX7_box_0 3 rfl rfl)
theorem dX7_box_4 : decode cX7_box 4 = .ok (.aload_n 0, 1) := dk_42 (dk_at dksX7_box_0 4 rfl rfl)
theorem dX7_box_5 : decode cX7_box 5 = .ok (.getfield 7, 3) := dk_180 0 7 (dk_at dksX7_box_0 5 rfl rfl)
theorem dX7_box_8 : decode cX7_box 8 = .ok (.aload_n 0, 1) := dk_42 (dk_at dksX7_box_0 8 rfl rfl)
theorem dX7_box_9 : decode cX7_box 9 = .ok (.getfield 16, 3) := dk_180 0 16 (dk_at dksX7_box_0 9 rfl rfl)
theorem dX7_box_12 : decode cX7_box 12 = .ok (.isub, 1) := dk_100 (dk_at dksX7_box_0 12 rfl rfl)
theorem dX7_box_13 : decode cX7_box 13 = .ok (.aload_n 0, 1) := dk_42 (dk_at dksX7_box_0 13 rfl rfl)
theorem dX7_box_14 : decode cX7_box 14 = .ok (.getfield 13, 3) := dk_180 0 13 (dk_at dksX7_box_0 14 rfl rfl)
theorem dX7_box_17 : decode cX7_box 17 = .ok (.aload_n 0, 1) := dk_42 (dk_at dksX7_box_0 17 rfl rfl)
theorem dX7_box_18 : decode cX7_box 18 = .ok (.getfield 16, 3) := dk_180 0 16 (dk_at dksX7_box_0 18 rfl rfl)
theorem dX7_box_21 : decode cX7_box 21 = .ok (.isub, 1) := dk_100 (dk_at dksX7_box_0 21 rfl rfl)
theorem dX7_box_22 : decode cX7_box 22 = .ok (.aload_n 0, 1) := dk_42 (dk_at dksX7_box_0 22 rfl rfl)
theorem dX7_box_23 : decode cX7_box 23 = .ok (.getfield 7, 3) := dk_180 0 7 (dk_at dksX7_box_1 0 rfl rfl)
theorem dX7_box_26 : decode cX7_box 26 = .ok (.aload_n 0, 1) := dk_42 (dk_at dksX7_box_1 3 rfl rfl)
theorem dX7_box_27 : decode cX7_box 27 = .ok (.getfield 16, 3) := dk_180 0 16 (dk_at dksX7_box_1 4 rfl rfl)
theorem dX7_box_30 : decode cX7_box 30 = .ok (.iadd, 1) := dk_96 (dk_at dksX7_box_1 7 rfl rfl)
theorem dX7_box_31 : decode cX7_box 31 = .ok (.aload_n 0, 1) := dk_42 (dk_at dksX7_box_1 8 rfl rfl)
theorem dX7_box_32 : decode cX7_box 32 = .ok (.getfield 13, 3) := dk_180 0 13 (dk_at dksX7_box_1 9 rfl rfl)
theorem dX7_box_35 : decode cX7_box 35 = .ok (.aload_n 0, 1) := dk_42 (dk_at dksX7_box_1 12 rfl rfl)
theorem dX7_box_36 : decode cX7_box 36 = .ok (.getfield 16, 3) := dk_180 0 16 (dk_at dksX7_box_1 13 rfl rfl)
theorem dX7_box_39 : decode cX7_box 39 = .ok (.iadd, 1) := dk_96 (dk_at dksX7_box_1 16 rfl rfl)
theorem dX7_box_40 : decode cX7_box 40 = .ok (.invokespecial 24, 3) := dk_183 0 24 (dk_at dksX7_box_1 17 rfl rfl)
theorem dX7_box_43 : decode cX7_box 43 = .ok (.areturn, 1) := dk_176 (dk_at dksX7_box_1 20 rfl rfl)
abbrev cX7_init : ByteArray := prog_2_method_1_code
def yX7_init : MethodName := ⟨RX7, "<init>", "(IIIII)V"⟩
def dkwX7_init_1 : List UInt8 := [181, 0, 19, 177]
abbrev dktX7_init_1 : List UInt8 := dkwX7_init_1 ++ []
def dkwX7_init_0 : List UInt8 := [42, 27, 183, 0, 1, 42, 28, 181, 0, 7, 42, 29, 181, 0, 13, 42, 21, 4, 181, 0, 16, 42, 21, 5]
abbrev dktX7_init_0 : List UInt8 := dkwX7_init_0 ++ dktX7_init_1
theorem dksX7_init_0 : cX7_init.data.toList.drop 0 = dktX7_init_0 := by decide +kernel
theorem dksX7_init_1 : cX7_init.data.toList.drop 24 = dktX7_init_1 := dk_seg dksX7_init_0 24 rfl rfl
theorem dX7_init_0 : decode cX7_init 0 = .ok (.aload_n 0, 1) := dk_42 (dk_at dksX7_init_0 0 rfl rfl)
theorem dX7_init_1 : decode cX7_init 1 = .ok (.iload_n 1, 1) := dk_27 (dk_at dksX7_init_0 1 rfl rfl)
theorem dX7_init_2 : decode cX7_init 2 = .ok (.invokespecial 1, 3) := dk_183 0 1 (dk_at dksX7_init_0 2 rfl rfl)
theorem dX7_init_5 : decode cX7_init 5 = .ok (.aload_n 0, 1) := dk_42 (dk_at dksX7_init_0 5 rfl rfl)
theorem dX7_init_6 : decode cX7_init 6 = .ok (.iload_n 2, 1) := dk_28 (dk_at dksX7_init_0 6 rfl rfl)
theorem dX7_init_7 : decode cX7_init 7 = .ok (.putfield 7, 3) := dk_181 0 7 (dk_at dksX7_init_0 7 rfl rfl)
theorem dX7_init_10 : decode cX7_init 10 = .ok (.aload_n 0, 1) := dk_42 (dk_at dksX7_init_0 10 rfl rfl)
theorem dX7_init_11 : decode cX7_init 11 = .ok (.iload_n 3, 1) := dk_29 (dk_at dksX7_init_0 11 rfl rfl)
theorem dX7_init_12 : decode cX7_init 12 = .ok (.putfield 13, 3) := dk_181 0 13 (dk_at dksX7_init_0 12 rfl rfl)
theorem dX7_init_15 : decode cX7_init 15 = .ok (.aload_n 0, 1) := dk_42 (dk_at dksX7_init_0 15 rfl rfl)
theorem dX7_init_16 : decode cX7_init 16 = .ok (.iload 4, 2) := dk_21 4 (dk_at dksX7_init_0 16 rfl rfl)
theorem dX7_init_18 : decode cX7_init 18 = .ok (.putfield 16, 3) := dk_181 0 16 (dk_at dksX7_init_0 18 rfl rfl)
theorem dX7_init_21 : decode cX7_init 21 = .ok (.aload_n 0, 1) := dk_42 (dk_at dksX7_init_0 21 rfl rfl)
theorem dX7_init_22 : decode cX7_init 22 = .ok (.iload 5, 2) := dk_21 5 (dk_at dksX7_init_0 22 rfl rfl)
theorem dX7_init_24 : decode cX7_init 24 = .ok (.putfield 19, 3) := dk_181 0 19 (dk_at dksX7_init_1 0 rfl rfl)
theorem dX7_init_27 : decode cX7_init 27 = .ok (.return_, 1) := dk_177 (dk_at dksX7_init_1 3 rfl rfl)
abbrev cX7_kind : ByteArray := prog_2_method_2_code
def yX7_kind : MethodName := ⟨RX7, "kind", "()C"⟩
theorem dX7_kind_0 : decode cX7_kind 0 = .ok (.bipush 97, 2) := by decide +kernel
theorem dX7_kind_2 : decode cX7_kind 2 = .ok (.ireturn, 1) := by decide +kernel
abbrev cX7_outline : ByteArray := prog_2_method_5_code
def yX7_outline : MethodName := ⟨RX7, "outline", "()Ljava/util/List;"⟩
def dkwX7_outline_2 : List UInt8 := [100, 182, 0, 41, 185, 0, 45, 2, 0, 87, 132, 2, 1, 167, 255, 206, 43, 176]
abbrev dktX7_outline_2 : List UInt8 := dkwX7_outline_2 ++ []
def dkwX7_outline_1 : List UInt8 := [180, 0, 19, 100, 182, 0, 41, 185, 0, 45, 2, 0, 87, 43, 42, 28, 42, 180, 0, 19, 42, 180, 0, 16]
abbrev dktX7_outline_1 : List UInt8 := dkwX7_outline_1 ++ dktX7_outline_2
def dkwX7_outline_0 : List UInt8 := [187, 0, 36, 89, 183, 0, 38, 76, 3, 61, 28, 7, 162, 0, 51, 43, 42, 28, 42, 180, 0, 16, 42]
abbrev dktX7_outline_0 : List UInt8 := dkwX7_outline_0 ++ dktX7_outline_1
theorem dksX7_outline_0 : cX7_outline.data.toList.drop 0 = dktX7_outline_0 := by decide +kernel
theorem dksX7_outline_1 : cX7_outline.data.toList.drop 23 = dktX7_outline_1 := dk_seg dksX7_outline_0 23 rfl rfl
theorem dksX7_outline_2 : cX7_outline.data.toList.drop 47 = dktX7_outline_2 := dk_seg dksX7_outline_1 24 rfl rfl
theorem dX7_outline_0 : decode cX7_outline 0 = .ok (.new 36, 3) := dk_187 0 36 (dk_at dksX7_outline_0 0 rfl rfl)
theorem dX7_outline_3 : decode cX7_outline 3 = .ok (.dup, 1) := dk_89 (dk_at dksX7_outline_0 3 rfl rfl)
theorem dX7_outline_4 : decode cX7_outline 4 = .ok (.invokespecial 38, 3) := dk_183 0 38 (dk_at dksX7_outline_0 4 rfl rfl)
theorem dX7_outline_7 : decode cX7_outline 7 = .ok (.astore_n 1, 1) := dk_76 (dk_at dksX7_outline_0 7 rfl rfl)
theorem dX7_outline_8 : decode cX7_outline 8 = .ok (.iconst 0, 1) := dk_3 (dk_at dksX7_outline_0 8 rfl rfl)
theorem dX7_outline_9 : decode cX7_outline 9 = .ok (.istore_n 2, 1) := dk_61 (dk_at dksX7_outline_0 9 rfl rfl)
theorem dX7_outline_10 : decode cX7_outline 10 = .ok (.iload_n 2, 1) := dk_28 (dk_at dksX7_outline_0 10 rfl rfl)
theorem dX7_outline_11 : decode cX7_outline 11 = .ok (.iconst 4, 1) := dk_7 (dk_at dksX7_outline_0 11 rfl rfl)
theorem dX7_outline_12 : decode cX7_outline 12 = .ok (.if_icmp .ge 51, 3) := dk_162 0 51 (dk_at dksX7_outline_0 12 rfl rfl)
theorem dX7_outline_15 : decode cX7_outline 15 = .ok (.aload_n 1, 1) := dk_43 (dk_at dksX7_outline_0 15 rfl rfl)
theorem dX7_outline_16 : decode cX7_outline 16 = .ok (.aload_n 0, 1) := dk_42 (dk_at dksX7_outline_0 16 rfl rfl)
theorem dX7_outline_17 : decode cX7_outline 17 = .ok (.iload_n 2, 1) := dk_28 (dk_at dksX7_outline_0 17 rfl rfl)
theorem dX7_outline_18 : decode cX7_outline 18 = .ok (.aload_n 0, 1) := dk_42 (dk_at dksX7_outline_0 18 rfl rfl)
theorem dX7_outline_19 : decode cX7_outline 19 = .ok (.getfield 16, 3) := dk_180 0 16 (dk_at dksX7_outline_0 19 rfl rfl)
theorem dX7_outline_22 : decode cX7_outline 22 = .ok (.aload_n 0, 1) := dk_42 (dk_at dksX7_outline_0 22 rfl rfl)
theorem dX7_outline_23 : decode cX7_outline 23 = .ok (.getfield 19, 3) := dk_180 0 19 (dk_at dksX7_outline_1 0 rfl rfl)
theorem dX7_outline_26 : decode cX7_outline 26 = .ok (.isub, 1) := dk_100 (dk_at dksX7_outline_1 3 rfl rfl)
theorem dX7_outline_27 : decode cX7_outline 27 = .ok (.invokevirtual 41, 3) := dk_182 0 41 (dk_at dksX7_outline_1 4 rfl rfl)
theorem dX7_outline_30 : decode cX7_outline 30 = .ok (.invokeinterface 45 2, 5) := by decide +kernel
theorem dX7_outline_35 : decode cX7_outline 35 = .ok (.pop, 1) := dk_87 (dk_at dksX7_outline_1 12 rfl rfl)
theorem dX7_outline_36 : decode cX7_outline 36 = .ok (.aload_n 1, 1) := dk_43 (dk_at dksX7_outline_1 13 rfl rfl)
theorem dX7_outline_37 : decode cX7_outline 37 = .ok (.aload_n 0, 1) := dk_42 (dk_at dksX7_outline_1 14 rfl rfl)
theorem dX7_outline_38 : decode cX7_outline 38 = .ok (.iload_n 2, 1) := dk_28 (dk_at dksX7_outline_1 15 rfl rfl)
theorem dX7_outline_39 : decode cX7_outline 39 = .ok (.aload_n 0, 1) := dk_42 (dk_at dksX7_outline_1 16 rfl rfl)
theorem dX7_outline_40 : decode cX7_outline 40 = .ok (.getfield 19, 3) := dk_180 0 19 (dk_at dksX7_outline_1 17 rfl rfl)
theorem dX7_outline_43 : decode cX7_outline 43 = .ok (.aload_n 0, 1) := dk_42 (dk_at dksX7_outline_1 20 rfl rfl)
theorem dX7_outline_44 : decode cX7_outline 44 = .ok (.getfield 16, 3) := dk_180 0 16 (dk_at dksX7_outline_1 21 rfl rfl)
theorem dX7_outline_47 : decode cX7_outline 47 = .ok (.isub, 1) := dk_100 (dk_at dksX7_outline_2 0 rfl rfl)
theorem dX7_outline_48 : decode cX7_outline 48 = .ok (.invokevirtual 41, 3) := dk_182 0 41 (dk_at dksX7_outline_2 1 rfl rfl)
theorem dX7_outline_51 : decode cX7_outline 51 = .ok (.invokeinterface 45 2, 5) := by decide +kernel
theorem dX7_outline_56 : decode cX7_outline 56 = .ok (.pop, 1) := dk_87 (dk_at dksX7_outline_2 9 rfl rfl)
theorem dX7_outline_57 : decode cX7_outline 57 = .ok (.iinc 2 1, 3) := dk_132 2 1 (dk_at dksX7_outline_2 10 rfl rfl)
theorem dX7_outline_60 : decode cX7_outline 60 = .ok (.goto (-50), 3) := dk_167 255 206 (dk_at dksX7_outline_2 13 rfl rfl)
theorem dX7_outline_63 : decode cX7_outline 63 = .ok (.aload_n 1, 1) := dk_43 (dk_at dksX7_outline_2 16 rfl rfl)
theorem dX7_outline_64 : decode cX7_outline 64 = .ok (.areturn, 1) := dk_176 (dk_at dksX7_outline_2 17 rfl rfl)
abbrev cX7_corner : ByteArray := prog_2_method_6_code
def yX7_corner : MethodName := ⟨RX7, "corner", "(II)[I"⟩
def dkwX7_corner_3 : List UInt8 := [176]
abbrev dktX7_corner_3 : List UInt8 := dkwX7_corner_3 ++ []
def dkwX7_corner_2 : List UInt8 := [188, 10, 89, 3, 42, 180, 0, 7, 45, 3, 46, 96, 79, 89, 4, 42, 180, 0, 13, 45, 4, 46, 96, 79]
abbrev dktX7_corner_2 : List UInt8 := dkwX7_corner_2 ++ dktX7_corner_3
def dkwX7_corner_1 : List UInt8 := [5, 188, 10, 89, 3, 45, 4, 46, 116, 79, 89, 4, 45, 3, 46, 79, 78, 132, 4, 1, 167, 255, 230, 5]
abbrev dktX7_corner_1 : List UInt8 := dkwX7_corner_1 ++ dktX7_corner_2
def dkwX7_corner_0 : List UInt8 := [5, 188, 10, 89, 3, 42, 180, 0, 16, 79, 89, 4, 28, 79, 78, 3, 54, 4, 21, 4, 27, 162, 0, 26]
abbrev dktX7_corner_0 : List UInt8 := dkwX7_corner_0 ++ dktX7_corner_1
theorem dksX7_corner_0 : cX7_corner.data.toList.drop 0 = dktX7_corner_0 := by decide +kernel
theorem dksX7_corner_1 : cX7_corner.data.toList.drop 24 = dktX7_corner_1 := dk_seg dksX7_corner_0 24 rfl rfl
theorem dksX7_corner_2 : cX7_corner.data.toList.drop 48 = dktX7_corner_2 := dk_seg dksX7_corner_1 24 rfl rfl
theorem dksX7_corner_3 : cX7_corner.data.toList.drop 72 = dktX7_corner_3 := dk_seg dksX7_corner_2 24 rfl rfl
theorem dX7_corner_0 : decode cX7_corner 0 = .ok (.iconst 2, 1) := dk_5 (dk_at dksX7_corner_0 0 rfl rfl)
theorem dX7_corner_1 : decode cX7_corner 1 = .ok (.newarray .int, 2) := dk_188_10 (dk_at dksX7_corner_0 1 rfl rfl)
theorem dX7_corner_3 : decode cX7_corner 3 = .ok (.dup, 1) := dk_89 (dk_at dksX7_corner_0 3 rfl rfl)
theorem dX7_corner_4 : decode cX7_corner 4 = .ok (.iconst 0, 1) := dk_3 (dk_at dksX7_corner_0 4 rfl rfl)
theorem dX7_corner_5 : decode cX7_corner 5 = .ok (.aload_n 0, 1) := dk_42 (dk_at dksX7_corner_0 5 rfl rfl)
theorem dX7_corner_6 : decode cX7_corner 6 = .ok (.getfield 16, 3) := dk_180 0 16 (dk_at dksX7_corner_0 6 rfl rfl)
theorem dX7_corner_9 : decode cX7_corner 9 = .ok (.iastore, 1) := dk_79 (dk_at dksX7_corner_0 9 rfl rfl)
theorem dX7_corner_10 : decode cX7_corner 10 = .ok (.dup, 1) := dk_89 (dk_at dksX7_corner_0 10 rfl rfl)
theorem dX7_corner_11 : decode cX7_corner 11 = .ok (.iconst 1, 1) := dk_4 (dk_at dksX7_corner_0 11 rfl rfl)
theorem dX7_corner_12 : decode cX7_corner 12 = .ok (.iload_n 2, 1) := dk_28 (dk_at dksX7_corner_0 12 rfl rfl)
theorem dX7_corner_13 : decode cX7_corner 13 = .ok (.iastore, 1) := dk_79 (dk_at dksX7_corner_0 13 rfl rfl)
theorem dX7_corner_14 : decode cX7_corner 14 = .ok (.astore_n 3, 1) := dk_78 (dk_at dksX7_corner_0 14 rfl rfl)
theorem dX7_corner_15 : decode cX7_corner 15 = .ok (.iconst 0, 1) := dk_3 (dk_at dksX7_corner_0 15 rfl rfl)
theorem dX7_corner_16 : decode cX7_corner 16 = .ok (.istore 4, 2) := dk_54 4 (dk_at dksX7_corner_0 16 rfl rfl)
theorem dX7_corner_18 : decode cX7_corner 18 = .ok (.iload 4, 2) := dk_21 4 (dk_at dksX7_corner_0 18 rfl rfl)
theorem dX7_corner_20 : decode cX7_corner 20 = .ok (.iload_n 1, 1) := dk_27 (dk_at dksX7_corner_0 20 rfl rfl)
theorem dX7_corner_21 : decode cX7_corner 21 = .ok (.if_icmp .ge 26, 3) := dk_162 0 26 (dk_at dksX7_corner_0 21 rfl rfl)
theorem dX7_corner_24 : decode cX7_corner 24 = .ok (.iconst 2, 1) := dk_5 (dk_at dksX7_corner_1 0 rfl rfl)
theorem dX7_corner_25 : decode cX7_corner 25 = .ok (.newarray .int, 2) := dk_188_10 (dk_at dksX7_corner_1 1 rfl rfl)
theorem dX7_corner_27 : decode cX7_corner 27 = .ok (.dup, 1) := dk_89 (dk_at dksX7_corner_1 3 rfl rfl)
theorem dX7_corner_28 : decode cX7_corner 28 = .ok (.iconst 0, 1) := dk_3 (dk_at dksX7_corner_1 4 rfl rfl)
theorem dX7_corner_29 : decode cX7_corner 29 = .ok (.aload_n 3, 1) := dk_45 (dk_at dksX7_corner_1 5 rfl rfl)
theorem dX7_corner_30 : decode cX7_corner 30 = .ok (.iconst 1, 1) := dk_4 (dk_at dksX7_corner_1 6 rfl rfl)
theorem dX7_corner_31 : decode cX7_corner 31 = .ok (.iaload, 1) := dk_46 (dk_at dksX7_corner_1 7 rfl rfl)
theorem dX7_corner_32 : decode cX7_corner 32 = .ok (.ineg, 1) := dk_116 (dk_at dksX7_corner_1 8 rfl rfl)
theorem dX7_corner_33 : decode cX7_corner 33 = .ok (.iastore, 1) := dk_79 (dk_at dksX7_corner_1 9 rfl rfl)
theorem dX7_corner_34 : decode cX7_corner 34 = .ok (.dup, 1) := dk_89 (dk_at dksX7_corner_1 10 rfl rfl)
theorem dX7_corner_35 : decode cX7_corner 35 = .ok (.iconst 1, 1) := dk_4 (dk_at dksX7_corner_1 11 rfl rfl)
theorem dX7_corner_36 : decode cX7_corner 36 = .ok (.aload_n 3, 1) := dk_45 (dk_at dksX7_corner_1 12 rfl rfl)
theorem dX7_corner_37 : decode cX7_corner 37 = .ok (.iconst 0, 1) := dk_3 (dk_at dksX7_corner_1 13 rfl rfl)
theorem dX7_corner_38 : decode cX7_corner 38 = .ok (.iaload, 1) := dk_46 (dk_at dksX7_corner_1 14 rfl rfl)
theorem dX7_corner_39 : decode cX7_corner 39 = .ok (.iastore, 1) := dk_79 (dk_at dksX7_corner_1 15 rfl rfl)
theorem dX7_corner_40 : decode cX7_corner 40 = .ok (.astore_n 3, 1) := dk_78 (dk_at dksX7_corner_1 16 rfl rfl)
theorem dX7_corner_41 : decode cX7_corner 41 = .ok (.iinc 4 1, 3) := dk_132 4 1 (dk_at dksX7_corner_1 17 rfl rfl)
theorem dX7_corner_44 : decode cX7_corner 44 = .ok (.goto (-26), 3) := dk_167 255 230 (dk_at dksX7_corner_1 20 rfl rfl)
theorem dX7_corner_47 : decode cX7_corner 47 = .ok (.iconst 2, 1) := dk_5 (dk_at dksX7_corner_1 23 rfl rfl)
theorem dX7_corner_48 : decode cX7_corner 48 = .ok (.newarray .int, 2) := dk_188_10 (dk_at dksX7_corner_2 0 rfl rfl)
theorem dX7_corner_50 : decode cX7_corner 50 = .ok (.dup, 1) := dk_89 (dk_at dksX7_corner_2 2 rfl rfl)
theorem dX7_corner_51 : decode cX7_corner 51 = .ok (.iconst 0, 1) := dk_3 (dk_at dksX7_corner_2 3 rfl rfl)
theorem dX7_corner_52 : decode cX7_corner 52 = .ok (.aload_n 0, 1) := dk_42 (dk_at dksX7_corner_2 4 rfl rfl)
theorem dX7_corner_53 : decode cX7_corner 53 = .ok (.getfield 7, 3) := dk_180 0 7 (dk_at dksX7_corner_2 5 rfl rfl)
theorem dX7_corner_56 : decode cX7_corner 56 = .ok (.aload_n 3, 1) := dk_45 (dk_at dksX7_corner_2 8 rfl rfl)
theorem dX7_corner_57 : decode cX7_corner 57 = .ok (.iconst 0, 1) := dk_3 (dk_at dksX7_corner_2 9 rfl rfl)
theorem dX7_corner_58 : decode cX7_corner 58 = .ok (.iaload, 1) := dk_46 (dk_at dksX7_corner_2 10 rfl rfl)
theorem dX7_corner_59 : decode cX7_corner 59 = .ok (.iadd, 1) := dk_96 (dk_at dksX7_corner_2 11 rfl rfl)
theorem dX7_corner_60 : decode cX7_corner 60 = .ok (.iastore, 1) := dk_79 (dk_at dksX7_corner_2 12 rfl rfl)
theorem dX7_corner_61 : decode cX7_corner 61 = .ok (.dup, 1) := dk_89 (dk_at dksX7_corner_2 13 rfl rfl)
theorem dX7_corner_62 : decode cX7_corner 62 = .ok (.iconst 1, 1) := dk_4 (dk_at dksX7_corner_2 14 rfl rfl)
theorem dX7_corner_63 : decode cX7_corner 63 = .ok (.aload_n 0, 1) := dk_42 (dk_at dksX7_corner_2 15 rfl rfl)
theorem dX7_corner_64 : decode cX7_corner 64 = .ok (.getfield 13, 3) := dk_180 0 13 (dk_at dksX7_corner_2 16 rfl rfl)
theorem dX7_corner_67 : decode cX7_corner 67 = .ok (.aload_n 3, 1) := dk_45 (dk_at dksX7_corner_2 19 rfl rfl)
theorem dX7_corner_68 : decode cX7_corner 68 = .ok (.iconst 1, 1) := dk_4 (dk_at dksX7_corner_2 20 rfl rfl)
theorem dX7_corner_69 : decode cX7_corner 69 = .ok (.iaload, 1) := dk_46 (dk_at dksX7_corner_2 21 rfl rfl)
theorem dX7_corner_70 : decode cX7_corner 70 = .ok (.iadd, 1) := dk_96 (dk_at dksX7_corner_2 22 rfl rfl)
theorem dX7_corner_71 : decode cX7_corner 71 = .ok (.iastore, 1) := dk_79 (dk_at dksX7_corner_2 23 rfl rfl)
theorem dX7_corner_72 : decode cX7_corner 72 = .ok (.areturn, 1) := dk_176 (dk_at dksX7_corner_3 0 rfl rfl)
abbrev cX7_hasSixths : ByteArray := prog_2_method_7_code
def yX7_hasSixths : MethodName := ⟨RX7, "hasSixths", "(II)Z"⟩
def dkwX7_hasSixths_2 : List UInt8 := [104, 163, 0, 21, 29, 21, 4, 96, 16, 6, 42, 180, 0, 19, 104, 163, 0, 7, 4, 167, 0, 4, 3, 172]
abbrev dktX7_hasSixths_2 : List UInt8 := dkwX7_hasSixths_2 ++ []
def dkwX7_hasSixths_1 : List UInt8 := [184, 0, 51, 54, 4, 29, 16, 6, 42, 180, 0, 16, 104, 163, 0, 33, 21, 4, 16, 6, 42, 180, 0, 16]
abbrev dktX7_hasSixths_1 : List UInt8 := dkwX7_hasSixths_1 ++ dktX7_hasSixths_2
def dkwX7_hasSixths_0 : List UInt8 := [27, 16, 6, 42, 180, 0, 7, 104, 100, 184, 0, 51, 62, 28, 16, 6, 42, 180, 0, 13, 104, 100]
abbrev dktX7_hasSixths_0 : List UInt8 := dkwX7_hasSixths_0 ++ dktX7_hasSixths_1
theorem dksX7_hasSixths_0 : cX7_hasSixths.data.toList.drop 0 = dktX7_hasSixths_0 := by decide +kernel
theorem dksX7_hasSixths_1 : cX7_hasSixths.data.toList.drop 22 = dktX7_hasSixths_1 := dk_seg dksX7_hasSixths_0 22 rfl rfl
theorem dksX7_hasSixths_2 : cX7_hasSixths.data.toList.drop 46 = dktX7_hasSixths_2 := dk_seg dksX7_hasSixths_1 24 rfl rfl
theorem dX7_hasSixths_0 : decode cX7_hasSixths 0 = .ok (.iload_n 1, 1) := dk_27 (dk_at dksX7_hasSixths_0 0 rfl rfl)
theorem dX7_hasSixths_1 : decode cX7_hasSixths 1 = .ok (.bipush 6, 2) := dk_16 6 (dk_at dksX7_hasSixths_0 1 rfl rfl)
theorem dX7_hasSixths_3 : decode cX7_hasSixths 3 = .ok (.aload_n 0, 1) := dk_42 (dk_at dksX7_hasSixths_0 3 rfl rfl)
theorem dX7_hasSixths_4 : decode cX7_hasSixths 4 = .ok (.getfield 7, 3) := dk_180 0 7 (dk_at dksX7_hasSixths_0 4 rfl rfl)
theorem dX7_hasSixths_7 : decode cX7_hasSixths 7 = .ok (.imul, 1) := dk_104 (dk_at dksX7_hasSixths_0 7 rfl rfl)
theorem dX7_hasSixths_8 : decode cX7_hasSixths 8 = .ok (.isub, 1) := dk_100 (dk_at dksX7_hasSixths_0 8 rfl rfl)
theorem dX7_hasSixths_9 : decode cX7_hasSixths 9 = .ok (.invokestatic 51, 3) := dk_184 0 51 (dk_at dksX7_hasSixths_0 9 rfl rfl)
theorem dX7_hasSixths_12 : decode cX7_hasSixths 12 = .ok (.istore_n 3, 1) := dk_62 (dk_at dksX7_hasSixths_0 12 rfl rfl)
theorem dX7_hasSixths_13 : decode cX7_hasSixths 13 = .ok (.iload_n 2, 1) := dk_28 (dk_at dksX7_hasSixths_0 13 rfl rfl)
theorem dX7_hasSixths_14 : decode cX7_hasSixths 14 = .ok (.bipush 6, 2) := dk_16 6 (dk_at dksX7_hasSixths_0 14 rfl rfl)
theorem dX7_hasSixths_16 : decode cX7_hasSixths 16 = .ok (.aload_n 0, 1) := dk_42 (dk_at dksX7_hasSixths_0 16 rfl rfl)
theorem dX7_hasSixths_17 : decode cX7_hasSixths 17 = .ok (.getfield 13, 3) := dk_180 0 13 (dk_at dksX7_hasSixths_0 17 rfl rfl)
theorem dX7_hasSixths_20 : decode cX7_hasSixths 20 = .ok (.imul, 1) := dk_104 (dk_at dksX7_hasSixths_0 20 rfl rfl)
theorem dX7_hasSixths_21 : decode cX7_hasSixths 21 = .ok (.isub, 1) := dk_100 (dk_at dksX7_hasSixths_0 21 rfl rfl)
theorem dX7_hasSixths_22 : decode cX7_hasSixths 22 = .ok (.invokestatic 51, 3) := dk_184 0 51 (dk_at dksX7_hasSixths_1 0 rfl rfl)
theorem dX7_hasSixths_25 : decode cX7_hasSixths 25 = .ok (.istore 4, 2) := dk_54 4 (dk_at dksX7_hasSixths_1 3 rfl rfl)
theorem dX7_hasSixths_27 : decode cX7_hasSixths 27 = .ok (.iload_n 3, 1) := dk_29 (dk_at dksX7_hasSixths_1 5 rfl rfl)
theorem dX7_hasSixths_28 : decode cX7_hasSixths 28 = .ok (.bipush 6, 2) := dk_16 6 (dk_at dksX7_hasSixths_1 6 rfl rfl)
theorem dX7_hasSixths_30 : decode cX7_hasSixths 30 = .ok (.aload_n 0, 1) := dk_42 (dk_at dksX7_hasSixths_1 8 rfl rfl)
theorem dX7_hasSixths_31 : decode cX7_hasSixths 31 = .ok (.getfield 16, 3) := dk_180 0 16 (dk_at dksX7_hasSixths_1 9 rfl rfl)
theorem dX7_hasSixths_34 : decode cX7_hasSixths 34 = .ok (.imul, 1) := dk_104 (dk_at dksX7_hasSixths_1 12 rfl rfl)
theorem dX7_hasSixths_35 : decode cX7_hasSixths 35 = .ok (.if_icmp .gt 33, 3) := dk_163 0 33 (dk_at dksX7_hasSixths_1 13 rfl rfl)
theorem dX7_hasSixths_38 : decode cX7_hasSixths 38 = .ok (.iload 4, 2) := dk_21 4 (dk_at dksX7_hasSixths_1 16 rfl rfl)
theorem dX7_hasSixths_40 : decode cX7_hasSixths 40 = .ok (.bipush 6, 2) := dk_16 6 (dk_at dksX7_hasSixths_1 18 rfl rfl)
theorem dX7_hasSixths_42 : decode cX7_hasSixths 42 = .ok (.aload_n 0, 1) := dk_42 (dk_at dksX7_hasSixths_1 20 rfl rfl)
theorem dX7_hasSixths_43 : decode cX7_hasSixths 43 = .ok (.getfield 16, 3) := dk_180 0 16 (dk_at dksX7_hasSixths_1 21 rfl rfl)
theorem dX7_hasSixths_46 : decode cX7_hasSixths 46 = .ok (.imul, 1) := dk_104 (dk_at dksX7_hasSixths_2 0 rfl rfl)
theorem dX7_hasSixths_47 : decode cX7_hasSixths 47 = .ok (.if_icmp .gt 21, 3) := dk_163 0 21 (dk_at dksX7_hasSixths_2 1 rfl rfl)
theorem dX7_hasSixths_50 : decode cX7_hasSixths 50 = .ok (.iload_n 3, 1) := dk_29 (dk_at dksX7_hasSixths_2 4 rfl rfl)
theorem dX7_hasSixths_51 : decode cX7_hasSixths 51 = .ok (.iload 4, 2) := dk_21 4 (dk_at dksX7_hasSixths_2 5 rfl rfl)
theorem dX7_hasSixths_53 : decode cX7_hasSixths 53 = .ok (.iadd, 1) := dk_96 (dk_at dksX7_hasSixths_2 7 rfl rfl)
theorem dX7_hasSixths_54 : decode cX7_hasSixths 54 = .ok (.bipush 6, 2) := dk_16 6 (dk_at dksX7_hasSixths_2 8 rfl rfl)
theorem dX7_hasSixths_56 : decode cX7_hasSixths 56 = .ok (.aload_n 0, 1) := dk_42 (dk_at dksX7_hasSixths_2 10 rfl rfl)
theorem dX7_hasSixths_57 : decode cX7_hasSixths 57 = .ok (.getfield 19, 3) := dk_180 0 19 (dk_at dksX7_hasSixths_2 11 rfl rfl)
theorem dX7_hasSixths_60 : decode cX7_hasSixths 60 = .ok (.imul, 1) := dk_104 (dk_at dksX7_hasSixths_2 14 rfl rfl)
theorem dX7_hasSixths_61 : decode cX7_hasSixths 61 = .ok (.if_icmp .gt 7, 3) := dk_163 0 7 (dk_at dksX7_hasSixths_2 15 rfl rfl)
theorem dX7_hasSixths_64 : decode cX7_hasSixths 64 = .ok (.iconst 1, 1) := dk_4 (dk_at dksX7_hasSixths_2 18 rfl rfl)
theorem dX7_hasSixths_65 : decode cX7_hasSixths 65 = .ok (.goto 4, 3) := dk_167 0 4 (dk_at dksX7_hasSixths_2 19 rfl rfl)
theorem dX7_hasSixths_68 : decode cX7_hasSixths 68 = .ok (.iconst 0, 1) := dk_3 (dk_at dksX7_hasSixths_2 22 rfl rfl)
theorem dX7_hasSixths_69 : decode cX7_hasSixths 69 = .ok (.ireturn, 1) := dk_172 (dk_at dksX7_hasSixths_2 23 rfl rfl)
theorem q89 : (Jvm.Cond.initialized "TileServer$Area") ∈ lw_all := lw_g (lw_at lw_m1 28 rfl) rfl
theorem q411 : (Jvm.Cond.selects "TileServer$Area" ({ cls := "TileServer$Shape", name := "sketch", desc := "(I)LTileServer$Sketch;" } : Jvm.MethodName) ({ cls := "TileServer$Area", name := "sketch", desc := "(I)LTileServer$Sketch;" } : Jvm.MethodName)) ∈ lw_all := lw_g (lw_at lw_m2 110 rfl) rfl
theorem q412 : (Jvm.Cond.instanceMethod ({ cls := "TileServer$Area", name := "sketch", desc := "(I)LTileServer$Sketch;" } : Jvm.MethodName)) ∈ lw_all := lw_g (lw_at lw_m2 111 rfl) rfl
theorem q413 : (Jvm.Cond.code ({ cls := "TileServer$Area", name := "sketch", desc := "(I)LTileServer$Sketch;" } : Jvm.MethodName) prog_2_method_4_code (2 : Nat) (Option.some (Jvm.ClassFile.FieldType.object "TileServer$Sketch"))) ∈ lw_all := lw_g (lw_at lw_m2 112 rfl) rfl
theorem q414 : (Jvm.Cond.classLink "TileServer$Area" (27 : Nat) "TileServer$Blot") ∈ lw_all := lw_g (lw_at lw_m2 113 rfl) rfl
theorem q416 : (Jvm.Cond.methodLink "TileServer$Area" (29 : Nat) ({ cls := "TileServer$Area", name := "box", desc := "()LTileServer$Box;" } : Jvm.MethodName)) ∈ lw_all := lw_g (lw_at lw_m2 115 rfl) rfl
theorem q417 : (Jvm.Cond.instanceMethod ({ cls := "TileServer$Area", name := "box", desc := "()LTileServer$Box;" } : Jvm.MethodName)) ∈ lw_all := lw_g (lw_at lw_m2 116 rfl) rfl
theorem q418 : (Jvm.Cond.selects "TileServer$Area" ({ cls := "TileServer$Area", name := "box", desc := "()LTileServer$Box;" } : Jvm.MethodName) ({ cls := "TileServer$Area", name := "box", desc := "()LTileServer$Box;" } : Jvm.MethodName)) ∈ lw_all := lw_g (lw_at lw_m2 117 rfl) rfl
theorem q419 : (Jvm.Cond.code ({ cls := "TileServer$Area", name := "box", desc := "()LTileServer$Box;" } : Jvm.MethodName) prog_2_method_3_code (1 : Nat) (Option.some (Jvm.ClassFile.FieldType.object "TileServer$Box"))) ∈ lw_all := lw_g (lw_at lw_m2 118 rfl) rfl
theorem q420 : (Jvm.Cond.classLink "TileServer$Area" (22 : Nat) "TileServer$Box") ∈ lw_all := lw_g (lw_at lw_m2 119 rfl) rfl
theorem q421 : (Jvm.Cond.methodLink "TileServer$Area" (24 : Nat) ({ cls := "TileServer$Box", name := "<init>", desc := "(IIII)V" } : Jvm.MethodName)) ∈ lw_all := lw_g (lw_at lw_m2 120 rfl) rfl
theorem q422 : (Jvm.Cond.methodLink "TileServer$Area" (33 : Nat) ({ cls := "TileServer$Blot", name := "<init>", desc := "(LTileServer$Box;LTileServer$Area;)V" } : Jvm.MethodName)) ∈ lw_all := lw_g (lw_at lw_m2 121 rfl) rfl
theorem q544 : (Jvm.Cond.selects "TileServer$Area" ({ cls := "java/lang/Object", name := "getClass", desc := "()Ljava/lang/Class;" } : Jvm.MethodName) ({ cls := "java/lang/Object", name := "getClass", desc := "()Ljava/lang/Class;" } : Jvm.MethodName)) ∈ lw_all := lw_g (lw_at lw_m3 3 rfl) rfl
theorem q765 : (Jvm.Cond.selects "TileServer$Area" ({ cls := "TileServer$Shape", name := "box", desc := "()LTileServer$Box;" } : Jvm.MethodName) ({ cls := "TileServer$Area", name := "box", desc := "()LTileServer$Box;" } : Jvm.MethodName)) ∈ lw_all := lw_g (lw_at lw_m3 224 rfl) rfl
theorem q905 : (Jvm.Cond.instantiable "TileServer$Area" (7 : Nat)) ∈ lw_all := lw_g (lw_at lw_m4 124 rfl) rfl
theorem q907 : (Jvm.Cond.instanceMethod ({ cls := "TileServer$Area", name := "<init>", desc := "(IIIII)V" } : Jvm.MethodName)) ∈ lw_all := lw_g (lw_at lw_m4 126 rfl) rfl
theorem q908 : (Jvm.Cond.code ({ cls := "TileServer$Area", name := "<init>", desc := "(IIIII)V" } : Jvm.MethodName) prog_2_method_1_code (6 : Nat) (Option.none : Option Jvm.ClassFile.FieldType)) ∈ lw_all := lw_g (lw_at lw_m4 127 rfl) rfl
theorem q909 : (Jvm.Cond.methodLink "TileServer$Area" (1 : Nat) ({ cls := "TileServer$Shape", name := "<init>", desc := "(I)V" } : Jvm.MethodName)) ∈ lw_all := lw_g (lw_at lw_m4 128 rfl) rfl
theorem q910 : (Jvm.Cond.fieldLink "TileServer$Area" (16 : Nat) "TileServer$Area" "reach" "I") ∈ lw_all := lw_g (lw_at lw_m4 129 rfl) rfl
theorem q912 : (Jvm.Cond.fieldLink "TileServer$Area" (19 : Nat) "TileServer$Area" "cut" "I") ∈ lw_all := lw_g (lw_at lw_m4 131 rfl) rfl
theorem q914 : (Jvm.Cond.fieldLink "TileServer$Area" (7 : Nat) "TileServer$Area" "x" "I") ∈ lw_all := lw_g (lw_at lw_m4 133 rfl) rfl
theorem q917 : (Jvm.Cond.fieldLink "TileServer$Area" (13 : Nat) "TileServer$Area" "y" "I") ∈ lw_all := lw_g (lw_at lw_m4 136 rfl) rfl
theorem q920 : (Jvm.Cond.laysFinal "TileServer$Area" "TileServer$Area" "reach" "I") ∈ lw_all := lw_g (lw_at lw_m4 139 rfl) rfl
theorem q921 : (Jvm.Cond.soleField "TileServer$Area" "reach") ∈ lw_all := lw_g (lw_at lw_m4 140 rfl) rfl
theorem q922 : (Jvm.Cond.laysFinal "TileServer$Area" "TileServer$Area" "cut" "I") ∈ lw_all := lw_g (lw_at lw_m4 141 rfl) rfl
theorem q923 : (Jvm.Cond.soleField "TileServer$Area" "cut") ∈ lw_all := lw_g (lw_at lw_m4 142 rfl) rfl
theorem q924 : (Jvm.Cond.lays "TileServer$Area" "TileServer$Area" "x" "I") ∈ lw_all := lw_g (lw_at lw_m4 143 rfl) rfl
theorem q925 : (Jvm.Cond.soleField "TileServer$Area" "x") ∈ lw_all := lw_g (lw_at lw_m4 144 rfl) rfl
theorem q926 : (Jvm.Cond.lays "TileServer$Area" "TileServer$Area" "y" "I") ∈ lw_all := lw_g (lw_at lw_m4 145 rfl) rfl
theorem q927 : (Jvm.Cond.soleField "TileServer$Area" "y") ∈ lw_all := lw_g (lw_at lw_m4 146 rfl) rfl
theorem q928 : (Jvm.Cond.laysFinal "TileServer$Area" "TileServer$Shape" "number" "I") ∈ lw_all := lw_g (lw_at lw_m4 147 rfl) rfl
theorem q929 : (Jvm.Cond.lays "TileServer$Area" "TileServer$Shape" "labelWidth" "I") ∈ lw_all := lw_g (lw_at lw_m4 148 rfl) rfl
theorem q930 : (Jvm.Cond.lays "TileServer$Area" "TileServer$Shape" "rank" "I") ∈ lw_all := lw_g (lw_at lw_m4 149 rfl) rfl
theorem q931 : (Jvm.Cond.superclass "TileServer$Area" "TileServer$Shape") ∈ lw_all := lw_g (lw_at lw_m4 150 rfl) rfl
theorem q968 : (Jvm.Cond.selects "TileServer$Area" ({ cls := "java/lang/Object", name := "equals", desc := "(Ljava/lang/Object;)Z" } : Jvm.MethodName) ({ cls := "java/lang/Object", name := "equals", desc := "(Ljava/lang/Object;)Z" } : Jvm.MethodName)) ∈ lw_all := lw_g (lw_at lw_m4 187 rfl) rfl
theorem q1034 : (Jvm.Cond.selects "TileServer$Area" ({ cls := "TileServer$Shape", name := "kind", desc := "()C" } : Jvm.MethodName) ({ cls := "TileServer$Area", name := "kind", desc := "()C" } : Jvm.MethodName)) ∈ lw_all := lw_g (lw_at lw_m5 13 rfl) rfl
theorem q1035 : (Jvm.Cond.instanceMethod ({ cls := "TileServer$Area", name := "kind", desc := "()C" } : Jvm.MethodName)) ∈ lw_all := lw_g (lw_at lw_m5 14 rfl) rfl
theorem q1036 : (Jvm.Cond.code ({ cls := "TileServer$Area", name := "kind", desc := "()C" } : Jvm.MethodName) prog_2_method_2_code (1 : Nat) (Option.some Jvm.ClassFile.FieldType.char)) ∈ lw_all := lw_g (lw_at lw_m5 15 rfl) rfl
theorem q1186 : (Jvm.Cond.instanceMethod ({ cls := "TileServer$Area", name := "outline", desc := "()Ljava/util/List;" } : Jvm.MethodName)) ∈ lw_all := lw_g (lw_at lw_m5 165 rfl) rfl
theorem q1187 : (Jvm.Cond.selects "TileServer$Area" ({ cls := "TileServer$Area", name := "outline", desc := "()Ljava/util/List;" } : Jvm.MethodName) ({ cls := "TileServer$Area", name := "outline", desc := "()Ljava/util/List;" } : Jvm.MethodName)) ∈ lw_all := lw_g (lw_at lw_m5 166 rfl) rfl
theorem q1188 : (Jvm.Cond.code ({ cls := "TileServer$Area", name := "outline", desc := "()Ljava/util/List;" } : Jvm.MethodName) prog_2_method_5_code (3 : Nat) (Option.some (Jvm.ClassFile.FieldType.object "java/util/List"))) ∈ lw_all := lw_g (lw_at lw_m5 167 rfl) rfl
theorem q1189 : (Jvm.Cond.classLink "TileServer$Area" (36 : Nat) "java/util/ArrayList") ∈ lw_all := lw_g (lw_at lw_m5 168 rfl) rfl
theorem q1190 : (Jvm.Cond.methodLink "TileServer$Area" (38 : Nat) ({ cls := "java/util/ArrayList", name := "<init>", desc := "()V" } : Jvm.MethodName)) ∈ lw_all := lw_g (lw_at lw_m5 169 rfl) rfl
theorem q1191 : (Jvm.Cond.methodLink "TileServer$Area" (41 : Nat) ({ cls := "TileServer$Area", name := "corner", desc := "(II)[I" } : Jvm.MethodName)) ∈ lw_all := lw_g (lw_at lw_m5 170 rfl) rfl
theorem q1192 : (Jvm.Cond.privateMethod ({ cls := "TileServer$Area", name := "corner", desc := "(II)[I" } : Jvm.MethodName)) ∈ lw_tbl := lw_at lw_m5 171 rfl
theorem q1193 : (Jvm.Cond.instanceMethod ({ cls := "TileServer$Area", name := "corner", desc := "(II)[I" } : Jvm.MethodName)) ∈ lw_all := lw_g (lw_at lw_m5 172 rfl) rfl
theorem q1194 : (Jvm.Cond.code ({ cls := "TileServer$Area", name := "corner", desc := "(II)[I" } : Jvm.MethodName) prog_2_method_6_code (5 : Nat) (Option.some (Jvm.ClassFile.FieldType.array Jvm.ClassFile.FieldType.int))) ∈ lw_all := lw_g (lw_at lw_m5 173 rfl) rfl
theorem q1195 : (Jvm.Cond.interfaceEntry "TileServer$Area" (45 : Nat)) ∈ lw_tbl := lw_at lw_m5 174 rfl
theorem q1196 : (Jvm.Cond.methodLink "TileServer$Area" (45 : Nat) ({ cls := "java/util/List", name := "add", desc := "(Ljava/lang/Object;)Z" } : Jvm.MethodName)) ∈ lw_all := lw_g (lw_at lw_m5 175 rfl) rfl
theorem q1212 : (Jvm.Cond.instanceMethod ({ cls := "TileServer$Area", name := "hasSixths", desc := "(II)Z" } : Jvm.MethodName)) ∈ lw_all := lw_g (lw_at lw_m5 191 rfl) rfl
theorem q1213 : (Jvm.Cond.selects "TileServer$Area" ({ cls := "TileServer$Area", name := "hasSixths", desc := "(II)Z" } : Jvm.MethodName) ({ cls := "TileServer$Area", name := "hasSixths", desc := "(II)Z" } : Jvm.MethodName)) ∈ lw_all := lw_g (lw_at lw_m5 192 rfl) rfl
theorem q1214 : (Jvm.Cond.code ({ cls := "TileServer$Area", name := "hasSixths", desc := "(II)Z" } : Jvm.MethodName) prog_2_method_7_code (5 : Nat) (Option.some Jvm.ClassFile.FieldType.boolean)) ∈ lw_all := lw_g (lw_at lw_m5 193 rfl) rfl
theorem q1215 : (Jvm.Cond.methodLink "TileServer$Area" (51 : Nat) ({ cls := "java/lang/Math", name := "abs", desc := "(I)I" } : Jvm.MethodName)) ∈ lw_all := lw_g (lw_at lw_m5 194 rfl) rfl
theorem q1988 : (Jvm.Cond.castable "TileServer$Area" "TileServer$Shape") ∈ lw_tbl := lw_at lw_m9 7 rfl
theorem q2007 : (Jvm.Cond.castable "TileServer$Area" "java/lang/Object") ∈ lw_tbl := lw_at lw_m9 26 rfl
theorem in_X7 : ∀ w ∈ wsX70, w ∈ lw_all := lw_in wsX70 [928, 929, 930, 920, 922, 924, 926] (by decide +kernel) (by decide +kernel)
/-! TileServer$Sketch -/
set_option maxRecDepth 100000
def RX8 : String := "TileServer$Sketch"
abbrev cX8_init : ByteArray := prog_9_method_1_code
def yX8_init : MethodName := ⟨RX8, "<init>", "(LTileServer$Box;)V"⟩
def dkwX8_init_0 : List UInt8 := [42, 183, 0, 1, 42, 43, 181, 0, 7, 177]
abbrev dktX8_init_0 : List UInt8 := dkwX8_init_0 ++ []
theorem dksX8_init_0 : cX8_init.data.toList.drop 0 = dktX8_init_0 := by decide +kernel
theorem dX8_init_0 : decode cX8_init 0 = .ok (.aload_n 0, 1) := dk_42 (dk_at dksX8_init_0 0 rfl rfl)
theorem dX8_init_1 : decode cX8_init 1 = .ok (.invokespecial 1, 3) := dk_183 0 1 (dk_at dksX8_init_0 1 rfl rfl)
theorem dX8_init_4 : decode cX8_init 4 = .ok (.aload_n 0, 1) := dk_42 (dk_at dksX8_init_0 4 rfl rfl)
theorem dX8_init_5 : decode cX8_init 5 = .ok (.aload_n 1, 1) := dk_43 (dk_at dksX8_init_0 5 rfl rfl)
theorem dX8_init_6 : decode cX8_init 6 = .ok (.putfield 7, 3) := dk_181 0 7 (dk_at dksX8_init_0 6 rfl rfl)
theorem dX8_init_9 : decode cX8_init 9 = .ok (.return_, 1) := dk_177 (dk_at dksX8_init_0 9 rfl rfl)
abbrev cX8_showsIn : ByteArray := prog_9_method_2_code
def yX8_showsIn : MethodName := ⟨RX8, "showsIn", "(IIII)Z"⟩
def dkwX8_showsIn_0 : List UInt8 := [42, 180, 0, 7, 27, 28, 29, 21, 4, 182, 0, 13, 172]
abbrev dktX8_showsIn_0 : List UInt8 := dkwX8_showsIn_0 ++ []
theorem dksX8_showsIn_0 : cX8_showsIn.data.toList.drop 0 = dktX8_showsIn_0 := by decide +kernel
theorem dX8_showsIn_0 : decode cX8_showsIn 0 = .ok (.aload_n 0, 1) := dk_42 (dk_at dksX8_showsIn_0 0 rfl rfl)
theorem dX8_showsIn_1 : decode cX8_showsIn 1 = .ok (.getfield 7, 3) := dk_180 0 7 (dk_at dksX8_showsIn_0 1 rfl rfl)
theorem dX8_showsIn_4 : decode cX8_showsIn 4 = .ok (.iload_n 1, 1) := dk_27 (dk_at dksX8_showsIn_0 4 rfl rfl)
theorem dX8_showsIn_5 : decode cX8_showsIn 5 = .ok (.iload_n 2, 1) := dk_28 (dk_at dksX8_showsIn_0 5 rfl rfl)
theorem dX8_showsIn_6 : decode cX8_showsIn 6 = .ok (.iload_n 3, 1) := dk_29 (dk_at dksX8_showsIn_0 6 rfl rfl)
theorem dX8_showsIn_7 : decode cX8_showsIn 7 = .ok (.iload 4, 2) := dk_21 4 (dk_at dksX8_showsIn_0 7 rfl rfl)
theorem dX8_showsIn_9 : decode cX8_showsIn 9 = .ok (.invokevirtual 13, 3) := dk_182 0 13 (dk_at dksX8_showsIn_0 9 rfl rfl)
theorem dX8_showsIn_12 : decode cX8_showsIn 12 = .ok (.ireturn, 1) := dk_172 (dk_at dksX8_showsIn_0 12 rfl rfl)
theorem q91 : (Jvm.Cond.initialized "TileServer$Sketch") ∈ lw_all := lw_g (lw_at lw_m1 30 rfl) rfl
theorem q426 : (Jvm.Cond.instanceMethod ({ cls := "TileServer$Sketch", name := "<init>", desc := "(LTileServer$Box;)V" } : Jvm.MethodName)) ∈ lw_all := lw_g (lw_at lw_m2 125 rfl) rfl
theorem q427 : (Jvm.Cond.code ({ cls := "TileServer$Sketch", name := "<init>", desc := "(LTileServer$Box;)V" } : Jvm.MethodName) prog_9_method_1_code (2 : Nat) (Option.none : Option Jvm.ClassFile.FieldType)) ∈ lw_all := lw_g (lw_at lw_m2 126 rfl) rfl
theorem q428 : (Jvm.Cond.methodLink "TileServer$Sketch" (1 : Nat) ({ cls := "java/lang/Object", name := "<init>", desc := "()V" } : Jvm.MethodName)) ∈ lw_all := lw_g (lw_at lw_m2 127 rfl) rfl
theorem q430 : (Jvm.Cond.fieldLink "TileServer$Sketch" (7 : Nat) "TileServer$Sketch" "box" "LTileServer$Box;") ∈ lw_all := lw_g (lw_at lw_m2 129 rfl) rfl
theorem q434 : (Jvm.Cond.soleField "TileServer$Sketch" "box") ∈ lw_all := lw_g (lw_at lw_m2 133 rfl) rfl
theorem q623 : (Jvm.Cond.instanceMethod ({ cls := "TileServer$Sketch", name := "showsIn", desc := "(IIII)Z" } : Jvm.MethodName)) ∈ lw_all := lw_g (lw_at lw_m3 82 rfl) rfl
theorem q624 : (Jvm.Cond.sameMethod "TileServer$Sketch" "TileServer$Sketch" "showsIn" "(IIII)Z") ∈ lw_all := lw_g (lw_at lw_m3 83 rfl) rfl
theorem q629 : (Jvm.Cond.code ({ cls := "TileServer$Sketch", name := "showsIn", desc := "(IIII)Z" } : Jvm.MethodName) prog_9_method_2_code (5 : Nat) (Option.some Jvm.ClassFile.FieldType.boolean)) ∈ lw_all := lw_g (lw_at lw_m3 88 rfl) rfl
theorem q630 : (Jvm.Cond.methodLink "TileServer$Sketch" (13 : Nat) ({ cls := "TileServer$Box", name := "meets", desc := "(IIII)Z" } : Jvm.MethodName)) ∈ lw_all := lw_g (lw_at lw_m3 89 rfl) rfl
theorem q643 : (Jvm.Cond.declares ({ cls := "TileServer$Sketch", name := "showsIn", desc := "(IIII)Z" } : Jvm.MethodName)) ∈ lw_tbl := lw_at lw_m3 102 rfl
/-! TileServer$Stroke -/
set_option maxRecDepth 100000
def RX9 : String := "TileServer$Stroke"
abbrev cX9_init : ByteArray := prog_10_method_1_code
def yX9_init : MethodName := ⟨RX9, "<init>", "(LTileServer$Box;Ljava/util/List;)V"⟩
def dkwX9_init_0 : List UInt8 := [42, 43, 183, 0, 1, 42, 44, 181, 0, 7, 177]
abbrev dktX9_init_0 : List UInt8 := dkwX9_init_0 ++ []
theorem dksX9_init_0 : cX9_init.data.toList.drop 0 = dktX9_init_0 := by decide +kernel
theorem dX9_init_0 : decode cX9_init 0 = .ok (.aload_n 0, 1) := dk_42 (dk_at dksX9_init_0 0 rfl rfl)
theorem dX9_init_1 : decode cX9_init 1 = .ok (.aload_n 1, 1) := dk_43 (dk_at dksX9_init_0 1 rfl rfl)
theorem dX9_init_2 : decode cX9_init 2 = .ok (.invokespecial 1, 3) := dk_183 0 1 (dk_at dksX9_init_0 2 rfl rfl)
theorem dX9_init_5 : decode cX9_init 5 = .ok (.aload_n 0, 1) := dk_42 (dk_at dksX9_init_0 5 rfl rfl)
theorem dX9_init_6 : decode cX9_init 6 = .ok (.aload_n 2, 1) := dk_44 (dk_at dksX9_init_0 6 rfl rfl)
theorem dX9_init_7 : decode cX9_init 7 = .ok (.putfield 7, 3) := dk_181 0 7 (dk_at dksX9_init_0 7 rfl rfl)
theorem dX9_init_10 : decode cX9_init 10 = .ok (.return_, 1) := dk_177 (dk_at dksX9_init_0 10 rfl rfl)
abbrev cX9_segmentsIn : ByteArray := prog_10_method_7_code
def yX9_segmentsIn : MethodName := ⟨RX9, "segmentsIn", "(IIII)I"⟩
def dkwX9_segmentsIn_2 : List UInt8 := [172]
abbrev dktX9_segmentsIn_2 : List UInt8 := dkwX9_segmentsIn_2 ++ []
def dkwX9_segmentsIn_1 : List UInt8 := [21, 4, 182, 0, 60, 153, 0, 7, 4, 167, 0, 4, 3, 96, 54, 5, 132, 6, 1, 167, 255, 220, 21, 5]
abbrev dktX9_segmentsIn_1 : List UInt8 := dkwX9_segmentsIn_1 ++ dktX9_segmentsIn_2
def dkwX9_segmentsIn_0 : List UInt8 := [3, 54, 5, 3, 54, 6, 21, 6, 42, 182, 0, 57, 162, 0, 33, 21, 5, 42, 21, 6, 27, 28, 29]
abbrev dktX9_segmentsIn_0 : List UInt8 := dkwX9_segmentsIn_0 ++ dktX9_segmentsIn_1
theorem dksX9_segmentsIn_0 : cX9_segmentsIn.data.toList.drop 0 = dktX9_segmentsIn_0 := by decide +kernel
theorem dksX9_segmentsIn_1 : cX9_segmentsIn.data.toList.drop 23 = dktX9_segmentsIn_1 := dk_seg dksX9_segmentsIn_0 23 rfl rfl
theorem dksX9_segmentsIn_2 : cX9_segmentsIn.data.toList.drop 47 = dktX9_segmentsIn_2 := dk_seg dksX9_segmentsIn_1 24 rfl rfl
theorem dX9_segmentsIn_0 : decode cX9_segmentsIn 0 = .ok (.iconst 0, 1) := dk_3 (dk_at dksX9_segmentsIn_0 0 rfl rfl)
theorem dX9_segmentsIn_1 : decode cX9_segmentsIn 1 = .ok (.istore 5, 2) := dk_54 5 (dk_at dksX9_segmentsIn_0 1 rfl rfl)
theorem dX9_segmentsIn_3 : decode cX9_segmentsIn 3 = .ok (.iconst 0, 1) := dk_3 (dk_at dksX9_segmentsIn_0 3 rfl rfl)
theorem dX9_segmentsIn_4 : decode cX9_segmentsIn 4 = .ok (.istore 6, 2) := dk_54 6 (dk_at dksX9_segmentsIn_0 4 rfl rfl)
theorem dX9_segmentsIn_6 : decode cX9_segmentsIn 6 = .ok (.iload 6, 2) := dk_21 6 (dk_at dksX9_segmentsIn_0 6 rfl rfl)
theorem dX9_segmentsIn_8 : decode cX9_segmentsIn 8 = .ok (.aload_n 0, 1) := dk_42 (dk_at dksX9_segmentsIn_0 8 rfl rfl)
theorem dX9_segmentsIn_9 : decode cX9_segmentsIn 9 = .ok (.invokevirtual 57, 3) := dk_182 0 57 (dk_at dksX9_segmentsIn_0 9 rfl rfl)
theorem dX9_segmentsIn_12 : decode cX9_segmentsIn 12 = .ok (.if_icmp .ge 33, 3) := dk_162 0 33 (dk_at dksX9_segmentsIn_0 12 rfl rfl)
theorem dX9_segmentsIn_15 : decode cX9_segmentsIn 15 = .ok (.iload 5, 2) := dk_21 5 (dk_at dksX9_segmentsIn_0 15 rfl rfl)
theorem dX9_segmentsIn_17 : decode cX9_segmentsIn 17 = .ok (.aload_n 0, 1) := dk_42 (dk_at dksX9_segmentsIn_0 17 rfl rfl)
theorem dX9_segmentsIn_18 : decode cX9_segmentsIn 18 = .ok (.iload 6, 2) := dk_21 6 (dk_at dksX9_segmentsIn_0 18 rfl rfl)
theorem dX9_segmentsIn_20 : decode cX9_segmentsIn 20 = .ok (.iload_n 1, 1) := dk_27 (dk_at dksX9_segmentsIn_0 20 rfl rfl)
theorem dX9_segmentsIn_21 : decode cX9_segmentsIn 21 = .ok (.iload_n 2, 1) := dk_28 (dk_at dksX9_segmentsIn_0 21 rfl rfl)
theorem dX9_segmentsIn_22 : decode cX9_segmentsIn 22 = .ok (.iload_n 3, 1) := dk_29 (dk_at dksX9_segmentsIn_0 22 rfl rfl)
theorem dX9_segmentsIn_23 : decode cX9_segmentsIn 23 = .ok (.iload 4, 2) := dk_21 4 (dk_at dksX9_segmentsIn_1 0 rfl rfl)
theorem dX9_segmentsIn_25 : decode cX9_segmentsIn 25 = .ok (.invokevirtual 60, 3) := dk_182 0 60 (dk_at dksX9_segmentsIn_1 2 rfl rfl)
theorem dX9_segmentsIn_28 : decode cX9_segmentsIn 28 = .ok (.ifCond .eq 7, 3) := dk_153 0 7 (dk_at dksX9_segmentsIn_1 5 rfl rfl)
theorem dX9_segmentsIn_31 : decode cX9_segmentsIn 31 = .ok (.iconst 1, 1) := dk_4 (dk_at dksX9_segmentsIn_1 8 rfl rfl)
theorem dX9_segmentsIn_32 : decode cX9_segmentsIn 32 = .ok (.goto 4, 3) := dk_167 0 4 (dk_at dksX9_segmentsIn_1 9 rfl rfl)
theorem dX9_segmentsIn_35 : decode cX9_segmentsIn 35 = .ok (.iconst 0, 1) := dk_3 (dk_at dksX9_segmentsIn_1 12 rfl rfl)
theorem dX9_segmentsIn_36 : decode cX9_segmentsIn 36 = .ok (.iadd, 1) := dk_96 (dk_at dksX9_segmentsIn_1 13 rfl rfl)
theorem dX9_segmentsIn_37 : decode cX9_segmentsIn 37 = .ok (.istore 5, 2) := dk_54 5 (dk_at dksX9_segmentsIn_1 14 rfl rfl)
theorem dX9_segmentsIn_39 : decode cX9_segmentsIn 39 = .ok (.iinc 6 1, 3) := dk_132 6 1 (dk_at dksX9_segmentsIn_1 16 rfl rfl)
theorem dX9_segmentsIn_42 : decode cX9_segmentsIn 42 = .ok (.goto (-36), 3) := dk_167 255 220 (dk_at dksX9_segmentsIn_1 19 rfl rfl)
theorem dX9_segmentsIn_45 : decode cX9_segmentsIn 45 = .ok (.iload 5, 2) := dk_21 5 (dk_at dksX9_segmentsIn_1 22 rfl rfl)
theorem dX9_segmentsIn_47 : decode cX9_segmentsIn 47 = .ok (.ireturn, 1) := dk_172 (dk_at dksX9_segmentsIn_2 0 rfl rfl)
abbrev cX9_segments : ByteArray := prog_10_method_2_code
def yX9_segments : MethodName := ⟨RX9, "segments", "()I"⟩
def dkwX9_segments_0 : List UInt8 := [42, 180, 0, 7, 185, 0, 13, 1, 0, 4, 100, 172]
abbrev dktX9_segments_0 : List UInt8 := dkwX9_segments_0 ++ []
theorem dksX9_segments_0 : cX9_segments.data.toList.drop 0 = dktX9_segments_0 := by decide +kernel
theorem dX9_segments_0 : decode cX9_segments 0 = .ok (.aload_n 0, 1) := dk_42 (dk_at dksX9_segments_0 0 rfl rfl)
theorem dX9_segments_1 : decode cX9_segments 1 = .ok (.getfield 7, 3) := dk_180 0 7 (dk_at dksX9_segments_0 1 rfl rfl)
theorem dX9_segments_4 : decode cX9_segments 4 = .ok (.invokeinterface 13 1, 5) := by decide +kernel
theorem dX9_segments_9 : decode cX9_segments 9 = .ok (.iconst 1, 1) := dk_4 (dk_at dksX9_segments_0 9 rfl rfl)
theorem dX9_segments_10 : decode cX9_segments 10 = .ok (.isub, 1) := dk_100 (dk_at dksX9_segments_0 10 rfl rfl)
theorem dX9_segments_11 : decode cX9_segments 11 = .ok (.ireturn, 1) := dk_172 (dk_at dksX9_segments_0 11 rfl rfl)
abbrev cX9_segmentMeets : ByteArray := prog_10_method_3_code
def yX9_segmentMeets : MethodName := ⟨RX9, "segmentMeets", "(IIIII)Z"⟩
def dkwX9_segmentMeets_3 : List UInt8 := [28, 29, 21, 4, 21, 5, 184, 0, 29, 154, 0, 7, 4, 167, 0, 4, 3, 172]
abbrev dktX9_segmentMeets_3 : List UInt8 := dkwX9_segmentMeets_3 ++ []
def dkwX9_segmentMeets_2 : List UInt8 := [153, 0, 40, 25, 6, 4, 46, 25, 7, 4, 46, 29, 21, 5, 184, 0, 25, 153, 0, 23, 25, 6, 25, 7]
abbrev dktX9_segmentMeets_2 : List UInt8 := dkwX9_segmentMeets_2 ++ dktX9_segmentMeets_3
def dkwX9_segmentMeets_1 : List UInt8 := [185, 0, 19, 2, 0, 192, 0, 23, 58, 7, 25, 6, 3, 46, 25, 7, 3, 46, 28, 21, 4, 184, 0, 25]
abbrev dktX9_segmentMeets_1 : List UInt8 := dkwX9_segmentMeets_1 ++ dktX9_segmentMeets_2
def dkwX9_segmentMeets_0 : List UInt8 := [42, 180, 0, 7, 27, 185, 0, 19, 2, 0, 192, 0, 23, 58, 6, 42, 180, 0, 7, 27, 4, 96]
abbrev dktX9_segmentMeets_0 : List UInt8 := dkwX9_segmentMeets_0 ++ dktX9_segmentMeets_1
theorem dksX9_segmentMeets_0 : cX9_segmentMeets.data.toList.drop 0 = dktX9_segmentMeets_0 := by decide +kernel
theorem dksX9_segmentMeets_1 : cX9_segmentMeets.data.toList.drop 22 = dktX9_segmentMeets_1 := dk_seg dksX9_segmentMeets_0 22 rfl rfl
theorem dksX9_segmentMeets_2 : cX9_segmentMeets.data.toList.drop 46 = dktX9_segmentMeets_2 := dk_seg dksX9_segmentMeets_1 24 rfl rfl
theorem dksX9_segmentMeets_3 : cX9_segmentMeets.data.toList.drop 70 = dktX9_segmentMeets_3 := dk_seg dksX9_segmentMeets_2 24 rfl rfl
theorem dX9_segmentMeets_0 : decode cX9_segmentMeets 0 = .ok (.aload_n 0, 1) := dk_42 (dk_at dksX9_segmentMeets_0 0 rfl rfl)
theorem dX9_segmentMeets_1 : decode cX9_segmentMeets 1 = .ok (.getfield 7, 3) := dk_180 0 7 (dk_at dksX9_segmentMeets_0 1 rfl rfl)
theorem dX9_segmentMeets_4 : decode cX9_segmentMeets 4 = .ok (.iload_n 1, 1) := dk_27 (dk_at dksX9_segmentMeets_0 4 rfl rfl)
theorem dX9_segmentMeets_5 : decode cX9_segmentMeets 5 = .ok (.invokeinterface 19 2, 5) := by decide +kernel
theorem dX9_segmentMeets_10 : decode cX9_segmentMeets 10 = .ok (.checkcast 23, 3) := dk_192 0 23 (dk_at dksX9_segmentMeets_0 10 rfl rfl)
theorem dX9_segmentMeets_13 : decode cX9_segmentMeets 13 = .ok (.astore 6, 2) := dk_58 6 (dk_at dksX9_segmentMeets_0 13 rfl rfl)
theorem dX9_segmentMeets_15 : decode cX9_segmentMeets 15 = .ok (.aload_n 0, 1) := dk_42 (dk_at dksX9_segmentMeets_0 15 rfl rfl)
theorem dX9_segmentMeets_16 : decode cX9_segmentMeets 16 = .ok (.getfield 7, 3) := dk_180 0 7 (dk_at dksX9_segmentMeets_0 16 rfl rfl)
theorem dX9_segmentMeets_19 : decode cX9_segmentMeets 19 = .ok (.iload_n 1, 1) := dk_27 (dk_at dksX9_segmentMeets_0 19 rfl rfl)
theorem dX9_segmentMeets_20 : decode cX9_segmentMeets 20 = .ok (.iconst 1, 1) := dk_4 (dk_at dksX9_segmentMeets_0 20 rfl rfl)
theorem dX9_segmentMeets_21 : decode cX9_segmentMeets 21 = .ok (.iadd, 1) := dk_96 (dk_at dksX9_segmentMeets_0 21 rfl rfl)
theorem dX9_segmentMeets_22 : decode cX9_segmentMeets 22 = .ok (.invokeinterface 19 2, 5) := by decide +kernel
theorem dX9_segmentMeets_27 : decode cX9_segmentMeets 27 = .ok (.checkcast 23, 3) := dk_192 0 23 (dk_at dksX9_segmentMeets_1 5 rfl rfl)
theorem dX9_segmentMeets_30 : decode cX9_segmentMeets 30 = .ok (.astore 7, 2) := dk_58 7 (dk_at dksX9_segmentMeets_1 8 rfl rfl)
theorem dX9_segmentMeets_32 : decode cX9_segmentMeets 32 = .ok (.aload 6, 2) := dk_25 6 (dk_at dksX9_segmentMeets_1 10 rfl rfl)
theorem dX9_segmentMeets_34 : decode cX9_segmentMeets 34 = .ok (.iconst 0, 1) := dk_3 (dk_at dksX9_segmentMeets_1 12 rfl rfl)
theorem dX9_segmentMeets_35 : decode cX9_segmentMeets 35 = .ok (.iaload, 1) := dk_46 (dk_at dksX9_segmentMeets_1 13 rfl rfl)
theorem dX9_segmentMeets_36 : decode cX9_segmentMeets 36 = .ok (.aload 7, 2) := dk_25 7 (dk_at dksX9_segmentMeets_1 14 rfl rfl)
theorem dX9_segmentMeets_38 : decode cX9_segmentMeets 38 = .ok (.iconst 0, 1) := dk_3 (dk_at dksX9_segmentMeets_1 16 rfl rfl)
theorem dX9_segmentMeets_39 : decode cX9_segmentMeets 39 = .ok (.iaload, 1) := dk_46 (dk_at dksX9_segmentMeets_1 17 rfl rfl)
theorem dX9_segmentMeets_40 : decode cX9_segmentMeets 40 = .ok (.iload_n 2, 1) := dk_28 (dk_at dksX9_segmentMeets_1 18 rfl rfl)
theorem dX9_segmentMeets_41 : decode cX9_segmentMeets 41 = .ok (.iload 4, 2) := dk_21 4 (dk_at dksX9_segmentMeets_1 19 rfl rfl)
theorem dX9_segmentMeets_43 : decode cX9_segmentMeets 43 = .ok (.invokestatic 25, 3) := dk_184 0 25 (dk_at dksX9_segmentMeets_1 21 rfl rfl)
theorem dX9_segmentMeets_46 : decode cX9_segmentMeets 46 = .ok (.ifCond .eq 40, 3) := dk_153 0 40 (dk_at dksX9_segmentMeets_2 0 rfl rfl)
theorem dX9_segmentMeets_49 : decode cX9_segmentMeets 49 = .ok (.aload 6, 2) := dk_25 6 (dk_at dksX9_segmentMeets_2 3 rfl rfl)
theorem dX9_segmentMeets_51 : decode cX9_segmentMeets 51 = .ok (.iconst 1, 1) := dk_4 (dk_at dksX9_segmentMeets_2 5 rfl rfl)
theorem dX9_segmentMeets_52 : decode cX9_segmentMeets 52 = .ok (.iaload, 1) := dk_46 (dk_at dksX9_segmentMeets_2 6 rfl rfl)
theorem dX9_segmentMeets_53 : decode cX9_segmentMeets 53 = .ok (.aload 7, 2) := dk_25 7 (dk_at dksX9_segmentMeets_2 7 rfl rfl)
theorem dX9_segmentMeets_55 : decode cX9_segmentMeets 55 = .ok (.iconst 1, 1) := dk_4 (dk_at dksX9_segmentMeets_2 9 rfl rfl)
theorem dX9_segmentMeets_56 : decode cX9_segmentMeets 56 = .ok (.iaload, 1) := dk_46 (dk_at dksX9_segmentMeets_2 10 rfl rfl)
theorem dX9_segmentMeets_57 : decode cX9_segmentMeets 57 = .ok (.iload_n 3, 1) := dk_29 (dk_at dksX9_segmentMeets_2 11 rfl rfl)
theorem dX9_segmentMeets_58 : decode cX9_segmentMeets 58 = .ok (.iload 5, 2) := dk_21 5 (dk_at dksX9_segmentMeets_2 12 rfl rfl)
theorem dX9_segmentMeets_60 : decode cX9_segmentMeets 60 = .ok (.invokestatic 25, 3) := dk_184 0 25 (dk_at dksX9_segmentMeets_2 14 rfl rfl)
theorem dX9_segmentMeets_63 : decode cX9_segmentMeets 63 = .ok (.ifCond .eq 23, 3) := dk_153 0 23 (dk_at dksX9_segmentMeets_2 17 rfl rfl)
theorem dX9_segmentMeets_66 : decode cX9_segmentMeets 66 = .ok (.aload 6, 2) := dk_25 6 (dk_at dksX9_segmentMeets_2 20 rfl rfl)
theorem dX9_segmentMeets_68 : decode cX9_segmentMeets 68 = .ok (.aload 7, 2) := dk_25 7 (dk_at dksX9_segmentMeets_2 22 rfl rfl)
theorem dX9_segmentMeets_70 : decode cX9_segmentMeets 70 = .ok (.iload_n 2, 1) := dk_28 (dk_at dksX9_segmentMeets_3 0 rfl rfl)
theorem dX9_segmentMeets_71 : decode cX9_segmentMeets 71 = .ok (.iload_n 3, 1) := dk_29 (dk_at dksX9_segmentMeets_3 1 rfl rfl)
theorem dX9_segmentMeets_72 : decode cX9_segmentMeets 72 = .ok (.iload 4, 2) := dk_21 4 (dk_at dksX9_segmentMeets_3 2 rfl rfl)
theorem dX9_segmentMeets_74 : decode cX9_segmentMeets 74 = .ok (.iload 5, 2) := dk_21 5 (dk_at dksX9_segmentMeets_3 4 rfl rfl)
theorem dX9_segmentMeets_76 : decode cX9_segmentMeets 76 = .ok (.invokestatic 29, 3) := dk_184 0 29 (dk_at dksX9_segmentMeets_3 6 rfl rfl)
theorem dX9_segmentMeets_79 : decode cX9_segmentMeets 79 = .ok (.ifCond .ne 7, 3) := dk_154 0 7 (dk_at dksX9_segmentMeets_3 9 rfl rfl)
theorem dX9_segmentMeets_82 : decode cX9_segmentMeets 82 = .ok (.iconst 1, 1) := dk_4 (dk_at dksX9_segmentMeets_3 12 rfl rfl)
theorem dX9_segmentMeets_83 : decode cX9_segmentMeets 83 = .ok (.goto 4, 3) := dk_167 0 4 (dk_at dksX9_segmentMeets_3 13 rfl rfl)
theorem dX9_segmentMeets_86 : decode cX9_segmentMeets 86 = .ok (.iconst 0, 1) := dk_3 (dk_at dksX9_segmentMeets_3 16 rfl rfl)
theorem dX9_segmentMeets_87 : decode cX9_segmentMeets 87 = .ok (.ireturn, 1) := dk_172 (dk_at dksX9_segmentMeets_3 17 rfl rfl)
abbrev cX9_reaches : ByteArray := prog_10_method_4_code
def yX9_reaches : MethodName := ⟨RX9, "reaches", "(IIII)Z"⟩
def dkwX9_reaches_0 : List UInt8 := [26, 27, 184, 0, 33, 29, 163, 0, 16, 26, 27, 184, 0, 39, 28, 161, 0, 7, 4, 167, 0, 4, 3, 172]
abbrev dktX9_reaches_0 : List UInt8 := dkwX9_reaches_0 ++ []
theorem dksX9_reaches_0 : cX9_reaches.data.toList.drop 0 = dktX9_reaches_0 := by decide +kernel
theorem dX9_reaches_0 : decode cX9_reaches 0 = .ok (.iload_n 0, 1) := dk_26 (dk_at dksX9_reaches_0 0 rfl rfl)
theorem dX9_reaches_1 : decode cX9_reaches 1 = .ok (.iload_n 1, 1) := dk_27 (dk_at dksX9_reaches_0 1 rfl rfl)
theorem dX9_reaches_2 : decode cX9_reaches 2 = .ok (.invokestatic 33, 3) := dk_184 0 33 (dk_at dksX9_reaches_0 2 rfl rfl)
theorem dX9_reaches_5 : decode cX9_reaches 5 = .ok (.iload_n 3, 1) := dk_29 (dk_at dksX9_reaches_0 5 rfl rfl)
theorem dX9_reaches_6 : decode cX9_reaches 6 = .ok (.if_icmp .gt 16, 3) := dk_163 0 16 (dk_at dksX9_reaches_0 6 rfl rfl)
theorem dX9_reaches_9 : decode cX9_reaches 9 = .ok (.iload_n 0, 1) := dk_26 (dk_at dksX9_reaches_0 9 rfl rfl)
theorem dX9_reaches_10 : decode cX9_reaches 10 = .ok (.iload_n 1, 1) := dk_27 (dk_at dksX9_reaches_0 10 rfl rfl)
theorem dX9_reaches_11 : decode cX9_reaches 11 = .ok (.invokestatic 39, 3) := dk_184 0 39 (dk_at dksX9_reaches_0 11 rfl rfl)
theorem dX9_reaches_14 : decode cX9_reaches 14 = .ok (.iload_n 2, 1) := dk_28 (dk_at dksX9_reaches_0 14 rfl rfl)
theorem dX9_reaches_15 : decode cX9_reaches 15 = .ok (.if_icmp .lt 7, 3) := dk_161 0 7 (dk_at dksX9_reaches_0 15 rfl rfl)
theorem dX9_reaches_18 : decode cX9_reaches 18 = .ok (.iconst 1, 1) := dk_4 (dk_at dksX9_reaches_0 18 rfl rfl)
theorem dX9_reaches_19 : decode cX9_reaches 19 = .ok (.goto 4, 3) := dk_167 0 4 (dk_at dksX9_reaches_0 19 rfl rfl)
theorem dX9_reaches_22 : decode cX9_reaches 22 = .ok (.iconst 0, 1) := dk_3 (dk_at dksX9_reaches_0 22 rfl rfl)
theorem dX9_reaches_23 : decode cX9_reaches 23 = .ok (.ireturn, 1) := dk_172 (dk_at dksX9_reaches_0 23 rfl rfl)
abbrev cX9_areOnOneSide : ByteArray := prog_10_method_5_code
def yX9_areOnOneSide : MethodName := ⟨RX9, "areOnOneSide", "([I[IIIII)Z"⟩
def dkwX9_areOnOneSide_2 : List UInt8 := [184, 0, 42, 160, 0, 7, 4, 167, 0, 4, 3, 172]
abbrev dktX9_areOnOneSide_2 : List UInt8 := dkwX9_areOnOneSide_2 ++ []
def dkwX9_areOnOneSide_1 : List UInt8 := [160, 0, 34, 21, 6, 42, 43, 21, 4, 21, 5, 184, 0, 42, 160, 0, 20, 21, 6, 42, 43, 28, 21, 5]
abbrev dktX9_areOnOneSide_1 : List UInt8 := dkwX9_areOnOneSide_1 ++ dktX9_areOnOneSide_2
def dkwX9_areOnOneSide_0 : List UInt8 := [42, 43, 28, 29, 184, 0, 42, 54, 6, 21, 6, 153, 0, 47, 21, 6, 42, 43, 21, 4, 29, 184, 0, 42]
abbrev dktX9_areOnOneSide_0 : List UInt8 := dkwX9_areOnOneSide_0 ++ dktX9_areOnOneSide_1
theorem dksX9_areOnOneSide_0 : cX9_areOnOneSide.data.toList.drop 0 = dktX9_areOnOneSide_0 := by decide +kernel
theorem dksX9_areOnOneSide_1 : cX9_areOnOneSide.data.toList.drop 24 = dktX9_areOnOneSide_1 := dk_seg dksX9_areOnOneSide_0 24 rfl rfl
theorem dksX9_areOnOneSide_2 : cX9_areOnOneSide.data.toList.drop 48 = dktX9_areOnOneSide_2 := dk_seg dksX9_areOnOneSide_1 24 rfl rfl
theorem dX9_areOnOneSide_0 : decode cX9_areOnOneSide 0 = .ok (.aload_n 0, 1) := dk_42 (dk_at dksX9_areOnOneSide_0 0 rfl rfl)
theorem dX9_areOnOneSide_1 : decode cX9_areOnOneSide 1 = .ok (.aload_n 1, 1) := dk_43 (dk_at dksX9_areOnOneSide_0 1 rfl rfl)
theorem dX9_areOnOneSide_2 : decode cX9_areOnOneSide 2 = .ok (.iload_n 2, 1) := dk_28 (dk_at dksX9_areOnOneSide_0 2 rfl rfl)
theorem dX9_areOnOneSide_3 : decode cX9_areOnOneSide 3 = .ok (.iload_n 3, 1) := dk_29 (dk_at dksX9_areOnOneSide_0 3 rfl rfl)
theorem dX9_areOnOneSide_4 : decode cX9_areOnOneSide 4 = .ok (.invokestatic 42, 3) := dk_184 0 42 (dk_at dksX9_areOnOneSide_0 4 rfl rfl)
theorem dX9_areOnOneSide_7 : decode cX9_areOnOneSide 7 = .ok (.istore 6, 2) := dk_54 6 (dk_at dksX9_areOnOneSide_0 7 rfl rfl)
theorem dX9_areOnOneSide_9 : decode cX9_areOnOneSide 9 = .ok (.iload 6, 2) := dk_21 6 (dk_at dksX9_areOnOneSide_0 9 rfl rfl)
theorem dX9_areOnOneSide_11 : decode cX9_areOnOneSide 11 = .ok (.ifCond .eq 47, 3) := dk_153 0 47 (dk_at dksX9_areOnOneSide_0 11 rfl rfl)
theorem dX9_areOnOneSide_14 : decode cX9_areOnOneSide 14 = .ok (.iload 6, 2) := dk_21 6 (dk_at dksX9_areOnOneSide_0 14 rfl rfl)
theorem dX9_areOnOneSide_16 : decode cX9_areOnOneSide 16 = .ok (.aload_n 0, 1) := dk_42 (dk_at dksX9_areOnOneSide_0 16 rfl rfl)
theorem dX9_areOnOneSide_17 : decode cX9_areOnOneSide 17 = .ok (.aload_n 1, 1) := dk_43 (dk_at dksX9_areOnOneSide_0 17 rfl rfl)
theorem dX9_areOnOneSide_18 : decode cX9_areOnOneSide 18 = .ok (.iload 4, 2) := dk_21 4 (dk_at dksX9_areOnOneSide_0 18 rfl rfl)
theorem dX9_areOnOneSide_20 : decode cX9_areOnOneSide 20 = .ok (.iload_n 3, 1) := dk_29 (dk_at dksX9_areOnOneSide_0 20 rfl rfl)
theorem dX9_areOnOneSide_21 : decode cX9_areOnOneSide 21 = .ok (.invokestatic 42, 3) := dk_184 0 42 (dk_at dksX9_areOnOneSide_0 21 rfl rfl)
theorem dX9_areOnOneSide_24 : decode cX9_areOnOneSide 24 = .ok (.if_icmp .ne 34, 3) := dk_160 0 34 (dk_at dksX9_areOnOneSide_1 0 rfl rfl)
theorem dX9_areOnOneSide_27 : decode cX9_areOnOneSide 27 = .ok (.iload 6, 2) := dk_21 6 (dk_at dksX9_areOnOneSide_1 3 rfl rfl)
theorem dX9_areOnOneSide_29 : decode cX9_areOnOneSide 29 = .ok (.aload_n 0, 1) := dk_42 (dk_at dksX9_areOnOneSide_1 5 rfl rfl)
theorem dX9_areOnOneSide_30 : decode cX9_areOnOneSide 30 = .ok (.aload_n 1, 1) := dk_43 (dk_at dksX9_areOnOneSide_1 6 rfl rfl)
theorem dX9_areOnOneSide_31 : decode cX9_areOnOneSide 31 = .ok (.iload 4, 2) := dk_21 4 (dk_at dksX9_areOnOneSide_1 7 rfl rfl)
theorem dX9_areOnOneSide_33 : decode cX9_areOnOneSide 33 = .ok (.iload 5, 2) := dk_21 5 (dk_at dksX9_areOnOneSide_1 9 rfl rfl)
theorem dX9_areOnOneSide_35 : decode cX9_areOnOneSide 35 = .ok (.invokestatic 42, 3) := dk_184 0 42 (dk_at dksX9_areOnOneSide_1 11 rfl rfl)
theorem dX9_areOnOneSide_38 : decode cX9_areOnOneSide 38 = .ok (.if_icmp .ne 20, 3) := dk_160 0 20 (dk_at dksX9_areOnOneSide_1 14 rfl rfl)
theorem dX9_areOnOneSide_41 : decode cX9_areOnOneSide 41 = .ok (.iload 6, 2) := dk_21 6 (dk_at dksX9_areOnOneSide_1 17 rfl rfl)
theorem dX9_areOnOneSide_43 : decode cX9_areOnOneSide 43 = .ok (.aload_n 0, 1) := dk_42 (dk_at dksX9_areOnOneSide_1 19 rfl rfl)
theorem dX9_areOnOneSide_44 : decode cX9_areOnOneSide 44 = .ok (.aload_n 1, 1) := dk_43 (dk_at dksX9_areOnOneSide_1 20 rfl rfl)
theorem dX9_areOnOneSide_45 : decode cX9_areOnOneSide 45 = .ok (.iload_n 2, 1) := dk_28 (dk_at dksX9_areOnOneSide_1 21 rfl rfl)
theorem dX9_areOnOneSide_46 : decode cX9_areOnOneSide 46 = .ok (.iload 5, 2) := dk_21 5 (dk_at dksX9_areOnOneSide_1 22 rfl rfl)
theorem dX9_areOnOneSide_48 : decode cX9_areOnOneSide 48 = .ok (.invokestatic 42, 3) := dk_184 0 42 (dk_at dksX9_areOnOneSide_2 0 rfl rfl)
theorem dX9_areOnOneSide_51 : decode cX9_areOnOneSide 51 = .ok (.if_icmp .ne 7, 3) := dk_160 0 7 (dk_at dksX9_areOnOneSide_2 3 rfl rfl)
theorem dX9_areOnOneSide_54 : decode cX9_areOnOneSide 54 = .ok (.iconst 1, 1) := dk_4 (dk_at dksX9_areOnOneSide_2 6 rfl rfl)
theorem dX9_areOnOneSide_55 : decode cX9_areOnOneSide 55 = .ok (.goto 4, 3) := dk_167 0 4 (dk_at dksX9_areOnOneSide_2 7 rfl rfl)
theorem dX9_areOnOneSide_58 : decode cX9_areOnOneSide 58 = .ok (.iconst 0, 1) := dk_3 (dk_at dksX9_areOnOneSide_2 10 rfl rfl)
theorem dX9_areOnOneSide_59 : decode cX9_areOnOneSide 59 = .ok (.ireturn, 1) := dk_172 (dk_at dksX9_areOnOneSide_2 11 rfl rfl)
abbrev cX9_sideOf : ByteArray := prog_10_method_6_code
def yX9_sideOf : MethodName := ⟨RX9, "sideOf", "([I[III)I"⟩
def dkwX9_sideOf_0 : List UInt8 := [42, 43, 28, 29, 184, 0, 46, 184, 0, 51, 172]
abbrev dktX9_sideOf_0 : List UInt8 := dkwX9_sideOf_0 ++ []
theorem dksX9_sideOf_0 : cX9_sideOf.data.toList.drop 0 = dktX9_sideOf_0 := by decide +kernel
theorem dX9_sideOf_0 : decode cX9_sideOf 0 = .ok (.aload_n 0, 1) := dk_42 (dk_at dksX9_sideOf_0 0 rfl rfl)
theorem dX9_sideOf_1 : decode cX9_sideOf 1 = .ok (.aload_n 1, 1) := dk_43 (dk_at dksX9_sideOf_0 1 rfl rfl)
theorem dX9_sideOf_2 : decode cX9_sideOf 2 = .ok (.iload_n 2, 1) := dk_28 (dk_at dksX9_sideOf_0 2 rfl rfl)
theorem dX9_sideOf_3 : decode cX9_sideOf 3 = .ok (.iload_n 3, 1) := dk_29 (dk_at dksX9_sideOf_0 3 rfl rfl)
theorem dX9_sideOf_4 : decode cX9_sideOf 4 = .ok (.invokestatic 46, 3) := dk_184 0 46 (dk_at dksX9_sideOf_0 4 rfl rfl)
theorem dX9_sideOf_7 : decode cX9_sideOf 7 = .ok (.invokestatic 51, 3) := dk_184 0 51 (dk_at dksX9_sideOf_0 7 rfl rfl)
theorem dX9_sideOf_10 : decode cX9_sideOf 10 = .ok (.ireturn, 1) := dk_172 (dk_at dksX9_sideOf_0 10 rfl rfl)
theorem q92 : (Jvm.Cond.initialized "TileServer$Stroke") ∈ lw_all := lw_g (lw_at lw_m1 31 rfl) rfl
theorem q606 : (Jvm.Cond.instanceMethod ({ cls := "TileServer$Stroke", name := "<init>", desc := "(LTileServer$Box;Ljava/util/List;)V" } : Jvm.MethodName)) ∈ lw_all := lw_g (lw_at lw_m3 65 rfl) rfl
theorem q607 : (Jvm.Cond.code ({ cls := "TileServer$Stroke", name := "<init>", desc := "(LTileServer$Box;Ljava/util/List;)V" } : Jvm.MethodName) prog_10_method_1_code (3 : Nat) (Option.none : Option Jvm.ClassFile.FieldType)) ∈ lw_all := lw_g (lw_at lw_m3 66 rfl) rfl
theorem q608 : (Jvm.Cond.methodLink "TileServer$Stroke" (1 : Nat) ({ cls := "TileServer$Sketch", name := "<init>", desc := "(LTileServer$Box;)V" } : Jvm.MethodName)) ∈ lw_all := lw_g (lw_at lw_m3 67 rfl) rfl
theorem q609 : (Jvm.Cond.fieldLink "TileServer$Stroke" (7 : Nat) "TileServer$Stroke" "points" "Ljava/util/List;") ∈ lw_all := lw_g (lw_at lw_m3 68 rfl) rfl
theorem q611 : (Jvm.Cond.soleField "TileServer$Stroke" "points") ∈ lw_all := lw_g (lw_at lw_m3 70 rfl) rfl
theorem q642 : (Jvm.Cond.sameMethod "TileServer$Stroke" "TileServer$Sketch" "showsIn" "(IIII)Z") ∈ lw_all := lw_g (lw_at lw_m3 101 rfl) rfl
theorem q644 : (Jvm.Cond.superclass "TileServer$Stroke" "TileServer$Sketch") ∈ lw_all := lw_g (lw_at lw_m3 103 rfl) rfl
theorem q647 : (Jvm.Cond.declares ({ cls := "TileServer$Stroke", name := "segmentsIn", desc := "(IIII)I" } : Jvm.MethodName)) ∈ lw_tbl := lw_at lw_m3 106 rfl
theorem q649 : (Jvm.Cond.instanceMethod ({ cls := "TileServer$Stroke", name := "segmentsIn", desc := "(IIII)I" } : Jvm.MethodName)) ∈ lw_all := lw_g (lw_at lw_m3 108 rfl) rfl
theorem q650 : (Jvm.Cond.code ({ cls := "TileServer$Stroke", name := "segmentsIn", desc := "(IIII)I" } : Jvm.MethodName) prog_10_method_7_code (7 : Nat) (Option.some Jvm.ClassFile.FieldType.int)) ∈ lw_all := lw_g (lw_at lw_m3 109 rfl) rfl
theorem q651 : (Jvm.Cond.methodLink "TileServer$Stroke" (57 : Nat) ({ cls := "TileServer$Stroke", name := "segments", desc := "()I" } : Jvm.MethodName)) ∈ lw_all := lw_g (lw_at lw_m3 110 rfl) rfl
theorem q652 : (Jvm.Cond.instanceMethod ({ cls := "TileServer$Stroke", name := "segments", desc := "()I" } : Jvm.MethodName)) ∈ lw_all := lw_g (lw_at lw_m3 111 rfl) rfl
theorem q653 : (Jvm.Cond.sameMethod "TileServer$Stroke" "TileServer$Stroke" "segments" "()I") ∈ lw_all := lw_g (lw_at lw_m3 112 rfl) rfl
theorem q655 : (Jvm.Cond.code ({ cls := "TileServer$Stroke", name := "segments", desc := "()I" } : Jvm.MethodName) prog_10_method_2_code (1 : Nat) (Option.some Jvm.ClassFile.FieldType.int)) ∈ lw_all := lw_g (lw_at lw_m3 114 rfl) rfl
theorem q656 : (Jvm.Cond.interfaceEntry "TileServer$Stroke" (13 : Nat)) ∈ lw_tbl := lw_at lw_m3 115 rfl
theorem q657 : (Jvm.Cond.methodLink "TileServer$Stroke" (13 : Nat) ({ cls := "java/util/List", name := "size", desc := "()I" } : Jvm.MethodName)) ∈ lw_all := lw_g (lw_at lw_m3 116 rfl) rfl
theorem q658 : (Jvm.Cond.methodLink "TileServer$Stroke" (60 : Nat) ({ cls := "TileServer$Stroke", name := "segmentMeets", desc := "(IIIII)Z" } : Jvm.MethodName)) ∈ lw_all := lw_g (lw_at lw_m3 117 rfl) rfl
theorem q659 : (Jvm.Cond.instanceMethod ({ cls := "TileServer$Stroke", name := "segmentMeets", desc := "(IIIII)Z" } : Jvm.MethodName)) ∈ lw_all := lw_g (lw_at lw_m3 118 rfl) rfl
theorem q660 : (Jvm.Cond.sameMethod "TileServer$Stroke" "TileServer$Stroke" "segmentMeets" "(IIIII)Z") ∈ lw_all := lw_g (lw_at lw_m3 119 rfl) rfl
theorem q662 : (Jvm.Cond.code ({ cls := "TileServer$Stroke", name := "segmentMeets", desc := "(IIIII)Z" } : Jvm.MethodName) prog_10_method_3_code (8 : Nat) (Option.some Jvm.ClassFile.FieldType.boolean)) ∈ lw_all := lw_g (lw_at lw_m3 121 rfl) rfl
theorem q663 : (Jvm.Cond.interfaceEntry "TileServer$Stroke" (19 : Nat)) ∈ lw_tbl := lw_at lw_m3 122 rfl
theorem q664 : (Jvm.Cond.methodLink "TileServer$Stroke" (19 : Nat) ({ cls := "java/util/List", name := "get", desc := "(I)Ljava/lang/Object;" } : Jvm.MethodName)) ∈ lw_all := lw_g (lw_at lw_m3 123 rfl) rfl
theorem q665 : (Jvm.Cond.classLink "TileServer$Stroke" (23 : Nat) "[I") ∈ lw_all := lw_g (lw_at lw_m3 124 rfl) rfl
theorem q666 : (Jvm.Cond.methodLink "TileServer$Stroke" (25 : Nat) ({ cls := "TileServer$Stroke", name := "reaches", desc := "(IIII)Z" } : Jvm.MethodName)) ∈ lw_all := lw_g (lw_at lw_m3 125 rfl) rfl
theorem q667 : (Jvm.Cond.static ({ cls := "TileServer$Stroke", name := "reaches", desc := "(IIII)Z" } : Jvm.MethodName)) ∈ lw_all := lw_g (lw_at lw_m3 126 rfl) rfl
theorem q668 : (Jvm.Cond.code ({ cls := "TileServer$Stroke", name := "reaches", desc := "(IIII)Z" } : Jvm.MethodName) prog_10_method_4_code (4 : Nat) (Option.some Jvm.ClassFile.FieldType.boolean)) ∈ lw_all := lw_g (lw_at lw_m3 127 rfl) rfl
theorem q669 : (Jvm.Cond.methodLink "TileServer$Stroke" (33 : Nat) ({ cls := "java/lang/Math", name := "min", desc := "(II)I" } : Jvm.MethodName)) ∈ lw_all := lw_g (lw_at lw_m3 128 rfl) rfl
theorem q670 : (Jvm.Cond.methodLink "TileServer$Stroke" (39 : Nat) ({ cls := "java/lang/Math", name := "max", desc := "(II)I" } : Jvm.MethodName)) ∈ lw_all := lw_g (lw_at lw_m3 129 rfl) rfl
theorem q671 : (Jvm.Cond.methodLink "TileServer$Stroke" (29 : Nat) ({ cls := "TileServer$Stroke", name := "areOnOneSide", desc := "([I[IIIII)Z" } : Jvm.MethodName)) ∈ lw_all := lw_g (lw_at lw_m3 130 rfl) rfl
theorem q672 : (Jvm.Cond.static ({ cls := "TileServer$Stroke", name := "areOnOneSide", desc := "([I[IIIII)Z" } : Jvm.MethodName)) ∈ lw_all := lw_g (lw_at lw_m3 131 rfl) rfl
theorem q673 : (Jvm.Cond.code ({ cls := "TileServer$Stroke", name := "areOnOneSide", desc := "([I[IIIII)Z" } : Jvm.MethodName) prog_10_method_5_code (7 : Nat) (Option.some Jvm.ClassFile.FieldType.boolean)) ∈ lw_all := lw_g (lw_at lw_m3 132 rfl) rfl
theorem q674 : (Jvm.Cond.methodLink "TileServer$Stroke" (42 : Nat) ({ cls := "TileServer$Stroke", name := "sideOf", desc := "([I[III)I" } : Jvm.MethodName)) ∈ lw_all := lw_g (lw_at lw_m3 133 rfl) rfl
theorem q675 : (Jvm.Cond.static ({ cls := "TileServer$Stroke", name := "sideOf", desc := "([I[III)I" } : Jvm.MethodName)) ∈ lw_all := lw_g (lw_at lw_m3 134 rfl) rfl
theorem q676 : (Jvm.Cond.code ({ cls := "TileServer$Stroke", name := "sideOf", desc := "([I[III)I" } : Jvm.MethodName) prog_10_method_6_code (4 : Nat) (Option.some Jvm.ClassFile.FieldType.int)) ∈ lw_all := lw_g (lw_at lw_m3 135 rfl) rfl
theorem q677 : (Jvm.Cond.methodLinkNest "TileServer$Stroke" (46 : Nat) ({ cls := "TileServer", name := "crossProduct", desc := "([I[III)I" } : Jvm.MethodName) "TileServer") ∈ lw_tbl := lw_at lw_m3 136 rfl
theorem q678 : (Jvm.Cond.methodLink "TileServer$Stroke" (51 : Nat) ({ cls := "java/lang/Integer", name := "signum", desc := "(I)I" } : Jvm.MethodName)) ∈ lw_all := lw_g (lw_at lw_m3 137 rfl) rfl
theorem q1099 : (Jvm.Cond.declares ({ cls := "TileServer$Stroke", name := "segments", desc := "()I" } : Jvm.MethodName)) ∈ lw_tbl := lw_at lw_m5 78 rfl
theorem q1227 : (Jvm.Cond.declares ({ cls := "TileServer$Stroke", name := "segmentMeets", desc := "(IIIII)Z" } : Jvm.MethodName)) ∈ lw_tbl := lw_at lw_m5 206 rfl
/-! TileServer$Path -/
set_option maxRecDepth 100000
def RX10 : String := "TileServer$Path"
def TX10 : u_T := fun k => match k with
  | 0 => ("TileServer$Sketch", "box", "LTileServer$Box;", true)
  | _ => ("TileServer$Stroke", "points", "Ljava/util/List;", true)
def tyX10 : Nat → FieldType := fun k => match k with
  | 0 => .object "TileServer$Box"
  | _ => .object "java/util/List"
abbrev wsX100 : List Cond := u_ws RX10 TX10 2
theorem nmX10 : ∀ a, a < 2 → ∀ b, b < 2 → a ≠ b → (TX10 a).2.1 ≠ (TX10 b).2.1 := by decide +kernel
theorem tyX10_ok : ∀ k, k < 2 → parseFieldDescriptor (TX10 k).2.2.1 = some (tyX10 k) := by decide +kernel
abbrev cX10_init : ByteArray := prog_7_method_1_code
def yX10_init : MethodName := ⟨RX10, "<init>", "(LTileServer$Box;Ljava/util/List;)V"⟩
def dkwX10_init_0 : List UInt8 := [42, 43, 44, 183, 0, 1, 177]
abbrev dktX10_init_0 : List UInt8 := dkwX10_init_0 ++ []
theorem dksX10_init_0 : cX10_init.data.toList.drop 0 = dktX10_init_0 := by decide +kernel
theorem dX10_init_0 : decode cX10_init 0 = .ok (.aload_n 0, 1) := dk_42 (dk_at dksX10_init_0 0 rfl rfl)
theorem dX10_init_1 : decode cX10_init 1 = .ok (.aload_n 1, 1) := dk_43 (dk_at dksX10_init_0 1 rfl rfl)
theorem dX10_init_2 : decode cX10_init 2 = .ok (.aload_n 2, 1) := dk_44 (dk_at dksX10_init_0 2 rfl rfl)
theorem dX10_init_3 : decode cX10_init 3 = .ok (.invokespecial 1, 3) := dk_183 0 1 (dk_at dksX10_init_0 3 rfl rfl)
theorem dX10_init_6 : decode cX10_init 6 = .ok (.return_, 1) := dk_177 (dk_at dksX10_init_0 6 rfl rfl)
abbrev cX10_showsIn : ByteArray := prog_7_method_2_code
def yX10_showsIn : MethodName := ⟨RX10, "showsIn", "(IIII)Z"⟩
def dkwX10_showsIn_1 : List UInt8 := [4, 167, 0, 4, 3, 172]
abbrev dktX10_showsIn_1 : List UInt8 := dkwX10_showsIn_1 ++ []
def dkwX10_showsIn_0 : List UInt8 := [42, 27, 28, 29, 21, 4, 183, 0, 7, 153, 0, 19, 42, 27, 28, 29, 21, 4, 182, 0, 11, 158, 0, 7]
abbrev dktX10_showsIn_0 : List UInt8 := dkwX10_showsIn_0 ++ dktX10_showsIn_1
theorem dksX10_showsIn_0 : cX10_showsIn.data.toList.drop 0 = dktX10_showsIn_0 := by decide +kernel
theorem dksX10_showsIn_1 : cX10_showsIn.data.toList.drop 24 = dktX10_showsIn_1 := dk_seg dksX10_showsIn_0 24 rfl rfl
theorem dX10_showsIn_0 : decode cX10_showsIn 0 = .ok (.aload_n 0, 1) := dk_42 (dk_at dksX10_showsIn_0 0 rfl rfl)
theorem dX10_showsIn_1 : decode cX10_showsIn 1 = .ok (.iload_n 1, 1) := dk_27 (dk_at dksX10_showsIn_0 1 rfl rfl)
theorem dX10_showsIn_2 : decode cX10_showsIn 2 = .ok (.iload_n 2, 1) := dk_28 (dk_at dksX10_showsIn_0 2 rfl rfl)
theorem dX10_showsIn_3 : decode cX10_showsIn 3 = .ok (.iload_n 3, 1) := dk_29 (dk_at dksX10_showsIn_0 3 rfl rfl)
theorem dX10_showsIn_4 : decode cX10_showsIn 4 = .ok (.iload 4, 2) := dk_21 4 (dk_at dksX10_showsIn_0 4 rfl rfl)
theorem dX10_showsIn_6 : decode cX10_showsIn 6 = .ok (.invokespecial 7, 3) := dk_183 0 7 (dk_at dksX10_showsIn_0 6 rfl rfl)
theorem dX10_showsIn_9 : decode cX10_showsIn 9 = .ok (.ifCond .eq 19, 3) := dk_153 0 19 (dk_at dksX10_showsIn_0 9 rfl rfl)
theorem dX10_showsIn_12 : decode cX10_showsIn 12 = .ok (.aload_n 0, 1) := dk_42 (dk_at dksX10_showsIn_0 12 rfl rfl)
theorem dX10_showsIn_13 : decode cX10_showsIn 13 = .ok (.iload_n 1, 1) := dk_27 (dk_at dksX10_showsIn_0 13 rfl rfl)
theorem dX10_showsIn_14 : decode cX10_showsIn 14 = .ok (.iload_n 2, 1) := dk_28 (dk_at dksX10_showsIn_0 14 rfl rfl)
theorem dX10_showsIn_15 : decode cX10_showsIn 15 = .ok (.iload_n 3, 1) := dk_29 (dk_at dksX10_showsIn_0 15 rfl rfl)
theorem dX10_showsIn_16 : decode cX10_showsIn 16 = .ok (.iload 4, 2) := dk_21 4 (dk_at dksX10_showsIn_0 16 rfl rfl)
theorem dX10_showsIn_18 : decode cX10_showsIn 18 = .ok (.invokevirtual 11, 3) := dk_182 0 11 (dk_at dksX10_showsIn_0 18 rfl rfl)
theorem dX10_showsIn_21 : decode cX10_showsIn 21 = .ok (.ifCond .le 7, 3) := dk_158 0 7 (dk_at dksX10_showsIn_0 21 rfl rfl)
theorem dX10_showsIn_24 : decode cX10_showsIn 24 = .ok (.iconst 1, 1) := dk_4 (dk_at dksX10_showsIn_1 0 rfl rfl)
theorem dX10_showsIn_25 : decode cX10_showsIn 25 = .ok (.goto 4, 3) := dk_167 0 4 (dk_at dksX10_showsIn_1 1 rfl rfl)
theorem dX10_showsIn_28 : decode cX10_showsIn 28 = .ok (.iconst 0, 1) := dk_3 (dk_at dksX10_showsIn_1 4 rfl rfl)
theorem dX10_showsIn_29 : decode cX10_showsIn 29 = .ok (.ireturn, 1) := dk_172 (dk_at dksX10_showsIn_1 5 rfl rfl)
theorem q93 : (Jvm.Cond.initialized "TileServer$Path") ∈ lw_all := lw_g (lw_at lw_m1 32 rfl) rfl
theorem q549 : (Jvm.Cond.selects "TileServer$Path" ({ cls := "java/lang/Object", name := "getClass", desc := "()Ljava/lang/Class;" } : Jvm.MethodName) ({ cls := "java/lang/Object", name := "getClass", desc := "()Ljava/lang/Class;" } : Jvm.MethodName)) ∈ lw_all := lw_g (lw_at lw_m3 8 rfl) rfl
theorem q583 : (Jvm.Cond.instantiable "TileServer$Path" (2 : Nat)) ∈ lw_all := lw_g (lw_at lw_m3 42 rfl) rfl
theorem q603 : (Jvm.Cond.instanceMethod ({ cls := "TileServer$Path", name := "<init>", desc := "(LTileServer$Box;Ljava/util/List;)V" } : Jvm.MethodName)) ∈ lw_all := lw_g (lw_at lw_m3 62 rfl) rfl
theorem q604 : (Jvm.Cond.code ({ cls := "TileServer$Path", name := "<init>", desc := "(LTileServer$Box;Ljava/util/List;)V" } : Jvm.MethodName) prog_7_method_1_code (3 : Nat) (Option.none : Option Jvm.ClassFile.FieldType)) ∈ lw_all := lw_g (lw_at lw_m3 63 rfl) rfl
theorem q605 : (Jvm.Cond.methodLink "TileServer$Path" (1 : Nat) ({ cls := "TileServer$Stroke", name := "<init>", desc := "(LTileServer$Box;Ljava/util/List;)V" } : Jvm.MethodName)) ∈ lw_all := lw_g (lw_at lw_m3 64 rfl) rfl
theorem q610 : (Jvm.Cond.laysFinal "TileServer$Path" "TileServer$Stroke" "points" "Ljava/util/List;") ∈ lw_all := lw_g (lw_at lw_m3 69 rfl) rfl
theorem q612 : (Jvm.Cond.laysFinal "TileServer$Path" "TileServer$Sketch" "box" "LTileServer$Box;") ∈ lw_all := lw_g (lw_at lw_m3 71 rfl) rfl
theorem q613 : (Jvm.Cond.superclass "TileServer$Path" "TileServer$Stroke") ∈ lw_all := lw_g (lw_at lw_m3 72 rfl) rfl
theorem q638 : (Jvm.Cond.selects "TileServer$Path" ({ cls := "TileServer$Sketch", name := "showsIn", desc := "(IIII)Z" } : Jvm.MethodName) ({ cls := "TileServer$Path", name := "showsIn", desc := "(IIII)Z" } : Jvm.MethodName)) ∈ lw_all := lw_g (lw_at lw_m3 97 rfl) rfl
theorem q639 : (Jvm.Cond.instanceMethod ({ cls := "TileServer$Path", name := "showsIn", desc := "(IIII)Z" } : Jvm.MethodName)) ∈ lw_all := lw_g (lw_at lw_m3 98 rfl) rfl
theorem q640 : (Jvm.Cond.code ({ cls := "TileServer$Path", name := "showsIn", desc := "(IIII)Z" } : Jvm.MethodName) prog_7_method_2_code (5 : Nat) (Option.some Jvm.ClassFile.FieldType.boolean)) ∈ lw_all := lw_g (lw_at lw_m3 99 rfl) rfl
theorem q641 : (Jvm.Cond.methodLink "TileServer$Path" (7 : Nat) ({ cls := "TileServer$Stroke", name := "showsIn", desc := "(IIII)Z" } : Jvm.MethodName)) ∈ lw_all := lw_g (lw_at lw_m3 100 rfl) rfl
theorem q645 : (Jvm.Cond.methodLink "TileServer$Path" (11 : Nat) ({ cls := "TileServer$Path", name := "segmentsIn", desc := "(IIII)I" } : Jvm.MethodName)) ∈ lw_all := lw_g (lw_at lw_m3 104 rfl) rfl
theorem q646 : (Jvm.Cond.sameMethod "TileServer$Path" "TileServer$Stroke" "segmentsIn" "(IIII)I") ∈ lw_all := lw_g (lw_at lw_m3 105 rfl) rfl
theorem q648 : (Jvm.Cond.selects "TileServer$Path" ({ cls := "TileServer$Path", name := "segmentsIn", desc := "(IIII)I" } : Jvm.MethodName) ({ cls := "TileServer$Stroke", name := "segmentsIn", desc := "(IIII)I" } : Jvm.MethodName)) ∈ lw_all := lw_g (lw_at lw_m3 107 rfl) rfl
theorem q654 : (Jvm.Cond.selects "TileServer$Path" ({ cls := "TileServer$Stroke", name := "segments", desc := "()I" } : Jvm.MethodName) ({ cls := "TileServer$Stroke", name := "segments", desc := "()I" } : Jvm.MethodName)) ∈ lw_all := lw_g (lw_at lw_m3 113 rfl) rfl
theorem q661 : (Jvm.Cond.selects "TileServer$Path" ({ cls := "TileServer$Stroke", name := "segmentMeets", desc := "(IIIII)Z" } : Jvm.MethodName) ({ cls := "TileServer$Stroke", name := "segmentMeets", desc := "(IIIII)Z" } : Jvm.MethodName)) ∈ lw_all := lw_g (lw_at lw_m3 120 rfl) rfl
theorem q973 : (Jvm.Cond.selects "TileServer$Path" ({ cls := "java/lang/Object", name := "equals", desc := "(Ljava/lang/Object;)Z" } : Jvm.MethodName) ({ cls := "java/lang/Object", name := "equals", desc := "(Ljava/lang/Object;)Z" } : Jvm.MethodName)) ∈ lw_all := lw_g (lw_at lw_m4 192 rfl) rfl
theorem q1098 : (Jvm.Cond.sameMethod "TileServer$Path" "TileServer$Stroke" "segments" "()I") ∈ lw_all := lw_g (lw_at lw_m5 77 rfl) rfl
theorem q1100 : (Jvm.Cond.selects "TileServer$Path" ({ cls := "TileServer$Path", name := "segments", desc := "()I" } : Jvm.MethodName) ({ cls := "TileServer$Stroke", name := "segments", desc := "()I" } : Jvm.MethodName)) ∈ lw_all := lw_g (lw_at lw_m5 79 rfl) rfl
theorem q1226 : (Jvm.Cond.sameMethod "TileServer$Path" "TileServer$Stroke" "segmentMeets" "(IIIII)Z") ∈ lw_all := lw_g (lw_at lw_m5 205 rfl) rfl
theorem q1228 : (Jvm.Cond.selects "TileServer$Path" ({ cls := "TileServer$Path", name := "segmentMeets", desc := "(IIIII)Z" } : Jvm.MethodName) ({ cls := "TileServer$Stroke", name := "segmentMeets", desc := "(IIIII)Z" } : Jvm.MethodName)) ∈ lw_all := lw_g (lw_at lw_m5 207 rfl) rfl
theorem q2008 : (Jvm.Cond.castable "TileServer$Path" "java/lang/Object") ∈ lw_tbl := lw_at lw_m9 27 rfl
theorem in_X10 : ∀ w ∈ wsX100, w ∈ lw_all := lw_in wsX100 [612, 610] (by decide +kernel) (by decide +kernel)
/-! TileServer$Tile -/
set_option maxRecDepth 100000
def RX11 : String := "TileServer$Tile"
def TX11 : u_T := fun k => match k with
  | 0 => ("TileServer$Tile", "level", "I", true)
  | 1 => ("TileServer$Tile", "column", "I", true)
  | 2 => ("TileServer$Tile", "row", "I", true)
  | 3 => ("TileServer$Tile", "box", "LTileServer$Box;", true)
  | 4 => ("TileServer$Tile", "drawnAt", "I", true)
  | _ => ("TileServer$Tile", "cells", "[I", true)
def tyX11 : Nat → FieldType := fun k => match k with
  | 0 => .int
  | 1 => .int
  | 2 => .int
  | 3 => .object "TileServer$Box"
  | 4 => .int
  | _ => .array .int
abbrev wsX110 : List Cond := u_ws RX11 TX11 6
theorem nmX11 : ∀ a, a < 6 → ∀ b, b < 6 → a ≠ b → (TX11 a).2.1 ≠ (TX11 b).2.1 := by decide +kernel
theorem tyX11_ok : ∀ k, k < 6 → parseFieldDescriptor (TX11 k).2.2.1 = some (tyX11 k) := by decide +kernel
abbrev cX11_init : ByteArray := prog_11_method_1_code
def yX11_init : MethodName := ⟨RX11, "<init>", "(IIII)V"⟩
def dkwX11_init_1 : List UInt8 := [181, 0, 22, 42, 21, 4, 181, 0, 25, 42, 27, 28, 29, 184, 0, 28, 181, 0, 32, 177]
abbrev dktX11_init_1 : List UInt8 := dkwX11_init_1 ++ []
def dkwX11_init_0 : List UInt8 := [42, 183, 0, 3, 42, 16, 64, 188, 10, 181, 0, 9, 42, 27, 181, 0, 15, 42, 28, 181, 0, 19, 42, 29]
abbrev dktX11_init_0 : List UInt8 := dkwX11_init_0 ++ dktX11_init_1
theorem dksX11_init_0 : cX11_init.data.toList.drop 0 = dktX11_init_0 := by decide +kernel
theorem dksX11_init_1 : cX11_init.data.toList.drop 24 = dktX11_init_1 := dk_seg dksX11_init_0 24 rfl rfl
theorem dX11_init_0 : decode cX11_init 0 = .ok (.aload_n 0, 1) := dk_42 (dk_at dksX11_init_0 0 rfl rfl)
theorem dX11_init_1 : decode cX11_init 1 = .ok (.invokespecial 3, 3) := dk_183 0 3 (dk_at dksX11_init_0 1 rfl rfl)
theorem dX11_init_4 : decode cX11_init 4 = .ok (.aload_n 0, 1) := dk_42 (dk_at dksX11_init_0 4 rfl rfl)
theorem dX11_init_5 : decode cX11_init 5 = .ok (.bipush 64, 2) := dk_16 64 (dk_at dksX11_init_0 5 rfl rfl)
theorem dX11_init_7 : decode cX11_init 7 = .ok (.newarray .int, 2) := dk_188_10 (dk_at dksX11_init_0 7 rfl rfl)
theorem dX11_init_9 : decode cX11_init 9 = .ok (.putfield 9, 3) := dk_181 0 9 (dk_at dksX11_init_0 9 rfl rfl)
theorem dX11_init_12 : decode cX11_init 12 = .ok (.aload_n 0, 1) := dk_42 (dk_at dksX11_init_0 12 rfl rfl)
theorem dX11_init_13 : decode cX11_init 13 = .ok (.iload_n 1, 1) := dk_27 (dk_at dksX11_init_0 13 rfl rfl)
theorem dX11_init_14 : decode cX11_init 14 = .ok (.putfield 15, 3) := dk_181 0 15 (dk_at dksX11_init_0 14 rfl rfl)
theorem dX11_init_17 : decode cX11_init 17 = .ok (.aload_n 0, 1) := dk_42 (dk_at dksX11_init_0 17 rfl rfl)
theorem dX11_init_18 : decode cX11_init 18 = .ok (.iload_n 2, 1) := dk_28 (dk_at dksX11_init_0 18 rfl rfl)
theorem dX11_init_19 : decode cX11_init 19 = .ok (.putfield 19, 3) := dk_181 0 19 (dk_at dksX11_init_0 19 rfl rfl)
theorem dX11_init_22 : decode cX11_init 22 = .ok (.aload_n 0, 1) := dk_42 (dk_at dksX11_init_0 22 rfl rfl)
theorem dX11_init_23 : decode cX11_init 23 = .ok (.iload_n 3, 1) := dk_29 (dk_at dksX11_init_0 23 rfl rfl)
theorem dX11_init_24 : decode cX11_init 24 = .ok (.putfield 22, 3) := dk_181 0 22 (dk_at dksX11_init_1 0 rfl rfl)
theorem dX11_init_27 : decode cX11_init 27 = .ok (.aload_n 0, 1) := dk_42 (dk_at dksX11_init_1 3 rfl rfl)
theorem dX11_init_28 : decode cX11_init 28 = .ok (.iload 4, 2) := dk_21 4 (dk_at dksX11_init_1 4 rfl rfl)
theorem dX11_init_30 : decode cX11_init 30 = .ok (.putfield 25, 3) := dk_181 0 25 (dk_at dksX11_init_1 6 rfl rfl)
theorem dX11_init_33 : decode cX11_init 33 = .ok (.aload_n 0, 1) := dk_42 (dk_at dksX11_init_1 9 rfl rfl)
theorem dX11_init_34 : decode cX11_init 34 = .ok (.iload_n 1, 1) := dk_27 (dk_at dksX11_init_1 10 rfl rfl)
theorem dX11_init_35 : decode cX11_init 35 = .ok (.iload_n 2, 1) := dk_28 (dk_at dksX11_init_1 11 rfl rfl)
theorem dX11_init_36 : decode cX11_init 36 = .ok (.iload_n 3, 1) := dk_29 (dk_at dksX11_init_1 12 rfl rfl)
theorem dX11_init_37 : decode cX11_init 37 = .ok (.invokestatic 28, 3) := dk_184 0 28 (dk_at dksX11_init_1 13 rfl rfl)
theorem dX11_init_40 : decode cX11_init 40 = .ok (.putfield 32, 3) := dk_181 0 32 (dk_at dksX11_init_1 16 rfl rfl)
theorem dX11_init_43 : decode cX11_init 43 = .ok (.return_, 1) := dk_177 (dk_at dksX11_init_1 19 rfl rfl)
abbrev cX11_put : ByteArray := prog_11_method_4_code
def yX11_put : MethodName := ⟨RX11, "put", "(LTileServer$Shape;LTileServer$Sketch;)V"⟩
def dkwX11_put_3 : List UInt8 := [182, 0, 48, 153, 0, 14, 42, 180, 0, 9, 21, 4, 43, 180, 0, 54, 79, 132, 4, 1, 167, 255, 179, 177]
abbrev dktX11_put_3 : List UInt8 := dkwX11_put_3 ++ []
def dkwX11_put_2 : List UInt8 := [21, 4, 16, 8, 108, 29, 104, 96, 54, 6, 44, 21, 5, 21, 6, 21, 5, 29, 96, 21, 6, 29, 96]
abbrev dktX11_put_2 : List UInt8 := dkwX11_put_2 ++ dktX11_put_3
def dkwX11_put_1 : List UInt8 := [180, 0, 32, 180, 0, 40, 21, 4, 16, 8, 112, 29, 104, 96, 54, 5, 42, 180, 0, 32, 180, 0, 45]
abbrev dktX11_put_1 : List UInt8 := dkwX11_put_1 ++ dktX11_put_2
def dkwX11_put_0 : List UInt8 := [42, 180, 0, 15, 184, 0, 36, 62, 3, 54, 4, 21, 4, 42, 180, 0, 9, 190, 162, 0, 73, 42]
abbrev dktX11_put_0 : List UInt8 := dkwX11_put_0 ++ dktX11_put_1
theorem dksX11_put_0 : cX11_put.data.toList.drop 0 = dktX11_put_0 := by decide +kernel
theorem dksX11_put_1 : cX11_put.data.toList.drop 22 = dktX11_put_1 := dk_seg dksX11_put_0 22 rfl rfl
theorem dksX11_put_2 : cX11_put.data.toList.drop 45 = dktX11_put_2 := dk_seg dksX11_put_1 23 rfl rfl
theorem dksX11_put_3 : cX11_put.data.toList.drop 68 = dktX11_put_3 := dk_seg dksX11_put_2 23 rfl rfl
theorem dX11_put_0 : decode cX11_put 0 = .ok (.aload_n 0, 1) := dk_42 (dk_at dksX11_put_0 0 rfl rfl)
theorem dX11_put_1 : decode cX11_put 1 = .ok (.getfield 15, 3) := dk_180 0 15 (dk_at dksX11_put_0 1 rfl rfl)
theorem dX11_put_4 : decode cX11_put 4 = .ok (.invokestatic 36, 3) := dk_184 0 36 (dk_at dksX11_put_0 4 rfl rfl)
theorem dX11_put_7 : decode cX11_put 7 = .ok (.istore_n 3, 1) := dk_62 (dk_at dksX11_put_0 7 rfl rfl)
theorem dX11_put_8 : decode cX11_put 8 = .ok (.iconst 0, 1) := dk_3 (dk_at dksX11_put_0 8 rfl rfl)
theorem dX11_put_9 : decode cX11_put 9 = .ok (.istore 4, 2) := dk_54 4 (dk_at dksX11_put_0 9 rfl rfl)
theorem dX11_put_11 : decode cX11_put 11 = .ok (.iload 4, 2) := dk_21 4 (dk_at dksX11_put_0 11 rfl rfl)
theorem dX11_put_13 : decode cX11_put 13 = .ok (.aload_n 0, 1) := dk_42 (dk_at dksX11_put_0 13 rfl rfl)
theorem dX11_put_14 : decode cX11_put 14 = .ok (.getfield 9, 3) := dk_180 0 9 (dk_at dksX11_put_0 14 rfl rfl)
theorem dX11_put_17 : decode cX11_put 17 = .ok (.arraylength, 1) := dk_190 (dk_at dksX11_put_0 17 rfl rfl)
theorem dX11_put_18 : decode cX11_put 18 = .ok (.if_icmp .ge 73, 3) := dk_162 0 73 (dk_at dksX11_put_0 18 rfl rfl)
theorem dX11_put_21 : decode cX11_put 21 = .ok (.aload_n 0, 1) := dk_42 (dk_at dksX11_put_0 21 rfl rfl)
theorem dX11_put_22 : decode cX11_put 22 = .ok (.getfield 32, 3) := dk_180 0 32 (dk_at dksX11_put_1 0 rfl rfl)
theorem dX11_put_25 : decode cX11_put 25 = .ok (.getfield 40, 3) := dk_180 0 40 (dk_at dksX11_put_1 3 rfl rfl)
theorem dX11_put_28 : decode cX11_put 28 = .ok (.iload 4, 2) := dk_21 4 (dk_at dksX11_put_1 6 rfl rfl)
theorem dX11_put_30 : decode cX11_put 30 = .ok (.bipush 8, 2) := dk_16 8 (dk_at dksX11_put_1 8 rfl rfl)
theorem dX11_put_32 : decode cX11_put 32 = .ok (.irem, 1) := dk_112 (dk_at dksX11_put_1 10 rfl rfl)
theorem dX11_put_33 : decode cX11_put 33 = .ok (.iload_n 3, 1) := dk_29 (dk_at dksX11_put_1 11 rfl rfl)
theorem dX11_put_34 : decode cX11_put 34 = .ok (.imul, 1) := dk_104 (dk_at dksX11_put_1 12 rfl rfl)
theorem dX11_put_35 : decode cX11_put 35 = .ok (.iadd, 1) := dk_96 (dk_at dksX11_put_1 13 rfl rfl)
theorem dX11_put_36 : decode cX11_put 36 = .ok (.istore 5, 2) := dk_54 5 (dk_at dksX11_put_1 14 rfl rfl)
theorem dX11_put_38 : decode cX11_put 38 = .ok (.aload_n 0, 1) := dk_42 (dk_at dksX11_put_1 16 rfl rfl)
theorem dX11_put_39 : decode cX11_put 39 = .ok (.getfield 32, 3) := dk_180 0 32 (dk_at dksX11_put_1 17 rfl rfl)
theorem dX11_put_42 : decode cX11_put 42 = .ok (.getfield 45, 3) := dk_180 0 45 (dk_at dksX11_put_1 20 rfl rfl)
theorem dX11_put_45 : decode cX11_put 45 = .ok (.iload 4, 2) := dk_21 4 (dk_at dksX11_put_2 0 rfl rfl)
theorem dX11_put_47 : decode cX11_put 47 = .ok (.bipush 8, 2) := dk_16 8 (dk_at dksX11_put_2 2 rfl rfl)
theorem dX11_put_49 : decode cX11_put 49 = .ok (.idiv, 1) := dk_108 (dk_at dksX11_put_2 4 rfl rfl)
theorem dX11_put_50 : decode cX11_put 50 = .ok (.iload_n 3, 1) := dk_29 (dk_at dksX11_put_2 5 rfl rfl)
theorem dX11_put_51 : decode cX11_put 51 = .ok (.imul, 1) := dk_104 (dk_at dksX11_put_2 6 rfl rfl)
theorem dX11_put_52 : decode cX11_put 52 = .ok (.iadd, 1) := dk_96 (dk_at dksX11_put_2 7 rfl rfl)
theorem dX11_put_53 : decode cX11_put 53 = .ok (.istore 6, 2) := dk_54 6 (dk_at dksX11_put_2 8 rfl rfl)
theorem dX11_put_55 : decode cX11_put 55 = .ok (.aload_n 2, 1) := dk_44 (dk_at dksX11_put_2 10 rfl rfl)
theorem dX11_put_56 : decode cX11_put 56 = .ok (.iload 5, 2) := dk_21 5 (dk_at dksX11_put_2 11 rfl rfl)
theorem dX11_put_58 : decode cX11_put 58 = .ok (.iload 6, 2) := dk_21 6 (dk_at dksX11_put_2 13 rfl rfl)
theorem dX11_put_60 : decode cX11_put 60 = .ok (.iload 5, 2) := dk_21 5 (dk_at dksX11_put_2 15 rfl rfl)
theorem dX11_put_62 : decode cX11_put 62 = .ok (.iload_n 3, 1) := dk_29 (dk_at dksX11_put_2 17 rfl rfl)
theorem dX11_put_63 : decode cX11_put 63 = .ok (.iadd, 1) := dk_96 (dk_at dksX11_put_2 18 rfl rfl)
theorem dX11_put_64 : decode cX11_put 64 = .ok (.iload 6, 2) := dk_21 6 (dk_at dksX11_put_2 19 rfl rfl)
theorem dX11_put_66 : decode cX11_put 66 = .ok (.iload_n 3, 1) := dk_29 (dk_at dksX11_put_2 21 rfl rfl)
theorem dX11_put_67 : decode cX11_put 67 = .ok (.iadd, 1) := dk_96 (dk_at dksX11_put_2 22 rfl rfl)
theorem dX11_put_68 : decode cX11_put 68 = .ok (.invokevirtual 48, 3) := dk_182 0 48 (dk_at dksX11_put_3 0 rfl rfl)
theorem dX11_put_71 : decode cX11_put 71 = .ok (.ifCond .eq 14, 3) := dk_153 0 14 (dk_at dksX11_put_3 3 rfl rfl)
theorem dX11_put_74 : decode cX11_put 74 = .ok (.aload_n 0, 1) := dk_42 (dk_at dksX11_put_3 6 rfl rfl)
theorem dX11_put_75 : decode cX11_put 75 = .ok (.getfield 9, 3) := dk_180 0 9 (dk_at dksX11_put_3 7 rfl rfl)
theorem dX11_put_78 : decode cX11_put 78 = .ok (.iload 4, 2) := dk_21 4 (dk_at dksX11_put_3 10 rfl rfl)
theorem dX11_put_80 : decode cX11_put 80 = .ok (.aload_n 1, 1) := dk_43 (dk_at dksX11_put_3 12 rfl rfl)
theorem dX11_put_81 : decode cX11_put 81 = .ok (.getfield 54, 3) := dk_180 0 54 (dk_at dksX11_put_3 13 rfl rfl)
theorem dX11_put_84 : decode cX11_put 84 = .ok (.iastore, 1) := dk_79 (dk_at dksX11_put_3 16 rfl rfl)
theorem dX11_put_85 : decode cX11_put 85 = .ok (.iinc 4 1, 3) := dk_132 4 1 (dk_at dksX11_put_3 17 rfl rfl)
theorem dX11_put_88 : decode cX11_put 88 = .ok (.goto (-77), 3) := dk_167 255 179 (dk_at dksX11_put_3 20 rfl rfl)
theorem dX11_put_91 : decode cX11_put 91 = .ok (.return_, 1) := dk_177 (dk_at dksX11_put_3 23 rfl rfl)
abbrev cX11_isAt : ByteArray := prog_11_method_2_code
def yX11_isAt : MethodName := ⟨RX11, "isAt", "(III)Z"⟩
def dkwX11_isAt_1 : List UInt8 := [4, 167, 0, 4, 3, 172]
abbrev dktX11_isAt_1 : List UInt8 := dkwX11_isAt_1 ++ []
def dkwX11_isAt_0 : List UInt8 := [42, 180, 0, 15, 27, 160, 0, 23, 42, 180, 0, 19, 28, 160, 0, 15, 42, 180, 0, 22, 29, 160, 0, 7]
abbrev dktX11_isAt_0 : List UInt8 := dkwX11_isAt_0 ++ dktX11_isAt_1
theorem dksX11_isAt_0 : cX11_isAt.data.toList.drop 0 = dktX11_isAt_0 := by decide +kernel
theorem dksX11_isAt_1 : cX11_isAt.data.toList.drop 24 = dktX11_isAt_1 := dk_seg dksX11_isAt_0 24 rfl rfl
theorem dX11_isAt_0 : decode cX11_isAt 0 = .ok (.aload_n 0, 1) := dk_42 (dk_at dksX11_isAt_0 0 rfl rfl)
theorem dX11_isAt_1 : decode cX11_isAt 1 = .ok (.getfield 15, 3) := dk_180 0 15 (dk_at dksX11_isAt_0 1 rfl rfl)
theorem dX11_isAt_4 : decode cX11_isAt 4 = .ok (.iload_n 1, 1) := dk_27 (dk_at dksX11_isAt_0 4 rfl rfl)
theorem dX11_isAt_5 : decode cX11_isAt 5 = .ok (.if_icmp .ne 23, 3) := dk_160 0 23 (dk_at dksX11_isAt_0 5 rfl rfl)
theorem dX11_isAt_8 : decode cX11_isAt 8 = .ok (.aload_n 0, 1) := dk_42 (dk_at dksX11_isAt_0 8 rfl rfl)
theorem dX11_isAt_9 : decode cX11_isAt 9 = .ok (.getfield 19, 3) := dk_180 0 19 (dk_at dksX11_isAt_0 9 rfl rfl)
theorem dX11_isAt_12 : decode cX11_isAt 12 = .ok (.iload_n 2, 1) := dk_28 (dk_at dksX11_isAt_0 12 rfl rfl)
theorem dX11_isAt_13 : decode cX11_isAt 13 = .ok (.if_icmp .ne 15, 3) := dk_160 0 15 (dk_at dksX11_isAt_0 13 rfl rfl)
theorem dX11_isAt_16 : decode cX11_isAt 16 = .ok (.aload_n 0, 1) := dk_42 (dk_at dksX11_isAt_0 16 rfl rfl)
theorem dX11_isAt_17 : decode cX11_isAt 17 = .ok (.getfield 22, 3) := dk_180 0 22 (dk_at dksX11_isAt_0 17 rfl rfl)
theorem dX11_isAt_20 : decode cX11_isAt 20 = .ok (.iload_n 3, 1) := dk_29 (dk_at dksX11_isAt_0 20 rfl rfl)
theorem dX11_isAt_21 : decode cX11_isAt 21 = .ok (.if_icmp .ne 7, 3) := dk_160 0 7 (dk_at dksX11_isAt_0 21 rfl rfl)
theorem dX11_isAt_24 : decode cX11_isAt 24 = .ok (.iconst 1, 1) := dk_4 (dk_at dksX11_isAt_1 0 rfl rfl)
theorem dX11_isAt_25 : decode cX11_isAt 25 = .ok (.goto 4, 3) := dk_167 0 4 (dk_at dksX11_isAt_1 1 rfl rfl)
theorem dX11_isAt_28 : decode cX11_isAt 28 = .ok (.iconst 0, 1) := dk_3 (dk_at dksX11_isAt_1 4 rfl rfl)
theorem dX11_isAt_29 : decode cX11_isAt 29 = .ok (.ireturn, 1) := dk_172 (dk_at dksX11_isAt_1 5 rfl rfl)
abbrev cX11_filled : ByteArray := prog_11_method_5_code
def yX11_filled : MethodName := ⟨RX11, "filled", "()I"⟩
def dkwX11_filled_1 : List UInt8 := [54, 5, 27, 21, 5, 158, 0, 7, 4, 167, 0, 4, 3, 96, 60, 132, 4, 1, 167, 255, 228, 27, 172]
abbrev dktX11_filled_1 : List UInt8 := dkwX11_filled_1 ++ []
def dkwX11_filled_0 : List UInt8 := [3, 60, 42, 180, 0, 9, 77, 44, 190, 62, 3, 54, 4, 21, 4, 29, 162, 0, 28, 44, 21, 4, 46]
abbrev dktX11_filled_0 : List UInt8 := dkwX11_filled_0 ++ dktX11_filled_1
theorem dksX11_filled_0 : cX11_filled.data.toList.drop 0 = dktX11_filled_0 := by decide +kernel
theorem dksX11_filled_1 : cX11_filled.data.toList.drop 23 = dktX11_filled_1 := dk_seg dksX11_filled_0 23 rfl rfl
theorem dX11_filled_0 : decode cX11_filled 0 = .ok (.iconst 0, 1) := dk_3 (dk_at dksX11_filled_0 0 rfl rfl)
theorem dX11_filled_1 : decode cX11_filled 1 = .ok (.istore_n 1, 1) := dk_60 (dk_at dksX11_filled_0 1 rfl rfl)
theorem dX11_filled_2 : decode cX11_filled 2 = .ok (.aload_n 0, 1) := dk_42 (dk_at dksX11_filled_0 2 rfl rfl)
theorem dX11_filled_3 : decode cX11_filled 3 = .ok (.getfield 9, 3) := dk_180 0 9 (dk_at dksX11_filled_0 3 rfl rfl)
theorem dX11_filled_6 : decode cX11_filled 6 = .ok (.astore_n 2, 1) := dk_77 (dk_at dksX11_filled_0 6 rfl rfl)
theorem dX11_filled_7 : decode cX11_filled 7 = .ok (.aload_n 2, 1) := dk_44 (dk_at dksX11_filled_0 7 rfl rfl)
theorem dX11_filled_8 : decode cX11_filled 8 = .ok (.arraylength, 1) := dk_190 (dk_at dksX11_filled_0 8 rfl rfl)
theorem dX11_filled_9 : decode cX11_filled 9 = .ok (.istore_n 3, 1) := dk_62 (dk_at dksX11_filled_0 9 rfl rfl)
theorem dX11_filled_10 : decode cX11_filled 10 = .ok (.iconst 0, 1) := dk_3 (dk_at dksX11_filled_0 10 rfl rfl)
theorem dX11_filled_11 : decode cX11_filled 11 = .ok (.istore 4, 2) := dk_54 4 (dk_at dksX11_filled_0 11 rfl rfl)
theorem dX11_filled_13 : decode cX11_filled 13 = .ok (.iload 4, 2) := dk_21 4 (dk_at dksX11_filled_0 13 rfl rfl)
theorem dX11_filled_15 : decode cX11_filled 15 = .ok (.iload_n 3, 1) := dk_29 (dk_at dksX11_filled_0 15 rfl rfl)
theorem dX11_filled_16 : decode cX11_filled 16 = .ok (.if_icmp .ge 28, 3) := dk_162 0 28 (dk_at dksX11_filled_0 16 rfl rfl)
theorem dX11_filled_19 : decode cX11_filled 19 = .ok (.aload_n 2, 1) := dk_44 (dk_at dksX11_filled_0 19 rfl rfl)
theorem dX11_filled_20 : decode cX11_filled 20 = .ok (.iload 4, 2) := dk_21 4 (dk_at dksX11_filled_0 20 rfl rfl)
theorem dX11_filled_22 : decode cX11_filled 22 = .ok (.iaload, 1) := dk_46 (dk_at dksX11_filled_0 22 rfl rfl)
theorem dX11_filled_23 : decode cX11_filled 23 = .ok (.istore 5, 2) := dk_54 5 (dk_at dksX11_filled_1 0 rfl rfl)
theorem dX11_filled_25 : decode cX11_filled 25 = .ok (.iload_n 1, 1) := dk_27 (dk_at dksX11_filled_1 2 rfl rfl)
theorem dX11_filled_26 : decode cX11_filled 26 = .ok (.iload 5, 2) := dk_21 5 (dk_at dksX11_filled_1 3 rfl rfl)
theorem dX11_filled_28 : decode cX11_filled 28 = .ok (.ifCond .le 7, 3) := dk_158 0 7 (dk_at dksX11_filled_1 5 rfl rfl)
theorem dX11_filled_31 : decode cX11_filled 31 = .ok (.iconst 1, 1) := dk_4 (dk_at dksX11_filled_1 8 rfl rfl)
theorem dX11_filled_32 : decode cX11_filled 32 = .ok (.goto 4, 3) := dk_167 0 4 (dk_at dksX11_filled_1 9 rfl rfl)
theorem dX11_filled_35 : decode cX11_filled 35 = .ok (.iconst 0, 1) := dk_3 (dk_at dksX11_filled_1 12 rfl rfl)
theorem dX11_filled_36 : decode cX11_filled 36 = .ok (.iadd, 1) := dk_96 (dk_at dksX11_filled_1 13 rfl rfl)
theorem dX11_filled_37 : decode cX11_filled 37 = .ok (.istore_n 1, 1) := dk_60 (dk_at dksX11_filled_1 14 rfl rfl)
theorem dX11_filled_38 : decode cX11_filled 38 = .ok (.iinc 4 1, 3) := dk_132 4 1 (dk_at dksX11_filled_1 15 rfl rfl)
theorem dX11_filled_41 : decode cX11_filled 41 = .ok (.goto (-28), 3) := dk_167 255 228 (dk_at dksX11_filled_1 18 rfl rfl)
theorem dX11_filled_44 : decode cX11_filled 44 = .ok (.iload_n 1, 1) := dk_27 (dk_at dksX11_filled_1 21 rfl rfl)
theorem dX11_filled_45 : decode cX11_filled 45 = .ok (.ireturn, 1) := dk_172 (dk_at dksX11_filled_1 22 rfl rfl)
abbrev cX11_get : ByteArray := prog_11_method_3_code
def yX11_get : MethodName := ⟨RX11, "get", "(II)I"⟩
def dkwX11_get_0 : List UInt8 := [42, 180, 0, 9, 16, 8, 28, 104, 27, 96, 46, 172]
abbrev dktX11_get_0 : List UInt8 := dkwX11_get_0 ++ []
theorem dksX11_get_0 : cX11_get.data.toList.drop 0 = dktX11_get_0 := by decide +kernel
theorem dX11_get_0 : decode cX11_get 0 = .ok (.aload_n 0, 1) := dk_42 (dk_at dksX11_get_0 0 rfl rfl)
theorem dX11_get_1 : decode cX11_get 1 = .ok (.getfield 9, 3) := dk_180 0 9 (dk_at dksX11_get_0 1 rfl rfl)
theorem dX11_get_4 : decode cX11_get 4 = .ok (.bipush 8, 2) := dk_16 8 (dk_at dksX11_get_0 4 rfl rfl)
theorem dX11_get_6 : decode cX11_get 6 = .ok (.iload_n 2, 1) := dk_28 (dk_at dksX11_get_0 6 rfl rfl)
theorem dX11_get_7 : decode cX11_get 7 = .ok (.imul, 1) := dk_104 (dk_at dksX11_get_0 7 rfl rfl)
theorem dX11_get_8 : decode cX11_get 8 = .ok (.iload_n 1, 1) := dk_27 (dk_at dksX11_get_0 8 rfl rfl)
theorem dX11_get_9 : decode cX11_get 9 = .ok (.iadd, 1) := dk_96 (dk_at dksX11_get_0 9 rfl rfl)
theorem dX11_get_10 : decode cX11_get 10 = .ok (.iaload, 1) := dk_46 (dk_at dksX11_get_0 10 rfl rfl)
theorem dX11_get_11 : decode cX11_get 11 = .ok (.ireturn, 1) := dk_172 (dk_at dksX11_get_0 11 rfl rfl)
theorem q96 : (Jvm.Cond.initialized "TileServer$Tile") ∈ lw_all := lw_g (lw_at lw_m1 35 rfl) rfl
theorem q163 : (Jvm.Cond.fieldLinkNest "TileServer$Tile" (40 : Nat) "TileServer$Box" "left" "I" "TileServer") ∈ lw_tbl := lw_at lw_m1 102 rfl
theorem q166 : (Jvm.Cond.fieldLinkNest "TileServer$Tile" (45 : Nat) "TileServer$Box" "low" "I" "TileServer") ∈ lw_tbl := lw_at lw_m1 105 rfl
theorem q371 : (Jvm.Cond.instantiable "TileServer$Tile" (6 : Nat)) ∈ lw_all := lw_g (lw_at lw_m2 70 rfl) rfl
theorem q373 : (Jvm.Cond.instanceMethod ({ cls := "TileServer$Tile", name := "<init>", desc := "(IIII)V" } : Jvm.MethodName)) ∈ lw_all := lw_g (lw_at lw_m2 72 rfl) rfl
theorem q374 : (Jvm.Cond.code ({ cls := "TileServer$Tile", name := "<init>", desc := "(IIII)V" } : Jvm.MethodName) prog_11_method_1_code (5 : Nat) (Option.none : Option Jvm.ClassFile.FieldType)) ∈ lw_all := lw_g (lw_at lw_m2 73 rfl) rfl
theorem q375 : (Jvm.Cond.methodLink "TileServer$Tile" (3 : Nat) ({ cls := "java/lang/Object", name := "<init>", desc := "()V" } : Jvm.MethodName)) ∈ lw_all := lw_g (lw_at lw_m2 74 rfl) rfl
theorem q376 : (Jvm.Cond.methodLinkNest "TileServer$Tile" (28 : Nat) ({ cls := "TileServer", name := "boxOfTile", desc := "(III)LTileServer$Box;" } : Jvm.MethodName) "TileServer") ∈ lw_tbl := lw_at lw_m2 75 rfl
theorem q382 : (Jvm.Cond.fieldLink "TileServer$Tile" (15 : Nat) "TileServer$Tile" "level" "I") ∈ lw_all := lw_g (lw_at lw_m2 81 rfl) rfl
theorem q384 : (Jvm.Cond.fieldLink "TileServer$Tile" (19 : Nat) "TileServer$Tile" "column" "I") ∈ lw_all := lw_g (lw_at lw_m2 83 rfl) rfl
theorem q386 : (Jvm.Cond.fieldLink "TileServer$Tile" (22 : Nat) "TileServer$Tile" "row" "I") ∈ lw_all := lw_g (lw_at lw_m2 85 rfl) rfl
theorem q388 : (Jvm.Cond.fieldLink "TileServer$Tile" (32 : Nat) "TileServer$Tile" "box" "LTileServer$Box;") ∈ lw_all := lw_g (lw_at lw_m2 87 rfl) rfl
theorem q390 : (Jvm.Cond.fieldLink "TileServer$Tile" (25 : Nat) "TileServer$Tile" "drawnAt" "I") ∈ lw_all := lw_g (lw_at lw_m2 89 rfl) rfl
theorem q392 : (Jvm.Cond.fieldLink "TileServer$Tile" (9 : Nat) "TileServer$Tile" "cells" "[I") ∈ lw_all := lw_g (lw_at lw_m2 91 rfl) rfl
theorem q394 : (Jvm.Cond.laysFinal "TileServer$Tile" "TileServer$Tile" "level" "I") ∈ lw_all := lw_g (lw_at lw_m2 93 rfl) rfl
theorem q395 : (Jvm.Cond.soleField "TileServer$Tile" "level") ∈ lw_all := lw_g (lw_at lw_m2 94 rfl) rfl
theorem q396 : (Jvm.Cond.laysFinal "TileServer$Tile" "TileServer$Tile" "column" "I") ∈ lw_all := lw_g (lw_at lw_m2 95 rfl) rfl
theorem q397 : (Jvm.Cond.soleField "TileServer$Tile" "column") ∈ lw_all := lw_g (lw_at lw_m2 96 rfl) rfl
theorem q398 : (Jvm.Cond.laysFinal "TileServer$Tile" "TileServer$Tile" "row" "I") ∈ lw_all := lw_g (lw_at lw_m2 97 rfl) rfl
theorem q399 : (Jvm.Cond.soleField "TileServer$Tile" "row") ∈ lw_all := lw_g (lw_at lw_m2 98 rfl) rfl
theorem q400 : (Jvm.Cond.laysFinal "TileServer$Tile" "TileServer$Tile" "box" "LTileServer$Box;") ∈ lw_all := lw_g (lw_at lw_m2 99 rfl) rfl
theorem q401 : (Jvm.Cond.soleField "TileServer$Tile" "box") ∈ lw_all := lw_g (lw_at lw_m2 100 rfl) rfl
theorem q402 : (Jvm.Cond.laysFinal "TileServer$Tile" "TileServer$Tile" "drawnAt" "I") ∈ lw_all := lw_g (lw_at lw_m2 101 rfl) rfl
theorem q403 : (Jvm.Cond.soleField "TileServer$Tile" "drawnAt") ∈ lw_all := lw_g (lw_at lw_m2 102 rfl) rfl
theorem q404 : (Jvm.Cond.laysFinal "TileServer$Tile" "TileServer$Tile" "cells" "[I") ∈ lw_all := lw_g (lw_at lw_m2 103 rfl) rfl
theorem q405 : (Jvm.Cond.soleField "TileServer$Tile" "cells") ∈ lw_all := lw_g (lw_at lw_m2 104 rfl) rfl
theorem q406 : (Jvm.Cond.superclass "TileServer$Tile" "java/lang/Object") ∈ lw_all := lw_g (lw_at lw_m2 105 rfl) rfl
theorem q550 : (Jvm.Cond.selects "TileServer$Tile" ({ cls := "java/lang/Object", name := "getClass", desc := "()Ljava/lang/Class;" } : Jvm.MethodName) ({ cls := "java/lang/Object", name := "getClass", desc := "()Ljava/lang/Class;" } : Jvm.MethodName)) ∈ lw_all := lw_g (lw_at lw_m3 9 rfl) rfl
theorem q616 : (Jvm.Cond.instanceMethod ({ cls := "TileServer$Tile", name := "put", desc := "(LTileServer$Shape;LTileServer$Sketch;)V" } : Jvm.MethodName)) ∈ lw_all := lw_g (lw_at lw_m3 75 rfl) rfl
theorem q617 : (Jvm.Cond.selects "TileServer$Tile" ({ cls := "TileServer$Tile", name := "put", desc := "(LTileServer$Shape;LTileServer$Sketch;)V" } : Jvm.MethodName) ({ cls := "TileServer$Tile", name := "put", desc := "(LTileServer$Shape;LTileServer$Sketch;)V" } : Jvm.MethodName)) ∈ lw_all := lw_g (lw_at lw_m3 76 rfl) rfl
theorem q618 : (Jvm.Cond.code ({ cls := "TileServer$Tile", name := "put", desc := "(LTileServer$Shape;LTileServer$Sketch;)V" } : Jvm.MethodName) prog_11_method_4_code (7 : Nat) (Option.none : Option Jvm.ClassFile.FieldType)) ∈ lw_all := lw_g (lw_at lw_m3 77 rfl) rfl
theorem q619 : (Jvm.Cond.methodLinkNest "TileServer$Tile" (36 : Nat) ({ cls := "TileServer", name := "sideOfCell", desc := "(I)I" } : Jvm.MethodName) "TileServer") ∈ lw_tbl := lw_at lw_m3 78 rfl
theorem q622 : (Jvm.Cond.methodLink "TileServer$Tile" (48 : Nat) ({ cls := "TileServer$Sketch", name := "showsIn", desc := "(IIII)Z" } : Jvm.MethodName)) ∈ lw_all := lw_g (lw_at lw_m3 81 rfl) rfl
theorem q743 : (Jvm.Cond.fieldLinkNest "TileServer$Tile" (54 : Nat) "TileServer$Shape" "number" "I" "TileServer") ∈ lw_tbl := lw_at lw_m3 202 rfl
theorem q974 : (Jvm.Cond.selects "TileServer$Tile" ({ cls := "java/lang/Object", name := "equals", desc := "(Ljava/lang/Object;)Z" } : Jvm.MethodName) ({ cls := "java/lang/Object", name := "equals", desc := "(Ljava/lang/Object;)Z" } : Jvm.MethodName)) ∈ lw_all := lw_g (lw_at lw_m4 193 rfl) rfl
theorem q1119 : (Jvm.Cond.instanceMethod ({ cls := "TileServer$Tile", name := "isAt", desc := "(III)Z" } : Jvm.MethodName)) ∈ lw_all := lw_g (lw_at lw_m5 98 rfl) rfl
theorem q1120 : (Jvm.Cond.selects "TileServer$Tile" ({ cls := "TileServer$Tile", name := "isAt", desc := "(III)Z" } : Jvm.MethodName) ({ cls := "TileServer$Tile", name := "isAt", desc := "(III)Z" } : Jvm.MethodName)) ∈ lw_all := lw_g (lw_at lw_m5 99 rfl) rfl
theorem q1121 : (Jvm.Cond.code ({ cls := "TileServer$Tile", name := "isAt", desc := "(III)Z" } : Jvm.MethodName) prog_11_method_2_code (4 : Nat) (Option.some Jvm.ClassFile.FieldType.boolean)) ∈ lw_all := lw_g (lw_at lw_m5 100 rfl) rfl
theorem q1123 : (Jvm.Cond.instanceMethod ({ cls := "TileServer$Tile", name := "filled", desc := "()I" } : Jvm.MethodName)) ∈ lw_all := lw_g (lw_at lw_m5 102 rfl) rfl
theorem q1124 : (Jvm.Cond.selects "TileServer$Tile" ({ cls := "TileServer$Tile", name := "filled", desc := "()I" } : Jvm.MethodName) ({ cls := "TileServer$Tile", name := "filled", desc := "()I" } : Jvm.MethodName)) ∈ lw_all := lw_g (lw_at lw_m5 103 rfl) rfl
theorem q1125 : (Jvm.Cond.code ({ cls := "TileServer$Tile", name := "filled", desc := "()I" } : Jvm.MethodName) prog_11_method_5_code (6 : Nat) (Option.some Jvm.ClassFile.FieldType.int)) ∈ lw_all := lw_g (lw_at lw_m5 104 rfl) rfl
theorem q1127 : (Jvm.Cond.instanceMethod ({ cls := "TileServer$Tile", name := "get", desc := "(II)I" } : Jvm.MethodName)) ∈ lw_all := lw_g (lw_at lw_m5 106 rfl) rfl
theorem q1128 : (Jvm.Cond.selects "TileServer$Tile" ({ cls := "TileServer$Tile", name := "get", desc := "(II)I" } : Jvm.MethodName) ({ cls := "TileServer$Tile", name := "get", desc := "(II)I" } : Jvm.MethodName)) ∈ lw_all := lw_g (lw_at lw_m5 107 rfl) rfl
theorem q1129 : (Jvm.Cond.code ({ cls := "TileServer$Tile", name := "get", desc := "(II)I" } : Jvm.MethodName) prog_11_method_3_code (3 : Nat) (Option.some Jvm.ClassFile.FieldType.int)) ∈ lw_all := lw_g (lw_at lw_m5 108 rfl) rfl
theorem q2009 : (Jvm.Cond.castable "TileServer$Tile" "java/lang/Object") ∈ lw_tbl := lw_at lw_m9 28 rfl
theorem in_X11 : ∀ w ∈ wsX110, w ∈ lw_all := lw_in wsX110 [394, 396, 398, 400, 402, 404] (by decide +kernel) (by decide +kernel)
/-! TileServer$Blot -/
set_option maxRecDepth 100000
def RX12 : String := "TileServer$Blot"
def TX12 : u_T := fun k => match k with
  | 0 => ("TileServer$Sketch", "box", "LTileServer$Box;", true)
  | _ => ("TileServer$Blot", "area", "LTileServer$Area;", true)
def tyX12 : Nat → FieldType := fun k => match k with
  | 0 => .object "TileServer$Box"
  | _ => .object "TileServer$Area"
abbrev wsX120 : List Cond := u_ws RX12 TX12 2
theorem nmX12 : ∀ a, a < 2 → ∀ b, b < 2 → a ≠ b → (TX12 a).2.1 ≠ (TX12 b).2.1 := by decide +kernel
theorem tyX12_ok : ∀ k, k < 2 → parseFieldDescriptor (TX12 k).2.2.1 = some (tyX12 k) := by decide +kernel
abbrev cX12_init : ByteArray := prog_3_method_1_code
def yX12_init : MethodName := ⟨RX12, "<init>", "(LTileServer$Box;LTileServer$Area;)V"⟩
def dkwX12_init_0 : List UInt8 := [42, 43, 183, 0, 1, 42, 44, 181, 0, 7, 177]
abbrev dktX12_init_0 : List UInt8 := dkwX12_init_0 ++ []
theorem dksX12_init_0 : cX12_init.data.toList.drop 0 = dktX12_init_0 := by decide +kernel
theorem dX12_init_0 : decode cX12_init 0 = .ok (.aload_n 0, 1) := dk_42 (dk_at dksX12_init_0 0 rfl rfl)
theorem dX12_init_1 : decode cX12_init 1 = .ok (.aload_n 1, 1) := dk_43 (dk_at dksX12_init_0 1 rfl rfl)
theorem dX12_init_2 : decode cX12_init 2 = .ok (.invokespecial 1, 3) := dk_183 0 1 (dk_at dksX12_init_0 2 rfl rfl)
theorem dX12_init_5 : decode cX12_init 5 = .ok (.aload_n 0, 1) := dk_42 (dk_at dksX12_init_0 5 rfl rfl)
theorem dX12_init_6 : decode cX12_init 6 = .ok (.aload_n 2, 1) := dk_44 (dk_at dksX12_init_0 6 rfl rfl)
theorem dX12_init_7 : decode cX12_init 7 = .ok (.putfield 7, 3) := dk_181 0 7 (dk_at dksX12_init_0 7 rfl rfl)
theorem dX12_init_10 : decode cX12_init 10 = .ok (.return_, 1) := dk_177 (dk_at dksX12_init_0 10 rfl rfl)
abbrev cX12_showsIn : ByteArray := prog_3_method_2_code
def yX12_showsIn : MethodName := ⟨RX12, "showsIn", "(IIII)Z"⟩
def dkwX12_showsIn_3 : List UInt8 := [21, 6, 96, 42, 180, 0, 7, 180, 0, 33, 162, 0, 7, 4, 167, 0, 4, 3, 172]
abbrev dktX12_showsIn_3 : List UInt8 := dkwX12_showsIn_3 ++ []
def dkwX12_showsIn_2 : List UInt8 := [180, 0, 7, 180, 0, 30, 162, 0, 34, 21, 6, 42, 180, 0, 7, 180, 0, 30, 162, 0, 22, 21, 5]
abbrev dktX12_showsIn_2 : List UInt8 := dkwX12_showsIn_2 ++ dktX12_showsIn_3
def dkwX12_showsIn_1 : List UInt8 := [184, 0, 23, 54, 5, 42, 180, 0, 7, 180, 0, 27, 28, 21, 4, 184, 0, 23, 54, 6, 21, 5, 42]
abbrev dktX12_showsIn_1 : List UInt8 := dkwX12_showsIn_1 ++ dktX12_showsIn_2
def dkwX12_showsIn_0 : List UInt8 := [42, 27, 28, 29, 21, 4, 183, 0, 13, 154, 0, 5, 3, 172, 42, 180, 0, 7, 180, 0, 17, 27, 29]
abbrev dktX12_showsIn_0 : List UInt8 := dkwX12_showsIn_0 ++ dktX12_showsIn_1
theorem dksX12_showsIn_0 : cX12_showsIn.data.toList.drop 0 = dktX12_showsIn_0 := by decide +kernel
theorem dksX12_showsIn_1 : cX12_showsIn.data.toList.drop 23 = dktX12_showsIn_1 := dk_seg dksX12_showsIn_0 23 rfl rfl
theorem dksX12_showsIn_2 : cX12_showsIn.data.toList.drop 46 = dktX12_showsIn_2 := dk_seg dksX12_showsIn_1 23 rfl rfl
theorem dksX12_showsIn_3 : cX12_showsIn.data.toList.drop 69 = dktX12_showsIn_3 := dk_seg dksX12_showsIn_2 23 rfl rfl
theorem dX12_showsIn_0 : decode cX12_showsIn 0 = .ok (.aload_n 0, 1) := dk_42 (dk_at dksX12_showsIn_0 0 rfl rfl)
theorem dX12_showsIn_1 : decode cX12_showsIn 1 = .ok (.iload_n 1, 1) := dk_27 (dk_at dksX12_showsIn_0 1 rfl rfl)
theorem dX12_showsIn_2 : decode cX12_showsIn 2 = .ok (.iload_n 2, 1) := dk_28 (dk_at dksX12_showsIn_0 2 rfl rfl)
theorem dX12_showsIn_3 : decode cX12_showsIn 3 = .ok (.iload_n 3, 1) := dk_29 (dk_at dksX12_showsIn_0 3 rfl rfl)
theorem dX12_showsIn_4 : decode cX12_showsIn 4 = .ok (.iload 4, 2) := dk_21 4 (dk_at dksX12_showsIn_0 4 rfl rfl)
theorem dX12_showsIn_6 : decode cX12_showsIn 6 = .ok (.invokespecial 13, 3) := dk_183 0 13 (dk_at dksX12_showsIn_0 6 rfl rfl)
theorem dX12_showsIn_9 : decode cX12_showsIn 9 = .ok (.ifCond .ne 5, 3) := dk_154 0 5 (dk_at dksX12_showsIn_0 9 rfl rfl)
theorem dX12_showsIn_12 : decode cX12_showsIn 12 = .ok (.iconst 0, 1) := dk_3 (dk_at dksX12_showsIn_0 12 rfl rfl)
theorem dX12_showsIn_13 : decode cX12_showsIn 13 = .ok (.ireturn, 1) := dk_172 (dk_at dksX12_showsIn_0 13 rfl rfl)
theorem dX12_showsIn_14 : decode cX12_showsIn 14 = .ok (.aload_n 0, 1) := dk_42 (dk_at dksX12_showsIn_0 14 rfl rfl)
theorem dX12_showsIn_15 : decode cX12_showsIn 15 = .ok (.getfield 7, 3) := dk_180 0 7 (dk_at dksX12_showsIn_0 15 rfl rfl)
theorem dX12_showsIn_18 : decode cX12_showsIn 18 = .ok (.getfield 17, 3) := dk_180 0 17 (dk_at dksX12_showsIn_0 18 rfl rfl)
theorem dX12_showsIn_21 : decode cX12_showsIn 21 = .ok (.iload_n 1, 1) := dk_27 (dk_at dksX12_showsIn_0 21 rfl rfl)
theorem dX12_showsIn_22 : decode cX12_showsIn 22 = .ok (.iload_n 3, 1) := dk_29 (dk_at dksX12_showsIn_0 22 rfl rfl)
theorem dX12_showsIn_23 : decode cX12_showsIn 23 = .ok (.invokestatic 23, 3) := dk_184 0 23 (dk_at dksX12_showsIn_1 0 rfl rfl)
theorem dX12_showsIn_26 : decode cX12_showsIn 26 = .ok (.istore 5, 2) := dk_54 5 (dk_at dksX12_showsIn_1 3 rfl rfl)
theorem dX12_showsIn_28 : decode cX12_showsIn 28 = .ok (.aload_n 0, 1) := dk_42 (dk_at dksX12_showsIn_1 5 rfl rfl)
theorem dX12_showsIn_29 : decode cX12_showsIn 29 = .ok (.getfield 7, 3) := dk_180 0 7 (dk_at dksX12_showsIn_1 6 rfl rfl)
theorem dX12_showsIn_32 : decode cX12_showsIn 32 = .ok (.getfield 27, 3) := dk_180 0 27 (dk_at dksX12_showsIn_1 9 rfl rfl)
theorem dX12_showsIn_35 : decode cX12_showsIn 35 = .ok (.iload_n 2, 1) := dk_28 (dk_at dksX12_showsIn_1 12 rfl rfl)
theorem dX12_showsIn_36 : decode cX12_showsIn 36 = .ok (.iload 4, 2) := dk_21 4 (dk_at dksX12_showsIn_1 13 rfl rfl)
theorem dX12_showsIn_38 : decode cX12_showsIn 38 = .ok (.invokestatic 23, 3) := dk_184 0 23 (dk_at dksX12_showsIn_1 15 rfl rfl)
theorem dX12_showsIn_41 : decode cX12_showsIn 41 = .ok (.istore 6, 2) := dk_54 6 (dk_at dksX12_showsIn_1 18 rfl rfl)
theorem dX12_showsIn_43 : decode cX12_showsIn 43 = .ok (.iload 5, 2) := dk_21 5 (dk_at dksX12_showsIn_1 20 rfl rfl)
theorem dX12_showsIn_45 : decode cX12_showsIn 45 = .ok (.aload_n 0, 1) := dk_42 (dk_at dksX12_showsIn_1 22 rfl rfl)
theorem dX12_showsIn_46 : decode cX12_showsIn 46 = .ok (.getfield 7, 3) := dk_180 0 7 (dk_at dksX12_showsIn_2 0 rfl rfl)
theorem dX12_showsIn_49 : decode cX12_showsIn 49 = .ok (.getfield 30, 3) := dk_180 0 30 (dk_at dksX12_showsIn_2 3 rfl rfl)
theorem dX12_showsIn_52 : decode cX12_showsIn 52 = .ok (.if_icmp .ge 34, 3) := dk_162 0 34 (dk_at dksX12_showsIn_2 6 rfl rfl)
theorem dX12_showsIn_55 : decode cX12_showsIn 55 = .ok (.iload 6, 2) := dk_21 6 (dk_at dksX12_showsIn_2 9 rfl rfl)
theorem dX12_showsIn_57 : decode cX12_showsIn 57 = .ok (.aload_n 0, 1) := dk_42 (dk_at dksX12_showsIn_2 11 rfl rfl)
theorem dX12_showsIn_58 : decode cX12_showsIn 58 = .ok (.getfield 7, 3) := dk_180 0 7 (dk_at dksX12_showsIn_2 12 rfl rfl)
theorem dX12_showsIn_61 : decode cX12_showsIn 61 = .ok (.getfield 30, 3) := dk_180 0 30 (dk_at dksX12_showsIn_2 15 rfl rfl)
theorem dX12_showsIn_64 : decode cX12_showsIn 64 = .ok (.if_icmp .ge 22, 3) := dk_162 0 22 (dk_at dksX12_showsIn_2 18 rfl rfl)
theorem dX12_showsIn_67 : decode cX12_showsIn 67 = .ok (.iload 5, 2) := dk_21 5 (dk_at dksX12_showsIn_2 21 rfl rfl)
theorem dX12_showsIn_69 : decode cX12_showsIn 69 = .ok (.iload 6, 2) := dk_21 6 (dk_at dksX12_showsIn_3 0 rfl rfl)
theorem dX12_showsIn_71 : decode cX12_showsIn 71 = .ok (.iadd, 1) := dk_96 (dk_at dksX12_showsIn_3 2 rfl rfl)
theorem dX12_showsIn_72 : decode cX12_showsIn 72 = .ok (.aload_n 0, 1) := dk_42 (dk_at dksX12_showsIn_3 3 rfl rfl)
theorem dX12_showsIn_73 : decode cX12_showsIn 73 = .ok (.getfield 7, 3) := dk_180 0 7 (dk_at dksX12_showsIn_3 4 rfl rfl)
theorem dX12_showsIn_76 : decode cX12_showsIn 76 = .ok (.getfield 33, 3) := dk_180 0 33 (dk_at dksX12_showsIn_3 7 rfl rfl)
theorem dX12_showsIn_79 : decode cX12_showsIn 79 = .ok (.if_icmp .ge 7, 3) := dk_162 0 7 (dk_at dksX12_showsIn_3 10 rfl rfl)
theorem dX12_showsIn_82 : decode cX12_showsIn 82 = .ok (.iconst 1, 1) := dk_4 (dk_at dksX12_showsIn_3 13 rfl rfl)
theorem dX12_showsIn_83 : decode cX12_showsIn 83 = .ok (.goto 4, 3) := dk_167 0 4 (dk_at dksX12_showsIn_3 14 rfl rfl)
theorem dX12_showsIn_86 : decode cX12_showsIn 86 = .ok (.iconst 0, 1) := dk_3 (dk_at dksX12_showsIn_3 17 rfl rfl)
theorem dX12_showsIn_87 : decode cX12_showsIn 87 = .ok (.ireturn, 1) := dk_172 (dk_at dksX12_showsIn_3 18 rfl rfl)
abbrev cX12_distance : ByteArray := prog_3_method_3_code
def yX12_distance : MethodName := ⟨RX12, "distance", "(III)I"⟩
def dkwX12_distance_0 : List UInt8 := [3, 27, 26, 100, 26, 28, 100, 184, 0, 36, 184, 0, 36, 172]
abbrev dktX12_distance_0 : List UInt8 := dkwX12_distance_0 ++ []
theorem dksX12_distance_0 : cX12_distance.data.toList.drop 0 = dktX12_distance_0 := by decide +kernel
theorem dX12_distance_0 : decode cX12_distance 0 = .ok (.iconst 0, 1) := dk_3 (dk_at dksX12_distance_0 0 rfl rfl)
theorem dX12_distance_1 : decode cX12_distance 1 = .ok (.iload_n 1, 1) := dk_27 (dk_at dksX12_distance_0 1 rfl rfl)
theorem dX12_distance_2 : decode cX12_distance 2 = .ok (.iload_n 0, 1) := dk_26 (dk_at dksX12_distance_0 2 rfl rfl)
theorem dX12_distance_3 : decode cX12_distance 3 = .ok (.isub, 1) := dk_100 (dk_at dksX12_distance_0 3 rfl rfl)
theorem dX12_distance_4 : decode cX12_distance 4 = .ok (.iload_n 0, 1) := dk_26 (dk_at dksX12_distance_0 4 rfl rfl)
theorem dX12_distance_5 : decode cX12_distance 5 = .ok (.iload_n 2, 1) := dk_28 (dk_at dksX12_distance_0 5 rfl rfl)
theorem dX12_distance_6 : decode cX12_distance 6 = .ok (.isub, 1) := dk_100 (dk_at dksX12_distance_0 6 rfl rfl)
theorem dX12_distance_7 : decode cX12_distance 7 = .ok (.invokestatic 36, 3) := dk_184 0 36 (dk_at dksX12_distance_0 7 rfl rfl)
theorem dX12_distance_10 : decode cX12_distance 10 = .ok (.invokestatic 36, 3) := dk_184 0 36 (dk_at dksX12_distance_0 10 rfl rfl)
theorem dX12_distance_13 : decode cX12_distance 13 = .ok (.ireturn, 1) := dk_172 (dk_at dksX12_distance_0 13 rfl rfl)
theorem q97 : (Jvm.Cond.initialized "TileServer$Blot") ∈ lw_all := lw_g (lw_at lw_m1 36 rfl) rfl
theorem q415 : (Jvm.Cond.instantiable "TileServer$Blot" (2 : Nat)) ∈ lw_all := lw_g (lw_at lw_m2 114 rfl) rfl
theorem q423 : (Jvm.Cond.instanceMethod ({ cls := "TileServer$Blot", name := "<init>", desc := "(LTileServer$Box;LTileServer$Area;)V" } : Jvm.MethodName)) ∈ lw_all := lw_g (lw_at lw_m2 122 rfl) rfl
theorem q424 : (Jvm.Cond.code ({ cls := "TileServer$Blot", name := "<init>", desc := "(LTileServer$Box;LTileServer$Area;)V" } : Jvm.MethodName) prog_3_method_1_code (3 : Nat) (Option.none : Option Jvm.ClassFile.FieldType)) ∈ lw_all := lw_g (lw_at lw_m2 123 rfl) rfl
theorem q425 : (Jvm.Cond.methodLink "TileServer$Blot" (1 : Nat) ({ cls := "TileServer$Sketch", name := "<init>", desc := "(LTileServer$Box;)V" } : Jvm.MethodName)) ∈ lw_all := lw_g (lw_at lw_m2 124 rfl) rfl
theorem q429 : (Jvm.Cond.fieldLink "TileServer$Blot" (7 : Nat) "TileServer$Blot" "area" "LTileServer$Area;") ∈ lw_all := lw_g (lw_at lw_m2 128 rfl) rfl
theorem q431 : (Jvm.Cond.laysFinal "TileServer$Blot" "TileServer$Blot" "area" "LTileServer$Area;") ∈ lw_all := lw_g (lw_at lw_m2 130 rfl) rfl
theorem q432 : (Jvm.Cond.soleField "TileServer$Blot" "area") ∈ lw_all := lw_g (lw_at lw_m2 131 rfl) rfl
theorem q433 : (Jvm.Cond.laysFinal "TileServer$Blot" "TileServer$Sketch" "box" "LTileServer$Box;") ∈ lw_all := lw_g (lw_at lw_m2 132 rfl) rfl
theorem q435 : (Jvm.Cond.superclass "TileServer$Blot" "TileServer$Sketch") ∈ lw_all := lw_g (lw_at lw_m2 134 rfl) rfl
theorem q545 : (Jvm.Cond.selects "TileServer$Blot" ({ cls := "java/lang/Object", name := "getClass", desc := "()Ljava/lang/Class;" } : Jvm.MethodName) ({ cls := "java/lang/Object", name := "getClass", desc := "()Ljava/lang/Class;" } : Jvm.MethodName)) ∈ lw_all := lw_g (lw_at lw_m3 4 rfl) rfl
theorem q625 : (Jvm.Cond.selects "TileServer$Blot" ({ cls := "TileServer$Sketch", name := "showsIn", desc := "(IIII)Z" } : Jvm.MethodName) ({ cls := "TileServer$Blot", name := "showsIn", desc := "(IIII)Z" } : Jvm.MethodName)) ∈ lw_all := lw_g (lw_at lw_m3 84 rfl) rfl
theorem q626 : (Jvm.Cond.instanceMethod ({ cls := "TileServer$Blot", name := "showsIn", desc := "(IIII)Z" } : Jvm.MethodName)) ∈ lw_all := lw_g (lw_at lw_m3 85 rfl) rfl
theorem q627 : (Jvm.Cond.code ({ cls := "TileServer$Blot", name := "showsIn", desc := "(IIII)Z" } : Jvm.MethodName) prog_3_method_2_code (7 : Nat) (Option.some Jvm.ClassFile.FieldType.boolean)) ∈ lw_all := lw_g (lw_at lw_m3 86 rfl) rfl
theorem q628 : (Jvm.Cond.methodLink "TileServer$Blot" (13 : Nat) ({ cls := "TileServer$Sketch", name := "showsIn", desc := "(IIII)Z" } : Jvm.MethodName)) ∈ lw_all := lw_g (lw_at lw_m3 87 rfl) rfl
theorem q634 : (Jvm.Cond.methodLink "TileServer$Blot" (23 : Nat) ({ cls := "TileServer$Blot", name := "distance", desc := "(III)I" } : Jvm.MethodName)) ∈ lw_all := lw_g (lw_at lw_m3 93 rfl) rfl
theorem q635 : (Jvm.Cond.static ({ cls := "TileServer$Blot", name := "distance", desc := "(III)I" } : Jvm.MethodName)) ∈ lw_all := lw_g (lw_at lw_m3 94 rfl) rfl
theorem q636 : (Jvm.Cond.code ({ cls := "TileServer$Blot", name := "distance", desc := "(III)I" } : Jvm.MethodName) prog_3_method_3_code (3 : Nat) (Option.some Jvm.ClassFile.FieldType.int)) ∈ lw_all := lw_g (lw_at lw_m3 95 rfl) rfl
theorem q637 : (Jvm.Cond.methodLink "TileServer$Blot" (36 : Nat) ({ cls := "java/lang/Math", name := "max", desc := "(II)I" } : Jvm.MethodName)) ∈ lw_all := lw_g (lw_at lw_m3 96 rfl) rfl
theorem q911 : (Jvm.Cond.fieldLinkNest "TileServer$Blot" (30 : Nat) "TileServer$Area" "reach" "I" "TileServer") ∈ lw_tbl := lw_at lw_m4 130 rfl
theorem q913 : (Jvm.Cond.fieldLinkNest "TileServer$Blot" (33 : Nat) "TileServer$Area" "cut" "I" "TileServer") ∈ lw_tbl := lw_at lw_m4 132 rfl
theorem q915 : (Jvm.Cond.fieldLinkNest "TileServer$Blot" (17 : Nat) "TileServer$Area" "x" "I" "TileServer") ∈ lw_tbl := lw_at lw_m4 134 rfl
theorem q918 : (Jvm.Cond.fieldLinkNest "TileServer$Blot" (27 : Nat) "TileServer$Area" "y" "I" "TileServer") ∈ lw_tbl := lw_at lw_m4 137 rfl
theorem q969 : (Jvm.Cond.selects "TileServer$Blot" ({ cls := "java/lang/Object", name := "equals", desc := "(Ljava/lang/Object;)Z" } : Jvm.MethodName) ({ cls := "java/lang/Object", name := "equals", desc := "(Ljava/lang/Object;)Z" } : Jvm.MethodName)) ∈ lw_all := lw_g (lw_at lw_m4 188 rfl) rfl
theorem q2010 : (Jvm.Cond.castable "TileServer$Blot" "java/lang/Object") ∈ lw_tbl := lw_at lw_m9 29 rfl
theorem in_X12 : ∀ w ∈ wsX120, w ∈ lw_all := lw_in wsX120 [433, 431] (by decide +kernel) (by decide +kernel)
/-! TileServer$Label -/
set_option maxRecDepth 100000
def RX13 : String := "TileServer$Label"
def TX13 : u_T := fun k => match k with
  | 0 => ("TileServer$Label", "shape", "LTileServer$Shape;", true)
  | 1 => ("TileServer$Label", "way", "LTileServer$Way;", true)
  | _ => ("TileServer$Label", "box", "LTileServer$Box;", true)
def tyX13 : Nat → FieldType := fun k => match k with
  | 0 => .object "TileServer$Shape"
  | 1 => .object "TileServer$Way"
  | _ => .object "TileServer$Box"
abbrev wsX130 : List Cond := u_ws RX13 TX13 3
theorem nmX13 : ∀ a, a < 3 → ∀ b, b < 3 → a ≠ b → (TX13 a).2.1 ≠ (TX13 b).2.1 := by decide +kernel
theorem tyX13_ok : ∀ k, k < 3 → parseFieldDescriptor (TX13 k).2.2.1 = some (tyX13 k) := by decide +kernel
abbrev cX13_init : ByteArray := prog_5_method_1_code
def yX13_init : MethodName := ⟨RX13, "<init>", "(LTileServer$Shape;LTileServer$Way;LTileServer$Box;)V"⟩
def dkwX13_init_0 : List UInt8 := [42, 183, 0, 1, 42, 43, 181, 0, 7, 42, 44, 181, 0, 13, 42, 45, 181, 0, 17, 177]
abbrev dktX13_init_0 : List UInt8 := dkwX13_init_0 ++ []
theorem dksX13_init_0 : cX13_init.data.toList.drop 0 = dktX13_init_0 := by decide +kernel
theorem dX13_init_0 : decode cX13_init 0 = .ok (.aload_n 0, 1) := dk_42 (dk_at dksX13_init_0 0 rfl rfl)
theorem dX13_init_1 : decode cX13_init 1 = .ok (.invokespecial 1, 3) := dk_183 0 1 (dk_at dksX13_init_0 1 rfl rfl)
theorem dX13_init_4 : decode cX13_init 4 = .ok (.aload_n 0, 1) := dk_42 (dk_at dksX13_init_0 4 rfl rfl)
theorem dX13_init_5 : decode cX13_init 5 = .ok (.aload_n 1, 1) := dk_43 (dk_at dksX13_init_0 5 rfl rfl)
theorem dX13_init_6 : decode cX13_init 6 = .ok (.putfield 7, 3) := dk_181 0 7 (dk_at dksX13_init_0 6 rfl rfl)
theorem dX13_init_9 : decode cX13_init 9 = .ok (.aload_n 0, 1) := dk_42 (dk_at dksX13_init_0 9 rfl rfl)
theorem dX13_init_10 : decode cX13_init 10 = .ok (.aload_n 2, 1) := dk_44 (dk_at dksX13_init_0 10 rfl rfl)
theorem dX13_init_11 : decode cX13_init 11 = .ok (.putfield 13, 3) := dk_181 0 13 (dk_at dksX13_init_0 11 rfl rfl)
theorem dX13_init_14 : decode cX13_init 14 = .ok (.aload_n 0, 1) := dk_42 (dk_at dksX13_init_0 14 rfl rfl)
theorem dX13_init_15 : decode cX13_init 15 = .ok (.aload_n 3, 1) := dk_45 (dk_at dksX13_init_0 15 rfl rfl)
theorem dX13_init_16 : decode cX13_init 16 = .ok (.putfield 17, 3) := dk_181 0 17 (dk_at dksX13_init_0 16 rfl rfl)
theorem dX13_init_19 : decode cX13_init 19 = .ok (.return_, 1) := dk_177 (dk_at dksX13_init_0 19 rfl rfl)
theorem q102 : (Jvm.Cond.initialized "TileServer$Label") ∈ lw_all := lw_g (lw_at lw_m1 41 rfl) rfl
theorem q547 : (Jvm.Cond.selects "TileServer$Label" ({ cls := "java/lang/Object", name := "getClass", desc := "()Ljava/lang/Class;" } : Jvm.MethodName) ({ cls := "java/lang/Object", name := "getClass", desc := "()Ljava/lang/Class;" } : Jvm.MethodName)) ∈ lw_all := lw_g (lw_at lw_m3 6 rfl) rfl
theorem q971 : (Jvm.Cond.selects "TileServer$Label" ({ cls := "java/lang/Object", name := "equals", desc := "(Ljava/lang/Object;)Z" } : Jvm.MethodName) ({ cls := "java/lang/Object", name := "equals", desc := "(Ljava/lang/Object;)Z" } : Jvm.MethodName)) ∈ lw_all := lw_g (lw_at lw_m4 190 rfl) rfl
theorem q1548 : (Jvm.Cond.instantiable "TileServer$Label" (3 : Nat)) ∈ lw_all := lw_g (lw_at lw_m7 47 rfl) rfl
theorem q1550 : (Jvm.Cond.instanceMethod ({ cls := "TileServer$Label", name := "<init>", desc := "(LTileServer$Shape;LTileServer$Way;LTileServer$Box;)V" } : Jvm.MethodName)) ∈ lw_all := lw_g (lw_at lw_m7 49 rfl) rfl
theorem q1551 : (Jvm.Cond.code ({ cls := "TileServer$Label", name := "<init>", desc := "(LTileServer$Shape;LTileServer$Way;LTileServer$Box;)V" } : Jvm.MethodName) prog_5_method_1_code (4 : Nat) (Option.none : Option Jvm.ClassFile.FieldType)) ∈ lw_all := lw_g (lw_at lw_m7 50 rfl) rfl
theorem q1552 : (Jvm.Cond.methodLink "TileServer$Label" (1 : Nat) ({ cls := "java/lang/Object", name := "<init>", desc := "()V" } : Jvm.MethodName)) ∈ lw_all := lw_g (lw_at lw_m7 51 rfl) rfl
theorem q1553 : (Jvm.Cond.fieldLink "TileServer$Label" (7 : Nat) "TileServer$Label" "shape" "LTileServer$Shape;") ∈ lw_all := lw_g (lw_at lw_m7 52 rfl) rfl
theorem q1555 : (Jvm.Cond.fieldLink "TileServer$Label" (13 : Nat) "TileServer$Label" "way" "LTileServer$Way;") ∈ lw_all := lw_g (lw_at lw_m7 54 rfl) rfl
theorem q1557 : (Jvm.Cond.fieldLink "TileServer$Label" (17 : Nat) "TileServer$Label" "box" "LTileServer$Box;") ∈ lw_all := lw_g (lw_at lw_m7 56 rfl) rfl
theorem q1559 : (Jvm.Cond.laysFinal "TileServer$Label" "TileServer$Label" "shape" "LTileServer$Shape;") ∈ lw_all := lw_g (lw_at lw_m7 58 rfl) rfl
theorem q1560 : (Jvm.Cond.soleField "TileServer$Label" "shape") ∈ lw_all := lw_g (lw_at lw_m7 59 rfl) rfl
theorem q1561 : (Jvm.Cond.laysFinal "TileServer$Label" "TileServer$Label" "way" "LTileServer$Way;") ∈ lw_all := lw_g (lw_at lw_m7 60 rfl) rfl
theorem q1562 : (Jvm.Cond.soleField "TileServer$Label" "way") ∈ lw_all := lw_g (lw_at lw_m7 61 rfl) rfl
theorem q1563 : (Jvm.Cond.laysFinal "TileServer$Label" "TileServer$Label" "box" "LTileServer$Box;") ∈ lw_all := lw_g (lw_at lw_m7 62 rfl) rfl
theorem q1564 : (Jvm.Cond.soleField "TileServer$Label" "box") ∈ lw_all := lw_g (lw_at lw_m7 63 rfl) rfl
theorem q1565 : (Jvm.Cond.superclass "TileServer$Label" "java/lang/Object") ∈ lw_all := lw_g (lw_at lw_m7 64 rfl) rfl
theorem q2014 : (Jvm.Cond.castable "TileServer$Label" "java/lang/Object") ∈ lw_tbl := lw_at lw_m9 33 rfl
theorem in_X13 : ∀ w ∈ wsX130, w ∈ lw_all := lw_in wsX130 [1559, 1561, 1563] (by decide +kernel) (by decide +kernel)
/-! TileServer$Way$1 -/
set_option maxRecDepth 100000
def RX14 : String := "TileServer$Way$1"
abbrev cX14_place : ByteArray := prog_13_method_2_code
def yX14_place : MethodName := ⟨RX14, "place", "(IIII)LTileServer$Box;"⟩
def dkwX14_place_0 : List UInt8 := [187, 0, 7, 89, 27, 28, 21, 4, 5, 108, 100, 27, 29, 96, 28, 21, 4, 5, 108, 96, 183, 0, 9, 176]
abbrev dktX14_place_0 : List UInt8 := dkwX14_place_0 ++ []
theorem dksX14_place_0 : cX14_place.data.toList.drop 0 = dktX14_place_0 := by decide +kernel
theorem dX14_place_0 : decode cX14_place 0 = .ok (.new 7, 3) := dk_187 0 7 (dk_at dksX14_place_0 0 rfl rfl)
theorem dX14_place_3 : decode cX14_place 3 = .ok (.dup, 1) := dk_89 (dk_at dksX14_place_0 3 rfl rfl)
theorem dX14_place_4 : decode cX14_place 4 = .ok (.iload_n 1, 1) := dk_27 (dk_at dksX14_place_0 4 rfl rfl)
theorem dX14_place_5 : decode cX14_place 5 = .ok (.iload_n 2, 1) := dk_28 (dk_at dksX14_place_0 5 rfl rfl)
theorem dX14_place_6 : decode cX14_place 6 = .ok (.iload 4, 2) := dk_21 4 (dk_at dksX14_place_0 6 rfl rfl)
theorem dX14_place_8 : decode cX14_place 8 = .ok (.iconst 2, 1) := dk_5 (dk_at dksX14_place_0 8 rfl rfl)
theorem dX14_place_9 : decode cX14_place 9 = .ok (.idiv, 1) := dk_108 (dk_at dksX14_place_0 9 rfl rfl)
theorem dX14_place_10 : decode cX14_place 10 = .ok (.isub, 1) := dk_100 (dk_at dksX14_place_0 10 rfl rfl)
theorem dX14_place_11 : decode cX14_place 11 = .ok (.iload_n 1, 1) := dk_27 (dk_at dksX14_place_0 11 rfl rfl)
theorem dX14_place_12 : decode cX14_place 12 = .ok (.iload_n 3, 1) := dk_29 (dk_at dksX14_place_0 12 rfl rfl)
theorem dX14_place_13 : decode cX14_place 13 = .ok (.iadd, 1) := dk_96 (dk_at dksX14_place_0 13 rfl rfl)
theorem dX14_place_14 : decode cX14_place 14 = .ok (.iload_n 2, 1) := dk_28 (dk_at dksX14_place_0 14 rfl rfl)
theorem dX14_place_15 : decode cX14_place 15 = .ok (.iload 4, 2) := dk_21 4 (dk_at dksX14_place_0 15 rfl rfl)
theorem dX14_place_17 : decode cX14_place 17 = .ok (.iconst 2, 1) := dk_5 (dk_at dksX14_place_0 17 rfl rfl)
theorem dX14_place_18 : decode cX14_place 18 = .ok (.idiv, 1) := dk_108 (dk_at dksX14_place_0 18 rfl rfl)
theorem dX14_place_19 : decode cX14_place 19 = .ok (.iadd, 1) := dk_96 (dk_at dksX14_place_0 19 rfl rfl)
theorem dX14_place_20 : decode cX14_place 20 = .ok (.invokespecial 9, 3) := dk_183 0 9 (dk_at dksX14_place_0 20 rfl rfl)
theorem dX14_place_23 : decode cX14_place 23 = .ok (.areturn, 1) := dk_176 (dk_at dksX14_place_0 23 rfl rfl)
theorem q551 : (Jvm.Cond.selects "TileServer$Way$1" ({ cls := "java/lang/Object", name := "getClass", desc := "()Ljava/lang/Class;" } : Jvm.MethodName) ({ cls := "java/lang/Object", name := "getClass", desc := "()Ljava/lang/Class;" } : Jvm.MethodName)) ∈ lw_all := lw_g (lw_at lw_m3 10 rfl) rfl
theorem q975 : (Jvm.Cond.selects "TileServer$Way$1" ({ cls := "java/lang/Object", name := "equals", desc := "(Ljava/lang/Object;)Z" } : Jvm.MethodName) ({ cls := "java/lang/Enum", name := "equals", desc := "(Ljava/lang/Object;)Z" } : Jvm.MethodName)) ∈ lw_all := lw_g (lw_at lw_m4 194 rfl) rfl
theorem q1515 : (Jvm.Cond.selects "TileServer$Way$1" ({ cls := "TileServer$Way", name := "place", desc := "(IIII)LTileServer$Box;" } : Jvm.MethodName) ({ cls := "TileServer$Way$1", name := "place", desc := "(IIII)LTileServer$Box;" } : Jvm.MethodName)) ∈ lw_all := lw_g (lw_at lw_m7 14 rfl) rfl
theorem q1516 : (Jvm.Cond.instanceMethod ({ cls := "TileServer$Way$1", name := "place", desc := "(IIII)LTileServer$Box;" } : Jvm.MethodName)) ∈ lw_all := lw_g (lw_at lw_m7 15 rfl) rfl
theorem q1517 : (Jvm.Cond.code ({ cls := "TileServer$Way$1", name := "place", desc := "(IIII)LTileServer$Box;" } : Jvm.MethodName) prog_13_method_2_code (5 : Nat) (Option.some (Jvm.ClassFile.FieldType.object "TileServer$Box"))) ∈ lw_all := lw_g (lw_at lw_m7 16 rfl) rfl
theorem q1518 : (Jvm.Cond.classLink "TileServer$Way$1" (7 : Nat) "TileServer$Box") ∈ lw_all := lw_g (lw_at lw_m7 17 rfl) rfl
theorem q1519 : (Jvm.Cond.methodLink "TileServer$Way$1" (9 : Nat) ({ cls := "TileServer$Box", name := "<init>", desc := "(IIII)V" } : Jvm.MethodName)) ∈ lw_all := lw_g (lw_at lw_m7 18 rfl) rfl
theorem q1993 : (Jvm.Cond.castable "TileServer$Way$1" "java/lang/Object") ∈ lw_tbl := lw_at lw_m9 12 rfl
theorem q2016 : (Jvm.Cond.castable "TileServer$Way$1" "TileServer$Way") ∈ lw_tbl := lw_at lw_m9 35 rfl
/-! TileServer$Way$2 -/
set_option maxRecDepth 100000
def RX15 : String := "TileServer$Way$2"
abbrev cX15_place : ByteArray := prog_14_method_2_code
def yX15_place : MethodName := ⟨RX15, "place", "(IIII)LTileServer$Box;"⟩
def dkwX15_place_0 : List UInt8 := [187, 0, 7, 89, 27, 29, 100, 28, 21, 4, 5, 108, 100, 27, 28, 21, 4, 5, 108, 96, 183, 0, 9, 176]
abbrev dktX15_place_0 : List UInt8 := dkwX15_place_0 ++ []
theorem dksX15_place_0 : cX15_place.data.toList.drop 0 = dktX15_place_0 := by decide +kernel
theorem dX15_place_0 : decode cX15_place 0 = .ok (.new 7, 3) := dk_187 0 7 (dk_at dksX15_place_0 0 rfl rfl)
theorem dX15_place_3 : decode cX15_place 3 = .ok (.dup, 1) := dk_89 (dk_at dksX15_place_0 3 rfl rfl)
theorem dX15_place_4 : decode cX15_place 4 = .ok (.iload_n 1, 1) := dk_27 (dk_at dksX15_place_0 4 rfl rfl)
theorem dX15_place_5 : decode cX15_place 5 = .ok (.iload_n 3, 1) := dk_29 (dk_at dksX15_place_0 5 rfl rfl)
theorem dX15_place_6 : decode cX15_place 6 = .ok (.isub, 1) := dk_100 (dk_at dksX15_place_0 6 rfl rfl)
theorem dX15_place_7 : decode cX15_place 7 = .ok (.iload_n 2, 1) := dk_28 (dk_at dksX15_place_0 7 rfl rfl)
theorem dX15_place_8 : decode cX15_place 8 = .ok (.iload 4, 2) := dk_21 4 (dk_at dksX15_place_0 8 rfl rfl)
theorem dX15_place_10 : decode cX15_place 10 = .ok (.iconst 2, 1) := dk_5 (dk_at dksX15_place_0 10 rfl rfl)
theorem dX15_place_11 : decode cX15_place 11 = .ok (.idiv, 1) := dk_108 (dk_at dksX15_place_0 11 rfl rfl)
theorem dX15_place_12 : decode cX15_place 12 = .ok (.isub, 1) := dk_100 (dk_at dksX15_place_0 12 rfl rfl)
theorem dX15_place_13 : decode cX15_place 13 = .ok (.iload_n 1, 1) := dk_27 (dk_at dksX15_place_0 13 rfl rfl)
theorem dX15_place_14 : decode cX15_place 14 = .ok (.iload_n 2, 1) := dk_28 (dk_at dksX15_place_0 14 rfl rfl)
theorem dX15_place_15 : decode cX15_place 15 = .ok (.iload 4, 2) := dk_21 4 (dk_at dksX15_place_0 15 rfl rfl)
theorem dX15_place_17 : decode cX15_place 17 = .ok (.iconst 2, 1) := dk_5 (dk_at dksX15_place_0 17 rfl rfl)
theorem dX15_place_18 : decode cX15_place 18 = .ok (.idiv, 1) := dk_108 (dk_at dksX15_place_0 18 rfl rfl)
theorem dX15_place_19 : decode cX15_place 19 = .ok (.iadd, 1) := dk_96 (dk_at dksX15_place_0 19 rfl rfl)
theorem dX15_place_20 : decode cX15_place 20 = .ok (.invokespecial 9, 3) := dk_183 0 9 (dk_at dksX15_place_0 20 rfl rfl)
theorem dX15_place_23 : decode cX15_place 23 = .ok (.areturn, 1) := dk_176 (dk_at dksX15_place_0 23 rfl rfl)
theorem q552 : (Jvm.Cond.selects "TileServer$Way$2" ({ cls := "java/lang/Object", name := "getClass", desc := "()Ljava/lang/Class;" } : Jvm.MethodName) ({ cls := "java/lang/Object", name := "getClass", desc := "()Ljava/lang/Class;" } : Jvm.MethodName)) ∈ lw_all := lw_g (lw_at lw_m3 11 rfl) rfl
theorem q978 : (Jvm.Cond.selects "TileServer$Way$2" ({ cls := "java/lang/Object", name := "equals", desc := "(Ljava/lang/Object;)Z" } : Jvm.MethodName) ({ cls := "java/lang/Enum", name := "equals", desc := "(Ljava/lang/Object;)Z" } : Jvm.MethodName)) ∈ lw_all := lw_g (lw_at lw_m4 197 rfl) rfl
theorem q1520 : (Jvm.Cond.selects "TileServer$Way$2" ({ cls := "TileServer$Way", name := "place", desc := "(IIII)LTileServer$Box;" } : Jvm.MethodName) ({ cls := "TileServer$Way$2", name := "place", desc := "(IIII)LTileServer$Box;" } : Jvm.MethodName)) ∈ lw_all := lw_g (lw_at lw_m7 19 rfl) rfl
theorem q1521 : (Jvm.Cond.instanceMethod ({ cls := "TileServer$Way$2", name := "place", desc := "(IIII)LTileServer$Box;" } : Jvm.MethodName)) ∈ lw_all := lw_g (lw_at lw_m7 20 rfl) rfl
theorem q1522 : (Jvm.Cond.code ({ cls := "TileServer$Way$2", name := "place", desc := "(IIII)LTileServer$Box;" } : Jvm.MethodName) prog_14_method_2_code (5 : Nat) (Option.some (Jvm.ClassFile.FieldType.object "TileServer$Box"))) ∈ lw_all := lw_g (lw_at lw_m7 21 rfl) rfl
theorem q1523 : (Jvm.Cond.classLink "TileServer$Way$2" (7 : Nat) "TileServer$Box") ∈ lw_all := lw_g (lw_at lw_m7 22 rfl) rfl
theorem q1524 : (Jvm.Cond.methodLink "TileServer$Way$2" (9 : Nat) ({ cls := "TileServer$Box", name := "<init>", desc := "(IIII)V" } : Jvm.MethodName)) ∈ lw_all := lw_g (lw_at lw_m7 23 rfl) rfl
theorem q1994 : (Jvm.Cond.castable "TileServer$Way$2" "java/lang/Object") ∈ lw_tbl := lw_at lw_m9 13 rfl
theorem q2017 : (Jvm.Cond.castable "TileServer$Way$2" "TileServer$Way") ∈ lw_tbl := lw_at lw_m9 36 rfl
/-! TileServer$Way$3 -/
set_option maxRecDepth 100000
def RX16 : String := "TileServer$Way$3"
abbrev cX16_place : ByteArray := prog_15_method_2_code
def yX16_place : MethodName := ⟨RX16, "place", "(IIII)LTileServer$Box;"⟩
def dkwX16_place_0 : List UInt8 := [187, 0, 7, 89, 27, 29, 5, 108, 100, 28, 27, 29, 5, 108, 96, 28, 21, 4, 96, 183, 0, 9, 176]
abbrev dktX16_place_0 : List UInt8 := dkwX16_place_0 ++ []
theorem dksX16_place_0 : cX16_place.data.toList.drop 0 = dktX16_place_0 := by decide +kernel
theorem dX16_place_0 : decode cX16_place 0 = .ok (.new 7, 3) := dk_187 0 7 (dk_at dksX16_place_0 0 rfl rfl)
theorem dX16_place_3 : decode cX16_place 3 = .ok (.dup, 1) := dk_89 (dk_at dksX16_place_0 3 rfl rfl)
theorem dX16_place_4 : decode cX16_place 4 = .ok (.iload_n 1, 1) := dk_27 (dk_at dksX16_place_0 4 rfl rfl)
theorem dX16_place_5 : decode cX16_place 5 = .ok (.iload_n 3, 1) := dk_29 (dk_at dksX16_place_0 5 rfl rfl)
theorem dX16_place_6 : decode cX16_place 6 = .ok (.iconst 2, 1) := dk_5 (dk_at dksX16_place_0 6 rfl rfl)
theorem dX16_place_7 : decode cX16_place 7 = .ok (.idiv, 1) := dk_108 (dk_at dksX16_place_0 7 rfl rfl)
theorem dX16_place_8 : decode cX16_place 8 = .ok (.isub, 1) := dk_100 (dk_at dksX16_place_0 8 rfl rfl)
theorem dX16_place_9 : decode cX16_place 9 = .ok (.iload_n 2, 1) := dk_28 (dk_at dksX16_place_0 9 rfl rfl)
theorem dX16_place_10 : decode cX16_place 10 = .ok (.iload_n 1, 1) := dk_27 (dk_at dksX16_place_0 10 rfl rfl)
theorem dX16_place_11 : decode cX16_place 11 = .ok (.iload_n 3, 1) := dk_29 (dk_at dksX16_place_0 11 rfl rfl)
theorem dX16_place_12 : decode cX16_place 12 = .ok (.iconst 2, 1) := dk_5 (dk_at dksX16_place_0 12 rfl rfl)
theorem dX16_place_13 : decode cX16_place 13 = .ok (.idiv, 1) := dk_108 (dk_at dksX16_place_0 13 rfl rfl)
theorem dX16_place_14 : decode cX16_place 14 = .ok (.iadd, 1) := dk_96 (dk_at dksX16_place_0 14 rfl rfl)
theorem dX16_place_15 : decode cX16_place 15 = .ok (.iload_n 2, 1) := dk_28 (dk_at dksX16_place_0 15 rfl rfl)
theorem dX16_place_16 : decode cX16_place 16 = .ok (.iload 4, 2) := dk_21 4 (dk_at dksX16_place_0 16 rfl rfl)
theorem dX16_place_18 : decode cX16_place 18 = .ok (.iadd, 1) := dk_96 (dk_at dksX16_place_0 18 rfl rfl)
theorem dX16_place_19 : decode cX16_place 19 = .ok (.invokespecial 9, 3) := dk_183 0 9 (dk_at dksX16_place_0 19 rfl rfl)
theorem dX16_place_22 : decode cX16_place 22 = .ok (.areturn, 1) := dk_176 (dk_at dksX16_place_0 22 rfl rfl)
theorem q553 : (Jvm.Cond.selects "TileServer$Way$3" ({ cls := "java/lang/Object", name := "getClass", desc := "()Ljava/lang/Class;" } : Jvm.MethodName) ({ cls := "java/lang/Object", name := "getClass", desc := "()Ljava/lang/Class;" } : Jvm.MethodName)) ∈ lw_all := lw_g (lw_at lw_m3 12 rfl) rfl
theorem q979 : (Jvm.Cond.selects "TileServer$Way$3" ({ cls := "java/lang/Object", name := "equals", desc := "(Ljava/lang/Object;)Z" } : Jvm.MethodName) ({ cls := "java/lang/Enum", name := "equals", desc := "(Ljava/lang/Object;)Z" } : Jvm.MethodName)) ∈ lw_all := lw_g (lw_at lw_m4 198 rfl) rfl
theorem q1525 : (Jvm.Cond.selects "TileServer$Way$3" ({ cls := "TileServer$Way", name := "place", desc := "(IIII)LTileServer$Box;" } : Jvm.MethodName) ({ cls := "TileServer$Way$3", name := "place", desc := "(IIII)LTileServer$Box;" } : Jvm.MethodName)) ∈ lw_all := lw_g (lw_at lw_m7 24 rfl) rfl
theorem q1526 : (Jvm.Cond.instanceMethod ({ cls := "TileServer$Way$3", name := "place", desc := "(IIII)LTileServer$Box;" } : Jvm.MethodName)) ∈ lw_all := lw_g (lw_at lw_m7 25 rfl) rfl
theorem q1527 : (Jvm.Cond.code ({ cls := "TileServer$Way$3", name := "place", desc := "(IIII)LTileServer$Box;" } : Jvm.MethodName) prog_15_method_2_code (5 : Nat) (Option.some (Jvm.ClassFile.FieldType.object "TileServer$Box"))) ∈ lw_all := lw_g (lw_at lw_m7 26 rfl) rfl
theorem q1528 : (Jvm.Cond.classLink "TileServer$Way$3" (7 : Nat) "TileServer$Box") ∈ lw_all := lw_g (lw_at lw_m7 27 rfl) rfl
theorem q1529 : (Jvm.Cond.methodLink "TileServer$Way$3" (9 : Nat) ({ cls := "TileServer$Box", name := "<init>", desc := "(IIII)V" } : Jvm.MethodName)) ∈ lw_all := lw_g (lw_at lw_m7 28 rfl) rfl
theorem q1995 : (Jvm.Cond.castable "TileServer$Way$3" "java/lang/Object") ∈ lw_tbl := lw_at lw_m9 14 rfl
theorem q2018 : (Jvm.Cond.castable "TileServer$Way$3" "TileServer$Way") ∈ lw_tbl := lw_at lw_m9 37 rfl
/-! TileServer$Way$4 -/
set_option maxRecDepth 100000
def RX17 : String := "TileServer$Way$4"
abbrev cX17_place : ByteArray := prog_16_method_2_code
def yX17_place : MethodName := ⟨RX17, "place", "(IIII)LTileServer$Box;"⟩
def dkwX17_place_0 : List UInt8 := [187, 0, 7, 89, 27, 29, 5, 108, 100, 28, 21, 4, 100, 27, 29, 5, 108, 96, 28, 183, 0, 9, 176]
abbrev dktX17_place_0 : List UInt8 := dkwX17_place_0 ++ []
theorem dksX17_place_0 : cX17_place.data.toList.drop 0 = dktX17_place_0 := by decide +kernel
theorem dX17_place_0 : decode cX17_place 0 = .ok (.new 7, 3) := dk_187 0 7 (dk_at dksX17_place_0 0 rfl rfl)
theorem dX17_place_3 : decode cX17_place 3 = .ok (.dup, 1) := dk_89 (dk_at dksX17_place_0 3 rfl rfl)
theorem dX17_place_4 : decode cX17_place 4 = .ok (.iload_n 1, 1) := dk_27 (dk_at dksX17_place_0 4 rfl rfl)
theorem dX17_place_5 : decode cX17_place 5 = .ok (.iload_n 3, 1) := dk_29 (dk_at dksX17_place_0 5 rfl rfl)
theorem dX17_place_6 : decode cX17_place 6 = .ok (.iconst 2, 1) := dk_5 (dk_at dksX17_place_0 6 rfl rfl)
theorem dX17_place_7 : decode cX17_place 7 = .ok (.idiv, 1) := dk_108 (dk_at dksX17_place_0 7 rfl rfl)
theorem dX17_place_8 : decode cX17_place 8 = .ok (.isub, 1) := dk_100 (dk_at dksX17_place_0 8 rfl rfl)
theorem dX17_place_9 : decode cX17_place 9 = .ok (.iload_n 2, 1) := dk_28 (dk_at dksX17_place_0 9 rfl rfl)
theorem dX17_place_10 : decode cX17_place 10 = .ok (.iload 4, 2) := dk_21 4 (dk_at dksX17_place_0 10 rfl rfl)
theorem dX17_place_12 : decode cX17_place 12 = .ok (.isub, 1) := dk_100 (dk_at dksX17_place_0 12 rfl rfl)
theorem dX17_place_13 : decode cX17_place 13 = .ok (.iload_n 1, 1) := dk_27 (dk_at dksX17_place_0 13 rfl rfl)
theorem dX17_place_14 : decode cX17_place 14 = .ok (.iload_n 3, 1) := dk_29 (dk_at dksX17_place_0 14 rfl rfl)
theorem dX17_place_15 : decode cX17_place 15 = .ok (.iconst 2, 1) := dk_5 (dk_at dksX17_place_0 15 rfl rfl)
theorem dX17_place_16 : decode cX17_place 16 = .ok (.idiv, 1) := dk_108 (dk_at dksX17_place_0 16 rfl rfl)
theorem dX17_place_17 : decode cX17_place 17 = .ok (.iadd, 1) := dk_96 (dk_at dksX17_place_0 17 rfl rfl)
theorem dX17_place_18 : decode cX17_place 18 = .ok (.iload_n 2, 1) := dk_28 (dk_at dksX17_place_0 18 rfl rfl)
theorem dX17_place_19 : decode cX17_place 19 = .ok (.invokespecial 9, 3) := dk_183 0 9 (dk_at dksX17_place_0 19 rfl rfl)
theorem dX17_place_22 : decode cX17_place 22 = .ok (.areturn, 1) := dk_176 (dk_at dksX17_place_0 22 rfl rfl)
theorem q554 : (Jvm.Cond.selects "TileServer$Way$4" ({ cls := "java/lang/Object", name := "getClass", desc := "()Ljava/lang/Class;" } : Jvm.MethodName) ({ cls := "java/lang/Object", name := "getClass", desc := "()Ljava/lang/Class;" } : Jvm.MethodName)) ∈ lw_all := lw_g (lw_at lw_m3 13 rfl) rfl
theorem q980 : (Jvm.Cond.selects "TileServer$Way$4" ({ cls := "java/lang/Object", name := "equals", desc := "(Ljava/lang/Object;)Z" } : Jvm.MethodName) ({ cls := "java/lang/Enum", name := "equals", desc := "(Ljava/lang/Object;)Z" } : Jvm.MethodName)) ∈ lw_all := lw_g (lw_at lw_m4 199 rfl) rfl
theorem q1530 : (Jvm.Cond.selects "TileServer$Way$4" ({ cls := "TileServer$Way", name := "place", desc := "(IIII)LTileServer$Box;" } : Jvm.MethodName) ({ cls := "TileServer$Way$4", name := "place", desc := "(IIII)LTileServer$Box;" } : Jvm.MethodName)) ∈ lw_all := lw_g (lw_at lw_m7 29 rfl) rfl
theorem q1531 : (Jvm.Cond.instanceMethod ({ cls := "TileServer$Way$4", name := "place", desc := "(IIII)LTileServer$Box;" } : Jvm.MethodName)) ∈ lw_all := lw_g (lw_at lw_m7 30 rfl) rfl
theorem q1532 : (Jvm.Cond.code ({ cls := "TileServer$Way$4", name := "place", desc := "(IIII)LTileServer$Box;" } : Jvm.MethodName) prog_16_method_2_code (5 : Nat) (Option.some (Jvm.ClassFile.FieldType.object "TileServer$Box"))) ∈ lw_all := lw_g (lw_at lw_m7 31 rfl) rfl
theorem q1533 : (Jvm.Cond.classLink "TileServer$Way$4" (7 : Nat) "TileServer$Box") ∈ lw_all := lw_g (lw_at lw_m7 32 rfl) rfl
theorem q1534 : (Jvm.Cond.methodLink "TileServer$Way$4" (9 : Nat) ({ cls := "TileServer$Box", name := "<init>", desc := "(IIII)V" } : Jvm.MethodName)) ∈ lw_all := lw_g (lw_at lw_m7 33 rfl) rfl
theorem q1996 : (Jvm.Cond.castable "TileServer$Way$4" "java/lang/Object") ∈ lw_tbl := lw_at lw_m9 15 rfl
theorem q2019 : (Jvm.Cond.castable "TileServer$Way$4" "TileServer$Way") ∈ lw_tbl := lw_at lw_m9 38 rfl
