/-! TileServerModel -/
set_option maxRecDepth 100000
def RX4 : String := "TileServerModel"
def TX4 : u_T := fun k => match k with
  | 0 => ("TileServerModel", "m", "[I", true)
  | 1 => ("TileServerModel", "many", "I", false)
  | 2 => ("TileServerModel", "lastNumber", "I", false)
  | 3 => ("TileServerModel", "xs", "[I", true)
  | 4 => ("TileServerModel", "ys", "[I", true)
  | 5 => ("TileServerModel", "tolerances", "[I", true)
  | 6 => ("TileServerModel", "cache", "[I", true)
  | 7 => ("TileServerModel", "held", "I", false)
  | 8 => ("TileServerModel", "clock", "I", false)
  | 9 => ("TileServerModel", "hit", "I", false)
  | 10 => ("TileServerModel", "missed", "I", false)
  | 11 => ("TileServerModel", "drawnMany", "J", false)
  | 12 => ("TileServerModel", "thrown", "I", false)
  | 13 => ("TileServerModel", "places", "[C", true)
  | 14 => ("TileServerModel", "lefts", "[I", true)
  | _ => ("TileServerModel", "lows", "[I", true)
def tyX4 : Nat → FieldType := fun k => match k with
  | 0 => .array .int
  | 1 => .int
  | 2 => .int
  | 3 => .array .int
  | 4 => .array .int
  | 5 => .array .int
  | 6 => .array .int
  | 7 => .int
  | 8 => .int
  | 9 => .int
  | 10 => .int
  | 11 => .long
  | 12 => .int
  | 13 => .array .char
  | 14 => .array .int
  | _ => .array .int
abbrev wsX40 : List Cond := u_ws RX4 TX4 16
set_option maxRecDepth 100000 in
theorem nmX4 : ∀ a, a < 16 → ∀ b, b < 16 → a ≠ b → (TX4 a).2.1 ≠ (TX4 b).2.1 := by decide +kernel
set_option maxRecDepth 100000 in
theorem tyX4_ok : ∀ k, k < 16 → parseFieldDescriptor (TX4 k).2.2.1 = some (tyX4 k) := by decide +kernel
abbrev cX4_init : ByteArray := prog_18_method_1_code
def yX4_init : MethodName := ⟨RX4, "<init>", "()V"⟩
def dkwX4_init_3 : List UInt8 := [188, 10, 181, 0, 29, 42, 16, 12, 188, 10, 181, 0, 32, 177]
abbrev dktX4_init_3 : List UInt8 := dkwX4_init_3 ++ []
def dkwX4_init_2 : List UInt8 := [79, 181, 0, 19, 42, 16, 20, 188, 10, 181, 0, 22, 42, 16, 12, 188, 5, 181, 0, 25, 42, 16, 12]
abbrev dktX4_init_2 : List UInt8 := dkwX4_init_2 ++ dktX4_init_3
def dkwX4_init_1 : List UInt8 := [188, 10, 181, 0, 16, 42, 7, 188, 10, 89, 3, 7, 79, 89, 4, 5, 79, 89, 5, 4, 79, 89, 6, 3]
abbrev dktX4_init_1 : List UInt8 := dkwX4_init_1 ++ dktX4_init_2
def dkwX4_init_0 : List UInt8 := [42, 183, 0, 1, 42, 16, 84, 188, 10, 181, 0, 9, 42, 16, 108, 188, 10, 181, 0, 13, 42, 16, 108]
abbrev dktX4_init_0 : List UInt8 := dkwX4_init_0 ++ dktX4_init_1
theorem dksX4_init_0 : cX4_init.data.toList.drop 0 = dktX4_init_0 := by decide +kernel
theorem dksX4_init_1 : cX4_init.data.toList.drop 23 = dktX4_init_1 := dk_seg dksX4_init_0 23 rfl rfl
theorem dksX4_init_2 : cX4_init.data.toList.drop 47 = dktX4_init_2 := dk_seg dksX4_init_1 24 rfl rfl
theorem dksX4_init_3 : cX4_init.data.toList.drop 70 = dktX4_init_3 := dk_seg dksX4_init_2 23 rfl rfl
theorem dX4_init_0 : decode cX4_init 0 = .ok (.aload_n 0, 1) := dk_42 (dk_at dksX4_init_0 0 rfl rfl)
theorem dX4_init_1 : decode cX4_init 1 = .ok (.invokespecial 1, 3) := dk_183 0 1 (dk_at dksX4_init_0 1 rfl rfl)
theorem dX4_init_4 : decode cX4_init 4 = .ok (.aload_n 0, 1) := dk_42 (dk_at dksX4_init_0 4 rfl rfl)
theorem dX4_init_5 : decode cX4_init 5 = .ok (.bipush 84, 2) := dk_16 84 (dk_at dksX4_init_0 5 rfl rfl)
theorem dX4_init_7 : decode cX4_init 7 = .ok (.newarray .int, 2) := dk_188_10 (dk_at dksX4_init_0 7 rfl rfl)
theorem dX4_init_9 : decode cX4_init 9 = .ok (.putfield 9, 3) := dk_181 0 9 (dk_at dksX4_init_0 9 rfl rfl)
theorem dX4_init_12 : decode cX4_init 12 = .ok (.aload_n 0, 1) := dk_42 (dk_at dksX4_init_0 12 rfl rfl)
theorem dX4_init_13 : decode cX4_init 13 = .ok (.bipush 108, 2) := dk_16 108 (dk_at dksX4_init_0 13 rfl rfl)
theorem dX4_init_15 : decode cX4_init 15 = .ok (.newarray .int, 2) := dk_188_10 (dk_at dksX4_init_0 15 rfl rfl)
theorem dX4_init_17 : decode cX4_init 17 = .ok (.putfield 13, 3) := dk_181 0 13 (dk_at dksX4_init_0 17 rfl rfl)
theorem dX4_init_20 : decode cX4_init 20 = .ok (.aload_n 0, 1) := dk_42 (dk_at dksX4_init_0 20 rfl rfl)
theorem dX4_init_21 : decode cX4_init 21 = .ok (.bipush 108, 2) := dk_16 108 (dk_at dksX4_init_0 21 rfl rfl)
theorem dX4_init_23 : decode cX4_init 23 = .ok (.newarray .int, 2) := dk_188_10 (dk_at dksX4_init_1 0 rfl rfl)
theorem dX4_init_25 : decode cX4_init 25 = .ok (.putfield 16, 3) := dk_181 0 16 (dk_at dksX4_init_1 2 rfl rfl)
theorem dX4_init_28 : decode cX4_init 28 = .ok (.aload_n 0, 1) := dk_42 (dk_at dksX4_init_1 5 rfl rfl)
theorem dX4_init_29 : decode cX4_init 29 = .ok (.iconst 4, 1) := dk_7 (dk_at dksX4_init_1 6 rfl rfl)
theorem dX4_init_30 : decode cX4_init 30 = .ok (.newarray .int, 2) := dk_188_10 (dk_at dksX4_init_1 7 rfl rfl)
theorem dX4_init_32 : decode cX4_init 32 = .ok (.dup, 1) := dk_89 (dk_at dksX4_init_1 9 rfl rfl)
theorem dX4_init_33 : decode cX4_init 33 = .ok (.iconst 0, 1) := dk_3 (dk_at dksX4_init_1 10 rfl rfl)
theorem dX4_init_34 : decode cX4_init 34 = .ok (.iconst 4, 1) := dk_7 (dk_at dksX4_init_1 11 rfl rfl)
theorem dX4_init_35 : decode cX4_init 35 = .ok (.iastore, 1) := dk_79 (dk_at dksX4_init_1 12 rfl rfl)
theorem dX4_init_36 : decode cX4_init 36 = .ok (.dup, 1) := dk_89 (dk_at dksX4_init_1 13 rfl rfl)
theorem dX4_init_37 : decode cX4_init 37 = .ok (.iconst 1, 1) := dk_4 (dk_at dksX4_init_1 14 rfl rfl)
theorem dX4_init_38 : decode cX4_init 38 = .ok (.iconst 2, 1) := dk_5 (dk_at dksX4_init_1 15 rfl rfl)
theorem dX4_init_39 : decode cX4_init 39 = .ok (.iastore, 1) := dk_79 (dk_at dksX4_init_1 16 rfl rfl)
theorem dX4_init_40 : decode cX4_init 40 = .ok (.dup, 1) := dk_89 (dk_at dksX4_init_1 17 rfl rfl)
theorem dX4_init_41 : decode cX4_init 41 = .ok (.iconst 2, 1) := dk_5 (dk_at dksX4_init_1 18 rfl rfl)
theorem dX4_init_42 : decode cX4_init 42 = .ok (.iconst 1, 1) := dk_4 (dk_at dksX4_init_1 19 rfl rfl)
theorem dX4_init_43 : decode cX4_init 43 = .ok (.iastore, 1) := dk_79 (dk_at dksX4_init_1 20 rfl rfl)
theorem dX4_init_44 : decode cX4_init 44 = .ok (.dup, 1) := dk_89 (dk_at dksX4_init_1 21 rfl rfl)
theorem dX4_init_45 : decode cX4_init 45 = .ok (.iconst 3, 1) := dk_6 (dk_at dksX4_init_1 22 rfl rfl)
theorem dX4_init_46 : decode cX4_init 46 = .ok (.iconst 0, 1) := dk_3 (dk_at dksX4_init_1 23 rfl rfl)
theorem dX4_init_47 : decode cX4_init 47 = .ok (.iastore, 1) := dk_79 (dk_at dksX4_init_2 0 rfl rfl)
theorem dX4_init_48 : decode cX4_init 48 = .ok (.putfield 19, 3) := dk_181 0 19 (dk_at dksX4_init_2 1 rfl rfl)
theorem dX4_init_51 : decode cX4_init 51 = .ok (.aload_n 0, 1) := dk_42 (dk_at dksX4_init_2 4 rfl rfl)
theorem dX4_init_52 : decode cX4_init 52 = .ok (.bipush 20, 2) := dk_16 20 (dk_at dksX4_init_2 5 rfl rfl)
theorem dX4_init_54 : decode cX4_init 54 = .ok (.newarray .int, 2) := dk_188_10 (dk_at dksX4_init_2 7 rfl rfl)
theorem dX4_init_56 : decode cX4_init 56 = .ok (.putfield 22, 3) := dk_181 0 22 (dk_at dksX4_init_2 9 rfl rfl)
theorem dX4_init_59 : decode cX4_init 59 = .ok (.aload_n 0, 1) := dk_42 (dk_at dksX4_init_2 12 rfl rfl)
theorem dX4_init_60 : decode cX4_init 60 = .ok (.bipush 12, 2) := dk_16 12 (dk_at dksX4_init_2 13 rfl rfl)
theorem dX4_init_62 : decode cX4_init 62 = .ok (.newarray .char, 2) := dk_188_5 (dk_at dksX4_init_2 15 rfl rfl)
theorem dX4_init_64 : decode cX4_init 64 = .ok (.putfield 25, 3) := dk_181 0 25 (dk_at dksX4_init_2 17 rfl rfl)
theorem dX4_init_67 : decode cX4_init 67 = .ok (.aload_n 0, 1) := dk_42 (dk_at dksX4_init_2 20 rfl rfl)
theorem dX4_init_68 : decode cX4_init 68 = .ok (.bipush 12, 2) := dk_16 12 (dk_at dksX4_init_2 21 rfl rfl)
theorem dX4_init_70 : decode cX4_init 70 = .ok (.newarray .int, 2) := dk_188_10 (dk_at dksX4_init_3 0 rfl rfl)
theorem dX4_init_72 : decode cX4_init 72 = .ok (.putfield 29, 3) := dk_181 0 29 (dk_at dksX4_init_3 2 rfl rfl)
theorem dX4_init_75 : decode cX4_init 75 = .ok (.aload_n 0, 1) := dk_42 (dk_at dksX4_init_3 5 rfl rfl)
theorem dX4_init_76 : decode cX4_init 76 = .ok (.bipush 12, 2) := dk_16 12 (dk_at dksX4_init_3 6 rfl rfl)
theorem dX4_init_78 : decode cX4_init 78 = .ok (.newarray .int, 2) := dk_188_10 (dk_at dksX4_init_3 8 rfl rfl)
theorem dX4_init_80 : decode cX4_init 80 = .ok (.putfield 32, 3) := dk_181 0 32 (dk_at dksX4_init_3 10 rfl rfl)
theorem dX4_init_83 : decode cX4_init 83 = .ok (.return_, 1) := dk_177 (dk_at dksX4_init_3 13 rfl rfl)
abbrev cX4_thrown : ByteArray := prog_18_method_2_code
def yX4_thrown : MethodName := ⟨RX4, "thrown", "()I"⟩
theorem dX4_thrown_0 : decode cX4_thrown 0 = .ok (.aload_n 0, 1) := by decide +kernel
theorem dX4_thrown_1 : decode cX4_thrown 1 = .ok (.getfield 35, 3) := by decide +kernel
theorem dX4_thrown_4 : decode cX4_thrown 4 = .ok (.ireturn, 1) := by decide +kernel
abbrev cX4_addLine : ByteArray := prog_18_method_29_code
def yX4_addLine : MethodName := ⟨RX4, "addLine", "(IIII)I"⟩
def dkwX4_addLine_4 : List UInt8 := [21, 6, 182, 0, 135, 87, 42, 180, 0, 123, 172]
abbrev dktX4_addLine_4 : List UInt8 := dkwX4_addLine_4 ++ []
def dkwX4_addLine_3 : List UInt8 := [172, 42, 3, 27, 28, 3, 3, 182, 0, 129, 54, 6, 42, 21, 6, 29, 21, 4, 182, 0, 132, 87, 42]
abbrev dktX4_addLine_3 : List UInt8 := dkwX4_addLine_3 ++ dktX4_addLine_4
def dkwX4_addLine_2 : List UInt8 := [180, 0, 39, 16, 12, 160, 0, 7, 5, 167, 0, 4, 3, 181, 0, 35, 42, 180, 0, 35, 158, 0, 5, 2]
abbrev dktX4_addLine_2 : List UInt8 := dkwX4_addLine_2 ++ dktX4_addLine_3
def dkwX4_addLine_1 : List UInt8 := [184, 0, 126, 153, 0, 7, 4, 167, 0, 4, 3, 54, 5, 42, 21, 5, 154, 0, 7, 4, 167, 0, 17, 42]
abbrev dktX4_addLine_1 : List UInt8 := dkwX4_addLine_1 ++ dktX4_addLine_2
def dkwX4_addLine_0 : List UInt8 := [27, 184, 0, 126, 153, 0, 29, 28, 184, 0, 126, 153, 0, 22, 29, 184, 0, 126, 153, 0, 15, 21, 4]
abbrev dktX4_addLine_0 : List UInt8 := dkwX4_addLine_0 ++ dktX4_addLine_1
theorem dksX4_addLine_0 : cX4_addLine.data.toList.drop 0 = dktX4_addLine_0 := by decide +kernel
theorem dksX4_addLine_1 : cX4_addLine.data.toList.drop 23 = dktX4_addLine_1 := dk_seg dksX4_addLine_0 23 rfl rfl
theorem dksX4_addLine_2 : cX4_addLine.data.toList.drop 47 = dktX4_addLine_2 := dk_seg dksX4_addLine_1 24 rfl rfl
theorem dksX4_addLine_3 : cX4_addLine.data.toList.drop 71 = dktX4_addLine_3 := dk_seg dksX4_addLine_2 24 rfl rfl
theorem dksX4_addLine_4 : cX4_addLine.data.toList.drop 94 = dktX4_addLine_4 := dk_seg dksX4_addLine_3 23 rfl rfl
theorem dX4_addLine_0 : decode cX4_addLine 0 = .ok (.iload_n 1, 1) := dk_27 (dk_at dksX4_addLine_0 0 rfl rfl)
theorem dX4_addLine_1 : decode cX4_addLine 1 = .ok (.invokestatic 126, 3) := dk_184 0 126 (dk_at dksX4_addLine_0 1 rfl rfl)
theorem dX4_addLine_4 : decode cX4_addLine 4 = .ok (.ifCond .eq 29, 3) := dk_153 0 29 (dk_at dksX4_addLine_0 4 rfl rfl)
theorem dX4_addLine_7 : decode cX4_addLine 7 = .ok (.iload_n 2, 1) := dk_28 (dk_at dksX4_addLine_0 7 rfl rfl)
theorem dX4_addLine_8 : decode cX4_addLine 8 = .ok (.invokestatic 126, 3) := dk_184 0 126 (dk_at dksX4_addLine_0 8 rfl rfl)
theorem dX4_addLine_11 : decode cX4_addLine 11 = .ok (.ifCond .eq 22, 3) := dk_153 0 22 (dk_at dksX4_addLine_0 11 rfl rfl)
theorem dX4_addLine_14 : decode cX4_addLine 14 = .ok (.iload_n 3, 1) := dk_29 (dk_at dksX4_addLine_0 14 rfl rfl)
theorem dX4_addLine_15 : decode cX4_addLine 15 = .ok (.invokestatic 126, 3) := dk_184 0 126 (dk_at dksX4_addLine_0 15 rfl rfl)
theorem dX4_addLine_18 : decode cX4_addLine 18 = .ok (.ifCond .eq 15, 3) := dk_153 0 15 (dk_at dksX4_addLine_0 18 rfl rfl)
theorem dX4_addLine_21 : decode cX4_addLine 21 = .ok (.iload 4, 2) := dk_21 4 (dk_at dksX4_addLine_0 21 rfl rfl)
theorem dX4_addLine_23 : decode cX4_addLine 23 = .ok (.invokestatic 126, 3) := dk_184 0 126 (dk_at dksX4_addLine_1 0 rfl rfl)
theorem dX4_addLine_26 : decode cX4_addLine 26 = .ok (.ifCond .eq 7, 3) := dk_153 0 7 (dk_at dksX4_addLine_1 3 rfl rfl)
theorem dX4_addLine_29 : decode cX4_addLine 29 = .ok (.iconst 1, 1) := dk_4 (dk_at dksX4_addLine_1 6 rfl rfl)
theorem dX4_addLine_30 : decode cX4_addLine 30 = .ok (.goto 4, 3) := dk_167 0 4 (dk_at dksX4_addLine_1 7 rfl rfl)
theorem dX4_addLine_33 : decode cX4_addLine 33 = .ok (.iconst 0, 1) := dk_3 (dk_at dksX4_addLine_1 10 rfl rfl)
theorem dX4_addLine_34 : decode cX4_addLine 34 = .ok (.istore 5, 2) := dk_54 5 (dk_at dksX4_addLine_1 11 rfl rfl)
theorem dX4_addLine_36 : decode cX4_addLine 36 = .ok (.aload_n 0, 1) := dk_42 (dk_at dksX4_addLine_1 13 rfl rfl)
theorem dX4_addLine_37 : decode cX4_addLine 37 = .ok (.iload 5, 2) := dk_21 5 (dk_at dksX4_addLine_1 14 rfl rfl)
theorem dX4_addLine_39 : decode cX4_addLine 39 = .ok (.ifCond .ne 7, 3) := dk_154 0 7 (dk_at dksX4_addLine_1 16 rfl rfl)
theorem dX4_addLine_42 : decode cX4_addLine 42 = .ok (.iconst 1, 1) := dk_4 (dk_at dksX4_addLine_1 19 rfl rfl)
theorem dX4_addLine_43 : decode cX4_addLine 43 = .ok (.goto 17, 3) := dk_167 0 17 (dk_at dksX4_addLine_1 20 rfl rfl)
theorem dX4_addLine_46 : decode cX4_addLine 46 = .ok (.aload_n 0, 1) := dk_42 (dk_at dksX4_addLine_1 23 rfl rfl)
theorem dX4_addLine_47 : decode cX4_addLine 47 = .ok (.getfield 39, 3) := dk_180 0 39 (dk_at dksX4_addLine_2 0 rfl rfl)
theorem dX4_addLine_50 : decode cX4_addLine 50 = .ok (.bipush 12, 2) := dk_16 12 (dk_at dksX4_addLine_2 3 rfl rfl)
theorem dX4_addLine_52 : decode cX4_addLine 52 = .ok (.if_icmp .ne 7, 3) := dk_160 0 7 (dk_at dksX4_addLine_2 5 rfl rfl)
theorem dX4_addLine_55 : decode cX4_addLine 55 = .ok (.iconst 2, 1) := dk_5 (dk_at dksX4_addLine_2 8 rfl rfl)
theorem dX4_addLine_56 : decode cX4_addLine 56 = .ok (.goto 4, 3) := dk_167 0 4 (dk_at dksX4_addLine_2 9 rfl rfl)
theorem dX4_addLine_59 : decode cX4_addLine 59 = .ok (.iconst 0, 1) := dk_3 (dk_at dksX4_addLine_2 12 rfl rfl)
theorem dX4_addLine_60 : decode cX4_addLine 60 = .ok (.putfield 35, 3) := dk_181 0 35 (dk_at dksX4_addLine_2 13 rfl rfl)
theorem dX4_addLine_63 : decode cX4_addLine 63 = .ok (.aload_n 0, 1) := dk_42 (dk_at dksX4_addLine_2 16 rfl rfl)
theorem dX4_addLine_64 : decode cX4_addLine 64 = .ok (.getfield 35, 3) := dk_180 0 35 (dk_at dksX4_addLine_2 17 rfl rfl)
theorem dX4_addLine_67 : decode cX4_addLine 67 = .ok (.ifCond .le 5, 3) := dk_158 0 5 (dk_at dksX4_addLine_2 20 rfl rfl)
theorem dX4_addLine_70 : decode cX4_addLine 70 = .ok (.iconst (-1), 1) := dk_2 (dk_at dksX4_addLine_2 23 rfl rfl)
theorem dX4_addLine_71 : decode cX4_addLine 71 = .ok (.ireturn, 1) := dk_172 (dk_at dksX4_addLine_3 0 rfl rfl)
theorem dX4_addLine_72 : decode cX4_addLine 72 = .ok (.aload_n 0, 1) := dk_42 (dk_at dksX4_addLine_3 1 rfl rfl)
theorem dX4_addLine_73 : decode cX4_addLine 73 = .ok (.iconst 0, 1) := dk_3 (dk_at dksX4_addLine_3 2 rfl rfl)
theorem dX4_addLine_74 : decode cX4_addLine 74 = .ok (.iload_n 1, 1) := dk_27 (dk_at dksX4_addLine_3 3 rfl rfl)
theorem dX4_addLine_75 : decode cX4_addLine 75 = .ok (.iload_n 2, 1) := dk_28 (dk_at dksX4_addLine_3 4 rfl rfl)
theorem dX4_addLine_76 : decode cX4_addLine 76 = .ok (.iconst 0, 1) := dk_3 (dk_at dksX4_addLine_3 5 rfl rfl)
theorem dX4_addLine_77 : decode cX4_addLine 77 = .ok (.iconst 0, 1) := dk_3 (dk_at dksX4_addLine_3 6 rfl rfl)
theorem dX4_addLine_78 : decode cX4_addLine 78 = .ok (.invokevirtual 129, 3) := dk_182 0 129 (dk_at dksX4_addLine_3 7 rfl rfl)
theorem dX4_addLine_81 : decode cX4_addLine 81 = .ok (.istore 6, 2) := dk_54 6 (dk_at dksX4_addLine_3 10 rfl rfl)
theorem dX4_addLine_83 : decode cX4_addLine 83 = .ok (.aload_n 0, 1) := dk_42 (dk_at dksX4_addLine_3 12 rfl rfl)
theorem dX4_addLine_84 : decode cX4_addLine 84 = .ok (.iload 6, 2) := dk_21 6 (dk_at dksX4_addLine_3 13 rfl rfl)
theorem dX4_addLine_86 : decode cX4_addLine 86 = .ok (.iload_n 3, 1) := dk_29 (dk_at dksX4_addLine_3 15 rfl rfl)
theorem dX4_addLine_87 : decode cX4_addLine 87 = .ok (.iload 4, 2) := dk_21 4 (dk_at dksX4_addLine_3 16 rfl rfl)
theorem dX4_addLine_89 : decode cX4_addLine 89 = .ok (.invokevirtual 132, 3) := dk_182 0 132 (dk_at dksX4_addLine_3 18 rfl rfl)
theorem dX4_addLine_92 : decode cX4_addLine 92 = .ok (.pop, 1) := dk_87 (dk_at dksX4_addLine_3 21 rfl rfl)
theorem dX4_addLine_93 : decode cX4_addLine 93 = .ok (.aload_n 0, 1) := dk_42 (dk_at dksX4_addLine_3 22 rfl rfl)
theorem dX4_addLine_94 : decode cX4_addLine 94 = .ok (.iload 6, 2) := dk_21 6 (dk_at dksX4_addLine_4 0 rfl rfl)
theorem dX4_addLine_96 : decode cX4_addLine 96 = .ok (.invokevirtual 135, 3) := dk_182 0 135 (dk_at dksX4_addLine_4 2 rfl rfl)
theorem dX4_addLine_99 : decode cX4_addLine 99 = .ok (.pop, 1) := dk_87 (dk_at dksX4_addLine_4 5 rfl rfl)
theorem dX4_addLine_100 : decode cX4_addLine 100 = .ok (.aload_n 0, 1) := dk_42 (dk_at dksX4_addLine_4 6 rfl rfl)
theorem dX4_addLine_101 : decode cX4_addLine 101 = .ok (.getfield 123, 3) := dk_180 0 123 (dk_at dksX4_addLine_4 7 rfl rfl)
theorem dX4_addLine_104 : decode cX4_addLine 104 = .ok (.ireturn, 1) := dk_172 (dk_at dksX4_addLine_4 10 rfl rfl)
abbrev cX4_isCoordinate : ByteArray := prog_18_method_8_code
def yX4_isCoordinate : MethodName := ⟨RX4, "isCoordinate", "(I)Z"⟩
def dkwX4_isCoordinate_0 : List UInt8 := [26, 133, 9, 20, 0, 46, 184, 0, 48, 172]
abbrev dktX4_isCoordinate_0 : List UInt8 := dkwX4_isCoordinate_0 ++ []
theorem dksX4_isCoordinate_0 : cX4_isCoordinate.data.toList.drop 0 = dktX4_isCoordinate_0 := by decide +kernel
theorem dX4_isCoordinate_0 : decode cX4_isCoordinate 0 = .ok (.iload_n 0, 1) := dk_26 (dk_at dksX4_isCoordinate_0 0 rfl rfl)
theorem dX4_isCoordinate_1 : decode cX4_isCoordinate 1 = .ok (.i2l, 1) := dk_133 (dk_at dksX4_isCoordinate_0 1 rfl rfl)
theorem dX4_isCoordinate_2 : decode cX4_isCoordinate 2 = .ok (.lconst 0, 1) := dk_9 (dk_at dksX4_isCoordinate_0 2 rfl rfl)
theorem dX4_isCoordinate_3 : decode cX4_isCoordinate 3 = .ok (.ldc2_w 46, 3) := dk_20 0 46 (dk_at dksX4_isCoordinate_0 3 rfl rfl)
theorem dX4_isCoordinate_6 : decode cX4_isCoordinate 6 = .ok (.invokestatic 48, 3) := dk_184 0 48 (dk_at dksX4_isCoordinate_0 6 rfl rfl)
theorem dX4_isCoordinate_9 : decode cX4_isCoordinate 9 = .ok (.ireturn, 1) := dk_172 (dk_at dksX4_isCoordinate_0 9 rfl rfl)
abbrev cX4_in : ByteArray := prog_18_method_3_code
def yX4_in : MethodName := ⟨RX4, "in", "(JJJ)Z"⟩
def dkwX4_in_0 : List UInt8 := [30, 32, 148, 155, 0, 14, 30, 22, 4, 148, 157, 0, 7, 4, 167, 0, 4, 3, 172]
abbrev dktX4_in_0 : List UInt8 := dkwX4_in_0 ++ []
theorem dksX4_in_0 : cX4_in.data.toList.drop 0 = dktX4_in_0 := by decide +kernel
theorem dX4_in_0 : decode cX4_in 0 = .ok (.lload_n 0, 1) := dk_30 (dk_at dksX4_in_0 0 rfl rfl)
theorem dX4_in_1 : decode cX4_in 1 = .ok (.lload_n 2, 1) := dk_32 (dk_at dksX4_in_0 1 rfl rfl)
theorem dX4_in_2 : decode cX4_in 2 = .ok (.lcmp, 1) := dk_148 (dk_at dksX4_in_0 2 rfl rfl)
theorem dX4_in_3 : decode cX4_in 3 = .ok (.ifCond .lt 14, 3) := dk_155 0 14 (dk_at dksX4_in_0 3 rfl rfl)
theorem dX4_in_6 : decode cX4_in 6 = .ok (.lload_n 0, 1) := dk_30 (dk_at dksX4_in_0 6 rfl rfl)
theorem dX4_in_7 : decode cX4_in 7 = .ok (.lload 4, 2) := dk_22 4 (dk_at dksX4_in_0 7 rfl rfl)
theorem dX4_in_9 : decode cX4_in 9 = .ok (.lcmp, 1) := dk_148 (dk_at dksX4_in_0 9 rfl rfl)
theorem dX4_in_10 : decode cX4_in 10 = .ok (.ifCond .gt 7, 3) := dk_157 0 7 (dk_at dksX4_in_0 10 rfl rfl)
theorem dX4_in_13 : decode cX4_in 13 = .ok (.iconst 1, 1) := dk_4 (dk_at dksX4_in_0 13 rfl rfl)
theorem dX4_in_14 : decode cX4_in 14 = .ok (.goto 4, 3) := dk_167 0 4 (dk_at dksX4_in_0 14 rfl rfl)
theorem dX4_in_17 : decode cX4_in 17 = .ok (.iconst 0, 1) := dk_3 (dk_at dksX4_in_0 17 rfl rfl)
theorem dX4_in_18 : decode cX4_in 18 = .ok (.ireturn, 1) := dk_172 (dk_at dksX4_in_0 18 rfl rfl)
abbrev cX4_begins : ByteArray := prog_18_method_27_code
def yX4_begins : MethodName := ⟨RX4, "begins", "(IIIII)I"⟩
def dkwX4_begins_5 : List UInt8 := [104, 29, 79, 42, 89, 180, 0, 39, 4, 96, 181, 0, 39, 42, 180, 0, 39, 4, 100, 172]
abbrev dktX4_begins_5 : List UInt8 := dkwX4_begins_5 ++ []
def dkwX4_begins_4 : List UInt8 := [79, 42, 180, 0, 13, 16, 9, 42, 180, 0, 39, 104, 28, 79, 42, 180, 0, 16, 16, 9, 42, 180, 0, 39]
abbrev dktX4_begins_4 : List UInt8 := dkwX4_begins_4 ++ dktX4_begins_5
def dkwX4_begins_3 : List UInt8 := [96, 21, 5, 79, 42, 180, 0, 9, 21, 6, 8, 96, 3, 79, 42, 180, 0, 9, 21, 6, 16, 6, 96, 3]
abbrev dktX4_begins_3 : List UInt8 := dkwX4_begins_3 ++ dktX4_begins_4
def dkwX4_begins_2 : List UInt8 := [21, 6, 5, 96, 4, 79, 42, 180, 0, 9, 21, 6, 6, 96, 21, 4, 79, 42, 180, 0, 9, 21, 6, 7]
abbrev dktX4_begins_2 : List UInt8 := dkwX4_begins_2 ++ dktX4_begins_3
def dkwX4_begins_1 : List UInt8 := [21, 6, 3, 96, 42, 180, 0, 123, 79, 42, 180, 0, 9, 21, 6, 4, 96, 27, 79, 42, 180, 0, 9]
abbrev dktX4_begins_1 : List UInt8 := dkwX4_begins_1 ++ dktX4_begins_2
def dkwX4_begins_0 : List UInt8 := [42, 89, 180, 0, 123, 4, 96, 181, 0, 123, 16, 7, 42, 180, 0, 39, 104, 54, 6, 42, 180, 0, 9]
abbrev dktX4_begins_0 : List UInt8 := dkwX4_begins_0 ++ dktX4_begins_1
theorem dksX4_begins_0 : cX4_begins.data.toList.drop 0 = dktX4_begins_0 := by decide +kernel
theorem dksX4_begins_1 : cX4_begins.data.toList.drop 23 = dktX4_begins_1 := dk_seg dksX4_begins_0 23 rfl rfl
theorem dksX4_begins_2 : cX4_begins.data.toList.drop 46 = dktX4_begins_2 := dk_seg dksX4_begins_1 23 rfl rfl
theorem dksX4_begins_3 : cX4_begins.data.toList.drop 70 = dktX4_begins_3 := dk_seg dksX4_begins_2 24 rfl rfl
theorem dksX4_begins_4 : cX4_begins.data.toList.drop 94 = dktX4_begins_4 := dk_seg dksX4_begins_3 24 rfl rfl
theorem dksX4_begins_5 : cX4_begins.data.toList.drop 118 = dktX4_begins_5 := dk_seg dksX4_begins_4 24 rfl rfl
theorem dX4_begins_0 : decode cX4_begins 0 = .ok (.aload_n 0, 1) := dk_42 (dk_at dksX4_begins_0 0 rfl rfl)
theorem dX4_begins_1 : decode cX4_begins 1 = .ok (.dup, 1) := dk_89 (dk_at dksX4_begins_0 1 rfl rfl)
theorem dX4_begins_2 : decode cX4_begins 2 = .ok (.getfield 123, 3) := dk_180 0 123 (dk_at dksX4_begins_0 2 rfl rfl)
theorem dX4_begins_5 : decode cX4_begins 5 = .ok (.iconst 1, 1) := dk_4 (dk_at dksX4_begins_0 5 rfl rfl)
theorem dX4_begins_6 : decode cX4_begins 6 = .ok (.iadd, 1) := dk_96 (dk_at dksX4_begins_0 6 rfl rfl)
theorem dX4_begins_7 : decode cX4_begins 7 = .ok (.putfield 123, 3) := dk_181 0 123 (dk_at dksX4_begins_0 7 rfl rfl)
theorem dX4_begins_10 : decode cX4_begins 10 = .ok (.bipush 7, 2) := dk_16 7 (dk_at dksX4_begins_0 10 rfl rfl)
theorem dX4_begins_12 : decode cX4_begins 12 = .ok (.aload_n 0, 1) := dk_42 (dk_at dksX4_begins_0 12 rfl rfl)
theorem dX4_begins_13 : decode cX4_begins 13 = .ok (.getfield 39, 3) := dk_180 0 39 (dk_at dksX4_begins_0 13 rfl rfl)
theorem dX4_begins_16 : decode cX4_begins 16 = .ok (.imul, 1) := dk_104 (dk_at dksX4_begins_0 16 rfl rfl)
theorem dX4_begins_17 : decode cX4_begins 17 = .ok (.istore 6, 2) := dk_54 6 (dk_at dksX4_begins_0 17 rfl rfl)
theorem dX4_begins_19 : decode cX4_begins 19 = .ok (.aload_n 0, 1) := dk_42 (dk_at dksX4_begins_0 19 rfl rfl)
theorem dX4_begins_20 : decode cX4_begins 20 = .ok (.getfield 9, 3) := dk_180 0 9 (dk_at dksX4_begins_0 20 rfl rfl)
theorem dX4_begins_23 : decode cX4_begins 23 = .ok (.iload 6, 2) := dk_21 6 (dk_at dksX4_begins_1 0 rfl rfl)
theorem dX4_begins_25 : decode cX4_begins 25 = .ok (.iconst 0, 1) := dk_3 (dk_at dksX4_begins_1 2 rfl rfl)
theorem dX4_begins_26 : decode cX4_begins 26 = .ok (.iadd, 1) := dk_96 (dk_at dksX4_begins_1 3 rfl rfl)
theorem dX4_begins_27 : decode cX4_begins 27 = .ok (.aload_n 0, 1) := dk_42 (dk_at dksX4_begins_1 4 rfl rfl)
theorem dX4_begins_28 : decode cX4_begins 28 = .ok (.getfield 123, 3) := dk_180 0 123 (dk_at dksX4_begins_1 5 rfl rfl)
theorem dX4_begins_31 : decode cX4_begins 31 = .ok (.iastore, 1) := dk_79 (dk_at dksX4_begins_1 8 rfl rfl)
theorem dX4_begins_32 : decode cX4_begins 32 = .ok (.aload_n 0, 1) := dk_42 (dk_at dksX4_begins_1 9 rfl rfl)
theorem dX4_begins_33 : decode cX4_begins 33 = .ok (.getfield 9, 3) := dk_180 0 9 (dk_at dksX4_begins_1 10 rfl rfl)
theorem dX4_begins_36 : decode cX4_begins 36 = .ok (.iload 6, 2) := dk_21 6 (dk_at dksX4_begins_1 13 rfl rfl)
theorem dX4_begins_38 : decode cX4_begins 38 = .ok (.iconst 1, 1) := dk_4 (dk_at dksX4_begins_1 15 rfl rfl)
theorem dX4_begins_39 : decode cX4_begins 39 = .ok (.iadd, 1) := dk_96 (dk_at dksX4_begins_1 16 rfl rfl)
theorem dX4_begins_40 : decode cX4_begins 40 = .ok (.iload_n 1, 1) := dk_27 (dk_at dksX4_begins_1 17 rfl rfl)
theorem dX4_begins_41 : decode cX4_begins 41 = .ok (.iastore, 1) := dk_79 (dk_at dksX4_begins_1 18 rfl rfl)
theorem dX4_begins_42 : decode cX4_begins 42 = .ok (.aload_n 0, 1) := dk_42 (dk_at dksX4_begins_1 19 rfl rfl)
theorem dX4_begins_43 : decode cX4_begins 43 = .ok (.getfield 9, 3) := dk_180 0 9 (dk_at dksX4_begins_1 20 rfl rfl)
theorem dX4_begins_46 : decode cX4_begins 46 = .ok (.iload 6, 2) := dk_21 6 (dk_at dksX4_begins_2 0 rfl rfl)
theorem dX4_begins_48 : decode cX4_begins 48 = .ok (.iconst 2, 1) := dk_5 (dk_at dksX4_begins_2 2 rfl rfl)
theorem dX4_begins_49 : decode cX4_begins 49 = .ok (.iadd, 1) := dk_96 (dk_at dksX4_begins_2 3 rfl rfl)
theorem dX4_begins_50 : decode cX4_begins 50 = .ok (.iconst 1, 1) := dk_4 (dk_at dksX4_begins_2 4 rfl rfl)
theorem dX4_begins_51 : decode cX4_begins 51 = .ok (.iastore, 1) := dk_79 (dk_at dksX4_begins_2 5 rfl rfl)
theorem dX4_begins_52 : decode cX4_begins 52 = .ok (.aload_n 0, 1) := dk_42 (dk_at dksX4_begins_2 6 rfl rfl)
theorem dX4_begins_53 : decode cX4_begins 53 = .ok (.getfield 9, 3) := dk_180 0 9 (dk_at dksX4_begins_2 7 rfl rfl)
theorem dX4_begins_56 : decode cX4_begins 56 = .ok (.iload 6, 2) := dk_21 6 (dk_at dksX4_begins_2 10 rfl rfl)
theorem dX4_begins_58 : decode cX4_begins 58 = .ok (.iconst 3, 1) := dk_6 (dk_at dksX4_begins_2 12 rfl rfl)
theorem dX4_begins_59 : decode cX4_begins 59 = .ok (.iadd, 1) := dk_96 (dk_at dksX4_begins_2 13 rfl rfl)
theorem dX4_begins_60 : decode cX4_begins 60 = .ok (.iload 4, 2) := dk_21 4 (dk_at dksX4_begins_2 14 rfl rfl)
theorem dX4_begins_62 : decode cX4_begins 62 = .ok (.iastore, 1) := dk_79 (dk_at dksX4_begins_2 16 rfl rfl)
theorem dX4_begins_63 : decode cX4_begins 63 = .ok (.aload_n 0, 1) := dk_42 (dk_at dksX4_begins_2 17 rfl rfl)
theorem dX4_begins_64 : decode cX4_begins 64 = .ok (.getfield 9, 3) := dk_180 0 9 (dk_at dksX4_begins_2 18 rfl rfl)
theorem dX4_begins_67 : decode cX4_begins 67 = .ok (.iload 6, 2) := dk_21 6 (dk_at dksX4_begins_2 21 rfl rfl)
theorem dX4_begins_69 : decode cX4_begins 69 = .ok (.iconst 4, 1) := dk_7 (dk_at dksX4_begins_2 23 rfl rfl)
theorem dX4_begins_70 : decode cX4_begins 70 = .ok (.iadd, 1) := dk_96 (dk_at dksX4_begins_3 0 rfl rfl)
theorem dX4_begins_71 : decode cX4_begins 71 = .ok (.iload 5, 2) := dk_21 5 (dk_at dksX4_begins_3 1 rfl rfl)
theorem dX4_begins_73 : decode cX4_begins 73 = .ok (.iastore, 1) := dk_79 (dk_at dksX4_begins_3 3 rfl rfl)
theorem dX4_begins_74 : decode cX4_begins 74 = .ok (.aload_n 0, 1) := dk_42 (dk_at dksX4_begins_3 4 rfl rfl)
theorem dX4_begins_75 : decode cX4_begins 75 = .ok (.getfield 9, 3) := dk_180 0 9 (dk_at dksX4_begins_3 5 rfl rfl)
theorem dX4_begins_78 : decode cX4_begins 78 = .ok (.iload 6, 2) := dk_21 6 (dk_at dksX4_begins_3 8 rfl rfl)
theorem dX4_begins_80 : decode cX4_begins 80 = .ok (.iconst 5, 1) := dk_8 (dk_at dksX4_begins_3 10 rfl rfl)
theorem dX4_begins_81 : decode cX4_begins 81 = .ok (.iadd, 1) := dk_96 (dk_at dksX4_begins_3 11 rfl rfl)
theorem dX4_begins_82 : decode cX4_begins 82 = .ok (.iconst 0, 1) := dk_3 (dk_at dksX4_begins_3 12 rfl rfl)
theorem dX4_begins_83 : decode cX4_begins 83 = .ok (.iastore, 1) := dk_79 (dk_at dksX4_begins_3 13 rfl rfl)
theorem dX4_begins_84 : decode cX4_begins 84 = .ok (.aload_n 0, 1) := dk_42 (dk_at dksX4_begins_3 14 rfl rfl)
theorem dX4_begins_85 : decode cX4_begins 85 = .ok (.getfield 9, 3) := dk_180 0 9 (dk_at dksX4_begins_3 15 rfl rfl)
theorem dX4_begins_88 : decode cX4_begins 88 = .ok (.iload 6, 2) := dk_21 6 (dk_at dksX4_begins_3 18 rfl rfl)
theorem dX4_begins_90 : decode cX4_begins 90 = .ok (.bipush 6, 2) := dk_16 6 (dk_at dksX4_begins_3 20 rfl rfl)
theorem dX4_begins_92 : decode cX4_begins 92 = .ok (.iadd, 1) := dk_96 (dk_at dksX4_begins_3 22 rfl rfl)
theorem dX4_begins_93 : decode cX4_begins 93 = .ok (.iconst 0, 1) := dk_3 (dk_at dksX4_begins_3 23 rfl rfl)
theorem dX4_begins_94 : decode cX4_begins 94 = .ok (.iastore, 1) := dk_79 (dk_at dksX4_begins_4 0 rfl rfl)
theorem dX4_begins_95 : decode cX4_begins 95 = .ok (.aload_n 0, 1) := dk_42 (dk_at dksX4_begins_4 1 rfl rfl)
theorem dX4_begins_96 : decode cX4_begins 96 = .ok (.getfield 13, 3) := dk_180 0 13 (dk_at dksX4_begins_4 2 rfl rfl)
theorem dX4_begins_99 : decode cX4_begins 99 = .ok (.bipush 9, 2) := dk_16 9 (dk_at dksX4_begins_4 5 rfl rfl)
theorem dX4_begins_101 : decode cX4_begins 101 = .ok (.aload_n 0, 1) := dk_42 (dk_at dksX4_begins_4 7 rfl rfl)
theorem dX4_begins_102 : decode cX4_begins 102 = .ok (.getfield 39, 3) := dk_180 0 39 (dk_at dksX4_begins_4 8 rfl rfl)
theorem dX4_begins_105 : decode cX4_begins 105 = .ok (.imul, 1) := dk_104 (dk_at dksX4_begins_4 11 rfl rfl)
theorem dX4_begins_106 : decode cX4_begins 106 = .ok (.iload_n 2, 1) := dk_28 (dk_at dksX4_begins_4 12 rfl rfl)
theorem dX4_begins_107 : decode cX4_begins 107 = .ok (.iastore, 1) := dk_79 (dk_at dksX4_begins_4 13 rfl rfl)
theorem dX4_begins_108 : decode cX4_begins 108 = .ok (.aload_n 0, 1) := dk_42 (dk_at dksX4_begins_4 14 rfl rfl)
theorem dX4_begins_109 : decode cX4_begins 109 = .ok (.getfield 16, 3) := dk_180 0 16 (dk_at dksX4_begins_4 15 rfl rfl)
theorem dX4_begins_112 : decode cX4_begins 112 = .ok (.bipush 9, 2) := dk_16 9 (dk_at dksX4_begins_4 18 rfl rfl)
theorem dX4_begins_114 : decode cX4_begins 114 = .ok (.aload_n 0, 1) := dk_42 (dk_at dksX4_begins_4 20 rfl rfl)
theorem dX4_begins_115 : decode cX4_begins 115 = .ok (.getfield 39, 3) := dk_180 0 39 (dk_at dksX4_begins_4 21 rfl rfl)
theorem dX4_begins_118 : decode cX4_begins 118 = .ok (.imul, 1) := dk_104 (dk_at dksX4_begins_5 0 rfl rfl)
theorem dX4_begins_119 : decode cX4_begins 119 = .ok (.iload_n 3, 1) := dk_29 (dk_at dksX4_begins_5 1 rfl rfl)
theorem dX4_begins_120 : decode cX4_begins 120 = .ok (.iastore, 1) := dk_79 (dk_at dksX4_begins_5 2 rfl rfl)
theorem dX4_begins_121 : decode cX4_begins 121 = .ok (.aload_n 0, 1) := dk_42 (dk_at dksX4_begins_5 3 rfl rfl)
theorem dX4_begins_122 : decode cX4_begins 122 = .ok (.dup, 1) := dk_89 (dk_at dksX4_begins_5 4 rfl rfl)
theorem dX4_begins_123 : decode cX4_begins 123 = .ok (.getfield 39, 3) := dk_180 0 39 (dk_at dksX4_begins_5 5 rfl rfl)
theorem dX4_begins_126 : decode cX4_begins 126 = .ok (.iconst 1, 1) := dk_4 (dk_at dksX4_begins_5 8 rfl rfl)
theorem dX4_begins_127 : decode cX4_begins 127 = .ok (.iadd, 1) := dk_96 (dk_at dksX4_begins_5 9 rfl rfl)
theorem dX4_begins_128 : decode cX4_begins 128 = .ok (.putfield 39, 3) := dk_181 0 39 (dk_at dksX4_begins_5 10 rfl rfl)
theorem dX4_begins_131 : decode cX4_begins 131 = .ok (.aload_n 0, 1) := dk_42 (dk_at dksX4_begins_5 13 rfl rfl)
theorem dX4_begins_132 : decode cX4_begins 132 = .ok (.getfield 39, 3) := dk_180 0 39 (dk_at dksX4_begins_5 14 rfl rfl)
theorem dX4_begins_135 : decode cX4_begins 135 = .ok (.iconst 1, 1) := dk_4 (dk_at dksX4_begins_5 17 rfl rfl)
theorem dX4_begins_136 : decode cX4_begins 136 = .ok (.isub, 1) := dk_100 (dk_at dksX4_begins_5 18 rfl rfl)
theorem dX4_begins_137 : decode cX4_begins 137 = .ok (.ireturn, 1) := dk_172 (dk_at dksX4_begins_5 19 rfl rfl)
abbrev cX4_puts : ByteArray := prog_18_method_28_code
def yX4_puts : MethodName := ⟨RX4, "puts", "(III)I"⟩
def dkwX4_puts_2 : List UInt8 := [4, 96, 79, 21, 4, 4, 96, 172]
abbrev dktX4_puts_2 : List UInt8 := dkwX4_puts_2 ++ []
def dkwX4_puts_1 : List UInt8 := [180, 0, 16, 16, 9, 27, 104, 21, 4, 96, 29, 79, 42, 180, 0, 9, 16, 7, 27, 104, 5, 96, 21, 4]
abbrev dktX4_puts_1 : List UInt8 := dkwX4_puts_1 ++ dktX4_puts_2
def dkwX4_puts_0 : List UInt8 := [42, 27, 5, 182, 0, 42, 54, 4, 42, 180, 0, 13, 16, 9, 27, 104, 21, 4, 96, 28, 79, 42]
abbrev dktX4_puts_0 : List UInt8 := dkwX4_puts_0 ++ dktX4_puts_1
theorem dksX4_puts_0 : cX4_puts.data.toList.drop 0 = dktX4_puts_0 := by decide +kernel
theorem dksX4_puts_1 : cX4_puts.data.toList.drop 22 = dktX4_puts_1 := dk_seg dksX4_puts_0 22 rfl rfl
theorem dksX4_puts_2 : cX4_puts.data.toList.drop 46 = dktX4_puts_2 := dk_seg dksX4_puts_1 24 rfl rfl
theorem dX4_puts_0 : decode cX4_puts 0 = .ok (.aload_n 0, 1) := dk_42 (dk_at dksX4_puts_0 0 rfl rfl)
theorem dX4_puts_1 : decode cX4_puts 1 = .ok (.iload_n 1, 1) := dk_27 (dk_at dksX4_puts_0 1 rfl rfl)
theorem dX4_puts_2 : decode cX4_puts 2 = .ok (.iconst 2, 1) := dk_5 (dk_at dksX4_puts_0 2 rfl rfl)
theorem dX4_puts_3 : decode cX4_puts 3 = .ok (.invokevirtual 42, 3) := dk_182 0 42 (dk_at dksX4_puts_0 3 rfl rfl)
theorem dX4_puts_6 : decode cX4_puts 6 = .ok (.istore 4, 2) := dk_54 4 (dk_at dksX4_puts_0 6 rfl rfl)
theorem dX4_puts_8 : decode cX4_puts 8 = .ok (.aload_n 0, 1) := dk_42 (dk_at dksX4_puts_0 8 rfl rfl)
theorem dX4_puts_9 : decode cX4_puts 9 = .ok (.getfield 13, 3) := dk_180 0 13 (dk_at dksX4_puts_0 9 rfl rfl)
theorem dX4_puts_12 : decode cX4_puts 12 = .ok (.bipush 9, 2) := dk_16 9 (dk_at dksX4_puts_0 12 rfl rfl)
theorem dX4_puts_14 : decode cX4_puts 14 = .ok (.iload_n 1, 1) := dk_27 (dk_at dksX4_puts_0 14 rfl rfl)
theorem dX4_puts_15 : decode cX4_puts 15 = .ok (.imul, 1) := dk_104 (dk_at dksX4_puts_0 15 rfl rfl)
theorem dX4_puts_16 : decode cX4_puts 16 = .ok (.iload 4, 2) := dk_21 4 (dk_at dksX4_puts_0 16 rfl rfl)
theorem dX4_puts_18 : decode cX4_puts 18 = .ok (.iadd, 1) := dk_96 (dk_at dksX4_puts_0 18 rfl rfl)
theorem dX4_puts_19 : decode cX4_puts 19 = .ok (.iload_n 2, 1) := dk_28 (dk_at dksX4_puts_0 19 rfl rfl)
theorem dX4_puts_20 : decode cX4_puts 20 = .ok (.iastore, 1) := dk_79 (dk_at dksX4_puts_0 20 rfl rfl)
theorem dX4_puts_21 : decode cX4_puts 21 = .ok (.aload_n 0, 1) := dk_42 (dk_at dksX4_puts_0 21 rfl rfl)
theorem dX4_puts_22 : decode cX4_puts 22 = .ok (.getfield 16, 3) := dk_180 0 16 (dk_at dksX4_puts_1 0 rfl rfl)
theorem dX4_puts_25 : decode cX4_puts 25 = .ok (.bipush 9, 2) := dk_16 9 (dk_at dksX4_puts_1 3 rfl rfl)
theorem dX4_puts_27 : decode cX4_puts 27 = .ok (.iload_n 1, 1) := dk_27 (dk_at dksX4_puts_1 5 rfl rfl)
theorem dX4_puts_28 : decode cX4_puts 28 = .ok (.imul, 1) := dk_104 (dk_at dksX4_puts_1 6 rfl rfl)
theorem dX4_puts_29 : decode cX4_puts 29 = .ok (.iload 4, 2) := dk_21 4 (dk_at dksX4_puts_1 7 rfl rfl)
theorem dX4_puts_31 : decode cX4_puts 31 = .ok (.iadd, 1) := dk_96 (dk_at dksX4_puts_1 9 rfl rfl)
theorem dX4_puts_32 : decode cX4_puts 32 = .ok (.iload_n 3, 1) := dk_29 (dk_at dksX4_puts_1 10 rfl rfl)
theorem dX4_puts_33 : decode cX4_puts 33 = .ok (.iastore, 1) := dk_79 (dk_at dksX4_puts_1 11 rfl rfl)
theorem dX4_puts_34 : decode cX4_puts 34 = .ok (.aload_n 0, 1) := dk_42 (dk_at dksX4_puts_1 12 rfl rfl)
theorem dX4_puts_35 : decode cX4_puts 35 = .ok (.getfield 9, 3) := dk_180 0 9 (dk_at dksX4_puts_1 13 rfl rfl)
theorem dX4_puts_38 : decode cX4_puts 38 = .ok (.bipush 7, 2) := dk_16 7 (dk_at dksX4_puts_1 16 rfl rfl)
theorem dX4_puts_40 : decode cX4_puts 40 = .ok (.iload_n 1, 1) := dk_27 (dk_at dksX4_puts_1 18 rfl rfl)
theorem dX4_puts_41 : decode cX4_puts 41 = .ok (.imul, 1) := dk_104 (dk_at dksX4_puts_1 19 rfl rfl)
theorem dX4_puts_42 : decode cX4_puts 42 = .ok (.iconst 2, 1) := dk_5 (dk_at dksX4_puts_1 20 rfl rfl)
theorem dX4_puts_43 : decode cX4_puts 43 = .ok (.iadd, 1) := dk_96 (dk_at dksX4_puts_1 21 rfl rfl)
theorem dX4_puts_44 : decode cX4_puts 44 = .ok (.iload 4, 2) := dk_21 4 (dk_at dksX4_puts_1 22 rfl rfl)
theorem dX4_puts_46 : decode cX4_puts 46 = .ok (.iconst 1, 1) := dk_4 (dk_at dksX4_puts_2 0 rfl rfl)
theorem dX4_puts_47 : decode cX4_puts 47 = .ok (.iadd, 1) := dk_96 (dk_at dksX4_puts_2 1 rfl rfl)
theorem dX4_puts_48 : decode cX4_puts 48 = .ok (.iastore, 1) := dk_79 (dk_at dksX4_puts_2 2 rfl rfl)
theorem dX4_puts_49 : decode cX4_puts 49 = .ok (.iload 4, 2) := dk_21 4 (dk_at dksX4_puts_2 3 rfl rfl)
theorem dX4_puts_51 : decode cX4_puts 51 = .ok (.iconst 1, 1) := dk_4 (dk_at dksX4_puts_2 5 rfl rfl)
theorem dX4_puts_52 : decode cX4_puts 52 = .ok (.iadd, 1) := dk_96 (dk_at dksX4_puts_2 6 rfl rfl)
theorem dX4_puts_53 : decode cX4_puts 53 = .ok (.ireturn, 1) := dk_172 (dk_at dksX4_puts_2 7 rfl rfl)
abbrev cX4_of : ByteArray := prog_18_method_4_code
def yX4_of : MethodName := ⟨RX4, "of", "(II)I"⟩
def dkwX4_of_0 : List UInt8 := [42, 180, 0, 9, 16, 7, 27, 104, 28, 96, 46, 172]
abbrev dktX4_of_0 : List UInt8 := dkwX4_of_0 ++ []
theorem dksX4_of_0 : cX4_of.data.toList.drop 0 = dktX4_of_0 := by decide +kernel
theorem dX4_of_0 : decode cX4_of 0 = .ok (.aload_n 0, 1) := dk_42 (dk_at dksX4_of_0 0 rfl rfl)
theorem dX4_of_1 : decode cX4_of 1 = .ok (.getfield 9, 3) := dk_180 0 9 (dk_at dksX4_of_0 1 rfl rfl)
theorem dX4_of_4 : decode cX4_of 4 = .ok (.bipush 7, 2) := dk_16 7 (dk_at dksX4_of_0 4 rfl rfl)
theorem dX4_of_6 : decode cX4_of 6 = .ok (.iload_n 1, 1) := dk_27 (dk_at dksX4_of_0 6 rfl rfl)
theorem dX4_of_7 : decode cX4_of 7 = .ok (.imul, 1) := dk_104 (dk_at dksX4_of_0 7 rfl rfl)
theorem dX4_of_8 : decode cX4_of 8 = .ok (.iload_n 2, 1) := dk_28 (dk_at dksX4_of_0 8 rfl rfl)
theorem dX4_of_9 : decode cX4_of 9 = .ok (.iadd, 1) := dk_96 (dk_at dksX4_of_0 9 rfl rfl)
theorem dX4_of_10 : decode cX4_of 10 = .ok (.iaload, 1) := dk_46 (dk_at dksX4_of_0 10 rfl rfl)
theorem dX4_of_11 : decode cX4_of 11 = .ok (.ireturn, 1) := dk_172 (dk_at dksX4_of_0 11 rfl rfl)
abbrev cX4_leave : ByteArray := prog_18_method_16_code
def yX4_leave : MethodName := ⟨RX4, "leave", "(I)I"⟩
def dkwX4_leave_6 : List UInt8 := [153, 0, 12, 42, 21, 8, 182, 0, 83, 132, 7, 1, 132, 8, 255, 167, 255, 215, 21, 7, 172]
abbrev dktX4_leave_6 : List UInt8 := dkwX4_leave_6 ++ []
def dkwX4_leave_5 : List UInt8 := [155, 0, 42, 42, 21, 8, 29, 28, 100, 21, 4, 28, 100, 21, 5, 28, 96, 21, 6, 28, 96, 182, 0, 79]
abbrev dktX4_leave_5 : List UInt8 := dkwX4_leave_5 ++ dktX4_leave_6
def dkwX4_leave_4 : List UInt8 := [184, 0, 76, 54, 6, 132, 7, 1, 167, 255, 188, 3, 54, 7, 42, 180, 0, 58, 4, 100, 54, 8, 21, 8]
abbrev dktX4_leave_4 : List UInt8 := dkwX4_leave_4 ++ dktX4_leave_5
def dkwX4_leave_3 : List UInt8 := [21, 5, 42, 27, 21, 7, 182, 0, 65, 184, 0, 76, 54, 5, 21, 6, 42, 27, 21, 7, 182, 0, 68]
abbrev dktX4_leave_3 : List UInt8 := dkwX4_leave_3 ++ dktX4_leave_4
def dkwX4_leave_2 : List UInt8 := [21, 7, 182, 0, 65, 184, 0, 71, 62, 21, 4, 42, 27, 21, 7, 182, 0, 68, 184, 0, 71, 54, 4]
abbrev dktX4_leave_2 : List UInt8 := dkwX4_leave_2 ++ dktX4_leave_3
def dkwX4_leave_1 : List UInt8 := [54, 5, 21, 4, 54, 6, 4, 54, 7, 21, 7, 42, 27, 5, 182, 0, 42, 162, 0, 63, 29, 42, 27]
abbrev dktX4_leave_1 : List UInt8 := dkwX4_leave_1 ++ dktX4_leave_2
def dkwX4_leave_0 : List UInt8 := [42, 27, 6, 182, 0, 42, 61, 42, 27, 3, 182, 0, 65, 62, 42, 27, 3, 182, 0, 68, 54, 4, 29]
abbrev dktX4_leave_0 : List UInt8 := dkwX4_leave_0 ++ dktX4_leave_1
theorem dksX4_leave_0 : cX4_leave.data.toList.drop 0 = dktX4_leave_0 := by decide +kernel
theorem dksX4_leave_1 : cX4_leave.data.toList.drop 23 = dktX4_leave_1 := dk_seg dksX4_leave_0 23 rfl rfl
theorem dksX4_leave_2 : cX4_leave.data.toList.drop 46 = dktX4_leave_2 := dk_seg dksX4_leave_1 23 rfl rfl
theorem dksX4_leave_3 : cX4_leave.data.toList.drop 69 = dktX4_leave_3 := dk_seg dksX4_leave_2 23 rfl rfl
theorem dksX4_leave_4 : cX4_leave.data.toList.drop 92 = dktX4_leave_4 := dk_seg dksX4_leave_3 23 rfl rfl
theorem dksX4_leave_5 : cX4_leave.data.toList.drop 116 = dktX4_leave_5 := dk_seg dksX4_leave_4 24 rfl rfl
theorem dksX4_leave_6 : cX4_leave.data.toList.drop 140 = dktX4_leave_6 := dk_seg dksX4_leave_5 24 rfl rfl
theorem dX4_leave_0 : decode cX4_leave 0 = .ok (.aload_n 0, 1) := dk_42 (dk_at dksX4_leave_0 0 rfl rfl)
theorem dX4_leave_1 : decode cX4_leave 1 = .ok (.iload_n 1, 1) := dk_27 (dk_at dksX4_leave_0 1 rfl rfl)
theorem dX4_leave_2 : decode cX4_leave 2 = .ok (.iconst 3, 1) := dk_6 (dk_at dksX4_leave_0 2 rfl rfl)
theorem dX4_leave_3 : decode cX4_leave 3 = .ok (.invokevirtual 42, 3) := dk_182 0 42 (dk_at dksX4_leave_0 3 rfl rfl)
theorem dX4_leave_6 : decode cX4_leave 6 = .ok (.istore_n 2, 1) := dk_61 (dk_at dksX4_leave_0 6 rfl rfl)
theorem dX4_leave_7 : decode cX4_leave 7 = .ok (.aload_n 0, 1) := dk_42 (dk_at dksX4_leave_0 7 rfl rfl)
theorem dX4_leave_8 : decode cX4_leave 8 = .ok (.iload_n 1, 1) := dk_27 (dk_at dksX4_leave_0 8 rfl rfl)
theorem dX4_leave_9 : decode cX4_leave 9 = .ok (.iconst 0, 1) := dk_3 (dk_at dksX4_leave_0 9 rfl rfl)
theorem dX4_leave_10 : decode cX4_leave 10 = .ok (.invokevirtual 65, 3) := dk_182 0 65 (dk_at dksX4_leave_0 10 rfl rfl)
theorem dX4_leave_13 : decode cX4_leave 13 = .ok (.istore_n 3, 1) := dk_62 (dk_at dksX4_leave_0 13 rfl rfl)
theorem dX4_leave_14 : decode cX4_leave 14 = .ok (.aload_n 0, 1) := dk_42 (dk_at dksX4_leave_0 14 rfl rfl)
theorem dX4_leave_15 : decode cX4_leave 15 = .ok (.iload_n 1, 1) := dk_27 (dk_at dksX4_leave_0 15 rfl rfl)
theorem dX4_leave_16 : decode cX4_leave 16 = .ok (.iconst 0, 1) := dk_3 (dk_at dksX4_leave_0 16 rfl rfl)
theorem dX4_leave_17 : decode cX4_leave 17 = .ok (.invokevirtual 68, 3) := dk_182 0 68 (dk_at dksX4_leave_0 17 rfl rfl)
theorem dX4_leave_20 : decode cX4_leave 20 = .ok (.istore 4, 2) := dk_54 4 (dk_at dksX4_leave_0 20 rfl rfl)
theorem dX4_leave_22 : decode cX4_leave 22 = .ok (.iload_n 3, 1) := dk_29 (dk_at dksX4_leave_0 22 rfl rfl)
theorem dX4_leave_23 : decode cX4_leave 23 = .ok (.istore 5, 2) := dk_54 5 (dk_at dksX4_leave_1 0 rfl rfl)
theorem dX4_leave_25 : decode cX4_leave 25 = .ok (.iload 4, 2) := dk_21 4 (dk_at dksX4_leave_1 2 rfl rfl)
theorem dX4_leave_27 : decode cX4_leave 27 = .ok (.istore 6, 2) := dk_54 6 (dk_at dksX4_leave_1 4 rfl rfl)
theorem dX4_leave_29 : decode cX4_leave 29 = .ok (.iconst 1, 1) := dk_4 (dk_at dksX4_leave_1 6 rfl rfl)
theorem dX4_leave_30 : decode cX4_leave 30 = .ok (.istore 7, 2) := dk_54 7 (dk_at dksX4_leave_1 7 rfl rfl)
theorem dX4_leave_32 : decode cX4_leave 32 = .ok (.iload 7, 2) := dk_21 7 (dk_at dksX4_leave_1 9 rfl rfl)
theorem dX4_leave_34 : decode cX4_leave 34 = .ok (.aload_n 0, 1) := dk_42 (dk_at dksX4_leave_1 11 rfl rfl)
theorem dX4_leave_35 : decode cX4_leave 35 = .ok (.iload_n 1, 1) := dk_27 (dk_at dksX4_leave_1 12 rfl rfl)
theorem dX4_leave_36 : decode cX4_leave 36 = .ok (.iconst 2, 1) := dk_5 (dk_at dksX4_leave_1 13 rfl rfl)
theorem dX4_leave_37 : decode cX4_leave 37 = .ok (.invokevirtual 42, 3) := dk_182 0 42 (dk_at dksX4_leave_1 14 rfl rfl)
theorem dX4_leave_40 : decode cX4_leave 40 = .ok (.if_icmp .ge 63, 3) := dk_162 0 63 (dk_at dksX4_leave_1 17 rfl rfl)
theorem dX4_leave_43 : decode cX4_leave 43 = .ok (.iload_n 3, 1) := dk_29 (dk_at dksX4_leave_1 20 rfl rfl)
theorem dX4_leave_44 : decode cX4_leave 44 = .ok (.aload_n 0, 1) := dk_42 (dk_at dksX4_leave_1 21 rfl rfl)
theorem dX4_leave_45 : decode cX4_leave 45 = .ok (.iload_n 1, 1) := dk_27 (dk_at dksX4_leave_1 22 rfl rfl)
theorem dX4_leave_46 : decode cX4_leave 46 = .ok (.iload 7, 2) := dk_21 7 (dk_at dksX4_leave_2 0 rfl rfl)
theorem dX4_leave_48 : decode cX4_leave 48 = .ok (.invokevirtual 65, 3) := dk_182 0 65 (dk_at dksX4_leave_2 2 rfl rfl)
theorem dX4_leave_51 : decode cX4_leave 51 = .ok (.invokestatic 71, 3) := dk_184 0 71 (dk_at dksX4_leave_2 5 rfl rfl)
theorem dX4_leave_54 : decode cX4_leave 54 = .ok (.istore_n 3, 1) := dk_62 (dk_at dksX4_leave_2 8 rfl rfl)
theorem dX4_leave_55 : decode cX4_leave 55 = .ok (.iload 4, 2) := dk_21 4 (dk_at dksX4_leave_2 9 rfl rfl)
theorem dX4_leave_57 : decode cX4_leave 57 = .ok (.aload_n 0, 1) := dk_42 (dk_at dksX4_leave_2 11 rfl rfl)
theorem dX4_leave_58 : decode cX4_leave 58 = .ok (.iload_n 1, 1) := dk_27 (dk_at dksX4_leave_2 12 rfl rfl)
theorem dX4_leave_59 : decode cX4_leave 59 = .ok (.iload 7, 2) := dk_21 7 (dk_at dksX4_leave_2 13 rfl rfl)
theorem dX4_leave_61 : decode cX4_leave 61 = .ok (.invokevirtual 68, 3) := dk_182 0 68 (dk_at dksX4_leave_2 15 rfl rfl)
theorem dX4_leave_64 : decode cX4_leave 64 = .ok (.invokestatic 71, 3) := dk_184 0 71 (dk_at dksX4_leave_2 18 rfl rfl)
theorem dX4_leave_67 : decode cX4_leave 67 = .ok (.istore 4, 2) := dk_54 4 (dk_at dksX4_leave_2 21 rfl rfl)
theorem dX4_leave_69 : decode cX4_leave 69 = .ok (.iload 5, 2) := dk_21 5 (dk_at dksX4_leave_3 0 rfl rfl)
theorem dX4_leave_71 : decode cX4_leave 71 = .ok (.aload_n 0, 1) := dk_42 (dk_at dksX4_leave_3 2 rfl rfl)
theorem dX4_leave_72 : decode cX4_leave 72 = .ok (.iload_n 1, 1) := dk_27 (dk_at dksX4_leave_3 3 rfl rfl)
theorem dX4_leave_73 : decode cX4_leave 73 = .ok (.iload 7, 2) := dk_21 7 (dk_at dksX4_leave_3 4 rfl rfl)
theorem dX4_leave_75 : decode cX4_leave 75 = .ok (.invokevirtual 65, 3) := dk_182 0 65 (dk_at dksX4_leave_3 6 rfl rfl)
theorem dX4_leave_78 : decode cX4_leave 78 = .ok (.invokestatic 76, 3) := dk_184 0 76 (dk_at dksX4_leave_3 9 rfl rfl)
theorem dX4_leave_81 : decode cX4_leave 81 = .ok (.istore 5, 2) := dk_54 5 (dk_at dksX4_leave_3 12 rfl rfl)
theorem dX4_leave_83 : decode cX4_leave 83 = .ok (.iload 6, 2) := dk_21 6 (dk_at dksX4_leave_3 14 rfl rfl)
theorem dX4_leave_85 : decode cX4_leave 85 = .ok (.aload_n 0, 1) := dk_42 (dk_at dksX4_leave_3 16 rfl rfl)
theorem dX4_leave_86 : decode cX4_leave 86 = .ok (.iload_n 1, 1) := dk_27 (dk_at dksX4_leave_3 17 rfl rfl)
theorem dX4_leave_87 : decode cX4_leave 87 = .ok (.iload 7, 2) := dk_21 7 (dk_at dksX4_leave_3 18 rfl rfl)
theorem dX4_leave_89 : decode cX4_leave 89 = .ok (.invokevirtual 68, 3) := dk_182 0 68 (dk_at dksX4_leave_3 20 rfl rfl)
theorem dX4_leave_92 : decode cX4_leave 92 = .ok (.invokestatic 76, 3) := dk_184 0 76 (dk_at dksX4_leave_4 0 rfl rfl)
theorem dX4_leave_95 : decode cX4_leave 95 = .ok (.istore 6, 2) := dk_54 6 (dk_at dksX4_leave_4 3 rfl rfl)
theorem dX4_leave_97 : decode cX4_leave 97 = .ok (.iinc 7 1, 3) := dk_132 7 1 (dk_at dksX4_leave_4 5 rfl rfl)
theorem dX4_leave_100 : decode cX4_leave 100 = .ok (.goto (-68), 3) := dk_167 255 188 (dk_at dksX4_leave_4 8 rfl rfl)
theorem dX4_leave_103 : decode cX4_leave 103 = .ok (.iconst 0, 1) := dk_3 (dk_at dksX4_leave_4 11 rfl rfl)
theorem dX4_leave_104 : decode cX4_leave 104 = .ok (.istore 7, 2) := dk_54 7 (dk_at dksX4_leave_4 12 rfl rfl)
theorem dX4_leave_106 : decode cX4_leave 106 = .ok (.aload_n 0, 1) := dk_42 (dk_at dksX4_leave_4 14 rfl rfl)
theorem dX4_leave_107 : decode cX4_leave 107 = .ok (.getfield 58, 3) := dk_180 0 58 (dk_at dksX4_leave_4 15 rfl rfl)
theorem dX4_leave_110 : decode cX4_leave 110 = .ok (.iconst 1, 1) := dk_4 (dk_at dksX4_leave_4 18 rfl rfl)
theorem dX4_leave_111 : decode cX4_leave 111 = .ok (.isub, 1) := dk_100 (dk_at dksX4_leave_4 19 rfl rfl)
theorem dX4_leave_112 : decode cX4_leave 112 = .ok (.istore 8, 2) := dk_54 8 (dk_at dksX4_leave_4 20 rfl rfl)
theorem dX4_leave_114 : decode cX4_leave 114 = .ok (.iload 8, 2) := dk_21 8 (dk_at dksX4_leave_4 22 rfl rfl)
theorem dX4_leave_116 : decode cX4_leave 116 = .ok (.ifCond .lt 42, 3) := dk_155 0 42 (dk_at dksX4_leave_5 0 rfl rfl)
theorem dX4_leave_119 : decode cX4_leave 119 = .ok (.aload_n 0, 1) := dk_42 (dk_at dksX4_leave_5 3 rfl rfl)
theorem dX4_leave_120 : decode cX4_leave 120 = .ok (.iload 8, 2) := dk_21 8 (dk_at dksX4_leave_5 4 rfl rfl)
theorem dX4_leave_122 : decode cX4_leave 122 = .ok (.iload_n 3, 1) := dk_29 (dk_at dksX4_leave_5 6 rfl rfl)
theorem dX4_leave_123 : decode cX4_leave 123 = .ok (.iload_n 2, 1) := dk_28 (dk_at dksX4_leave_5 7 rfl rfl)
theorem dX4_leave_124 : decode cX4_leave 124 = .ok (.isub, 1) := dk_100 (dk_at dksX4_leave_5 8 rfl rfl)
theorem dX4_leave_125 : decode cX4_leave 125 = .ok (.iload 4, 2) := dk_21 4 (dk_at dksX4_leave_5 9 rfl rfl)
theorem dX4_leave_127 : decode cX4_leave 127 = .ok (.iload_n 2, 1) := dk_28 (dk_at dksX4_leave_5 11 rfl rfl)
theorem dX4_leave_128 : decode cX4_leave 128 = .ok (.isub, 1) := dk_100 (dk_at dksX4_leave_5 12 rfl rfl)
theorem dX4_leave_129 : decode cX4_leave 129 = .ok (.iload 5, 2) := dk_21 5 (dk_at dksX4_leave_5 13 rfl rfl)
theorem dX4_leave_131 : decode cX4_leave 131 = .ok (.iload_n 2, 1) := dk_28 (dk_at dksX4_leave_5 15 rfl rfl)
theorem dX4_leave_132 : decode cX4_leave 132 = .ok (.iadd, 1) := dk_96 (dk_at dksX4_leave_5 16 rfl rfl)
theorem dX4_leave_133 : decode cX4_leave 133 = .ok (.iload 6, 2) := dk_21 6 (dk_at dksX4_leave_5 17 rfl rfl)
theorem dX4_leave_135 : decode cX4_leave 135 = .ok (.iload_n 2, 1) := dk_28 (dk_at dksX4_leave_5 19 rfl rfl)
theorem dX4_leave_136 : decode cX4_leave 136 = .ok (.iadd, 1) := dk_96 (dk_at dksX4_leave_5 20 rfl rfl)
theorem dX4_leave_137 : decode cX4_leave 137 = .ok (.invokevirtual 79, 3) := dk_182 0 79 (dk_at dksX4_leave_5 21 rfl rfl)
theorem dX4_leave_140 : decode cX4_leave 140 = .ok (.ifCond .eq 12, 3) := dk_153 0 12 (dk_at dksX4_leave_6 0 rfl rfl)
theorem dX4_leave_143 : decode cX4_leave 143 = .ok (.aload_n 0, 1) := dk_42 (dk_at dksX4_leave_6 3 rfl rfl)
theorem dX4_leave_144 : decode cX4_leave 144 = .ok (.iload 8, 2) := dk_21 8 (dk_at dksX4_leave_6 4 rfl rfl)
theorem dX4_leave_146 : decode cX4_leave 146 = .ok (.invokevirtual 83, 3) := dk_182 0 83 (dk_at dksX4_leave_6 6 rfl rfl)
theorem dX4_leave_149 : decode cX4_leave 149 = .ok (.iinc 7 1, 3) := dk_132 7 1 (dk_at dksX4_leave_6 9 rfl rfl)
theorem dX4_leave_152 : decode cX4_leave 152 = .ok (.iinc 8 (-1), 3) := dk_132 8 255 (dk_at dksX4_leave_6 12 rfl rfl)
theorem dX4_leave_155 : decode cX4_leave 155 = .ok (.goto (-41), 3) := dk_167 255 215 (dk_at dksX4_leave_6 15 rfl rfl)
theorem dX4_leave_158 : decode cX4_leave 158 = .ok (.iload 7, 2) := dk_21 7 (dk_at dksX4_leave_6 18 rfl rfl)
theorem dX4_leave_160 : decode cX4_leave 160 = .ok (.ireturn, 1) := dk_172 (dk_at dksX4_leave_6 20 rfl rfl)
abbrev cX4_x : ByteArray := prog_18_method_5_code
def yX4_x : MethodName := ⟨RX4, "x", "(II)I"⟩
def dkwX4_x_0 : List UInt8 := [42, 180, 0, 13, 16, 9, 27, 104, 28, 96, 46, 172]
abbrev dktX4_x_0 : List UInt8 := dkwX4_x_0 ++ []
theorem dksX4_x_0 : cX4_x.data.toList.drop 0 = dktX4_x_0 := by decide +kernel
theorem dX4_x_0 : decode cX4_x 0 = .ok (.aload_n 0, 1) := dk_42 (dk_at dksX4_x_0 0 rfl rfl)
theorem dX4_x_1 : decode cX4_x 1 = .ok (.getfield 13, 3) := dk_180 0 13 (dk_at dksX4_x_0 1 rfl rfl)
theorem dX4_x_4 : decode cX4_x 4 = .ok (.bipush 9, 2) := dk_16 9 (dk_at dksX4_x_0 4 rfl rfl)
theorem dX4_x_6 : decode cX4_x 6 = .ok (.iload_n 1, 1) := dk_27 (dk_at dksX4_x_0 6 rfl rfl)
theorem dX4_x_7 : decode cX4_x 7 = .ok (.imul, 1) := dk_104 (dk_at dksX4_x_0 7 rfl rfl)
theorem dX4_x_8 : decode cX4_x 8 = .ok (.iload_n 2, 1) := dk_28 (dk_at dksX4_x_0 8 rfl rfl)
theorem dX4_x_9 : decode cX4_x 9 = .ok (.iadd, 1) := dk_96 (dk_at dksX4_x_0 9 rfl rfl)
theorem dX4_x_10 : decode cX4_x 10 = .ok (.iaload, 1) := dk_46 (dk_at dksX4_x_0 10 rfl rfl)
theorem dX4_x_11 : decode cX4_x 11 = .ok (.ireturn, 1) := dk_172 (dk_at dksX4_x_0 11 rfl rfl)
abbrev cX4_y : ByteArray := prog_18_method_6_code
def yX4_y : MethodName := ⟨RX4, "y", "(II)I"⟩
def dkwX4_y_0 : List UInt8 := [42, 180, 0, 16, 16, 9, 27, 104, 28, 96, 46, 172]
abbrev dktX4_y_0 : List UInt8 := dkwX4_y_0 ++ []
theorem dksX4_y_0 : cX4_y.data.toList.drop 0 = dktX4_y_0 := by decide +kernel
theorem dX4_y_0 : decode cX4_y 0 = .ok (.aload_n 0, 1) := dk_42 (dk_at dksX4_y_0 0 rfl rfl)
theorem dX4_y_1 : decode cX4_y 1 = .ok (.getfield 16, 3) := dk_180 0 16 (dk_at dksX4_y_0 1 rfl rfl)
theorem dX4_y_4 : decode cX4_y 4 = .ok (.bipush 9, 2) := dk_16 9 (dk_at dksX4_y_0 4 rfl rfl)
theorem dX4_y_6 : decode cX4_y 6 = .ok (.iload_n 1, 1) := dk_27 (dk_at dksX4_y_0 6 rfl rfl)
theorem dX4_y_7 : decode cX4_y 7 = .ok (.imul, 1) := dk_104 (dk_at dksX4_y_0 7 rfl rfl)
theorem dX4_y_8 : decode cX4_y 8 = .ok (.iload_n 2, 1) := dk_28 (dk_at dksX4_y_0 8 rfl rfl)
theorem dX4_y_9 : decode cX4_y 9 = .ok (.iadd, 1) := dk_96 (dk_at dksX4_y_0 9 rfl rfl)
theorem dX4_y_10 : decode cX4_y 10 = .ok (.iaload, 1) := dk_46 (dk_at dksX4_y_0 10 rfl rfl)
theorem dX4_y_11 : decode cX4_y 11 = .ok (.ireturn, 1) := dk_172 (dk_at dksX4_y_0 11 rfl rfl)
abbrev cX4_isMet : ByteArray := prog_18_method_15_code
def yX4_isMet : MethodName := ⟨RX4, "isMet", "(IIIII)Z"⟩
def dkwX4_isMet_3 : List UInt8 := [29, 161, 0, 7, 4, 167, 0, 4, 3, 172]
abbrev dktX4_isMet_3 : List UInt8 := dkwX4_isMet_3 ++ []
def dkwX4_isMet_2 : List UInt8 := [163, 0, 32, 21, 7, 21, 6, 96, 28, 161, 0, 23, 21, 8, 21, 5, 163, 0, 16, 21, 8, 21, 6, 96]
abbrev dktX4_isMet_2 : List UInt8 := dkwX4_isMet_2 ++ dktX4_isMet_3
def dkwX4_isMet_1 : List UInt8 := [21, 6, 104, 54, 7, 42, 180, 0, 22, 7, 27, 104, 5, 96, 46, 21, 6, 104, 54, 8, 21, 7, 21, 4]
abbrev dktX4_isMet_1 : List UInt8 := dkwX4_isMet_1 ++ dktX4_isMet_2
def dkwX4_isMet_0 : List UInt8 := [42, 180, 0, 22, 7, 27, 104, 46, 184, 0, 61, 54, 6, 42, 180, 0, 22, 7, 27, 104, 4, 96, 46]
abbrev dktX4_isMet_0 : List UInt8 := dkwX4_isMet_0 ++ dktX4_isMet_1
theorem dksX4_isMet_0 : cX4_isMet.data.toList.drop 0 = dktX4_isMet_0 := by decide +kernel
theorem dksX4_isMet_1 : cX4_isMet.data.toList.drop 23 = dktX4_isMet_1 := dk_seg dksX4_isMet_0 23 rfl rfl
theorem dksX4_isMet_2 : cX4_isMet.data.toList.drop 47 = dktX4_isMet_2 := dk_seg dksX4_isMet_1 24 rfl rfl
theorem dksX4_isMet_3 : cX4_isMet.data.toList.drop 71 = dktX4_isMet_3 := dk_seg dksX4_isMet_2 24 rfl rfl
theorem dX4_isMet_0 : decode cX4_isMet 0 = .ok (.aload_n 0, 1) := dk_42 (dk_at dksX4_isMet_0 0 rfl rfl)
theorem dX4_isMet_1 : decode cX4_isMet 1 = .ok (.getfield 22, 3) := dk_180 0 22 (dk_at dksX4_isMet_0 1 rfl rfl)
theorem dX4_isMet_4 : decode cX4_isMet 4 = .ok (.iconst 4, 1) := dk_7 (dk_at dksX4_isMet_0 4 rfl rfl)
theorem dX4_isMet_5 : decode cX4_isMet 5 = .ok (.iload_n 1, 1) := dk_27 (dk_at dksX4_isMet_0 5 rfl rfl)
theorem dX4_isMet_6 : decode cX4_isMet 6 = .ok (.imul, 1) := dk_104 (dk_at dksX4_isMet_0 6 rfl rfl)
theorem dX4_isMet_7 : decode cX4_isMet 7 = .ok (.iaload, 1) := dk_46 (dk_at dksX4_isMet_0 7 rfl rfl)
theorem dX4_isMet_8 : decode cX4_isMet 8 = .ok (.invokestatic 61, 3) := dk_184 0 61 (dk_at dksX4_isMet_0 8 rfl rfl)
theorem dX4_isMet_11 : decode cX4_isMet 11 = .ok (.istore 6, 2) := dk_54 6 (dk_at dksX4_isMet_0 11 rfl rfl)
theorem dX4_isMet_13 : decode cX4_isMet 13 = .ok (.aload_n 0, 1) := dk_42 (dk_at dksX4_isMet_0 13 rfl rfl)
theorem dX4_isMet_14 : decode cX4_isMet 14 = .ok (.getfield 22, 3) := dk_180 0 22 (dk_at dksX4_isMet_0 14 rfl rfl)
theorem dX4_isMet_17 : decode cX4_isMet 17 = .ok (.iconst 4, 1) := dk_7 (dk_at dksX4_isMet_0 17 rfl rfl)
theorem dX4_isMet_18 : decode cX4_isMet 18 = .ok (.iload_n 1, 1) := dk_27 (dk_at dksX4_isMet_0 18 rfl rfl)
theorem dX4_isMet_19 : decode cX4_isMet 19 = .ok (.imul, 1) := dk_104 (dk_at dksX4_isMet_0 19 rfl rfl)
theorem dX4_isMet_20 : decode cX4_isMet 20 = .ok (.iconst 1, 1) := dk_4 (dk_at dksX4_isMet_0 20 rfl rfl)
theorem dX4_isMet_21 : decode cX4_isMet 21 = .ok (.iadd, 1) := dk_96 (dk_at dksX4_isMet_0 21 rfl rfl)
theorem dX4_isMet_22 : decode cX4_isMet 22 = .ok (.iaload, 1) := dk_46 (dk_at dksX4_isMet_0 22 rfl rfl)
theorem dX4_isMet_23 : decode cX4_isMet 23 = .ok (.iload 6, 2) := dk_21 6 (dk_at dksX4_isMet_1 0 rfl rfl)
theorem dX4_isMet_25 : decode cX4_isMet 25 = .ok (.imul, 1) := dk_104 (dk_at dksX4_isMet_1 2 rfl rfl)
theorem dX4_isMet_26 : decode cX4_isMet 26 = .ok (.istore 7, 2) := dk_54 7 (dk_at dksX4_isMet_1 3 rfl rfl)
theorem dX4_isMet_28 : decode cX4_isMet 28 = .ok (.aload_n 0, 1) := dk_42 (dk_at dksX4_isMet_1 5 rfl rfl)
theorem dX4_isMet_29 : decode cX4_isMet 29 = .ok (.getfield 22, 3) := dk_180 0 22 (dk_at dksX4_isMet_1 6 rfl rfl)
theorem dX4_isMet_32 : decode cX4_isMet 32 = .ok (.iconst 4, 1) := dk_7 (dk_at dksX4_isMet_1 9 rfl rfl)
theorem dX4_isMet_33 : decode cX4_isMet 33 = .ok (.iload_n 1, 1) := dk_27 (dk_at dksX4_isMet_1 10 rfl rfl)
theorem dX4_isMet_34 : decode cX4_isMet 34 = .ok (.imul, 1) := dk_104 (dk_at dksX4_isMet_1 11 rfl rfl)
theorem dX4_isMet_35 : decode cX4_isMet 35 = .ok (.iconst 2, 1) := dk_5 (dk_at dksX4_isMet_1 12 rfl rfl)
theorem dX4_isMet_36 : decode cX4_isMet 36 = .ok (.iadd, 1) := dk_96 (dk_at dksX4_isMet_1 13 rfl rfl)
theorem dX4_isMet_37 : decode cX4_isMet 37 = .ok (.iaload, 1) := dk_46 (dk_at dksX4_isMet_1 14 rfl rfl)
theorem dX4_isMet_38 : decode cX4_isMet 38 = .ok (.iload 6, 2) := dk_21 6 (dk_at dksX4_isMet_1 15 rfl rfl)
theorem dX4_isMet_40 : decode cX4_isMet 40 = .ok (.imul, 1) := dk_104 (dk_at dksX4_isMet_1 17 rfl rfl)
theorem dX4_isMet_41 : decode cX4_isMet 41 = .ok (.istore 8, 2) := dk_54 8 (dk_at dksX4_isMet_1 18 rfl rfl)
theorem dX4_isMet_43 : decode cX4_isMet 43 = .ok (.iload 7, 2) := dk_21 7 (dk_at dksX4_isMet_1 20 rfl rfl)
theorem dX4_isMet_45 : decode cX4_isMet 45 = .ok (.iload 4, 2) := dk_21 4 (dk_at dksX4_isMet_1 22 rfl rfl)
theorem dX4_isMet_47 : decode cX4_isMet 47 = .ok (.if_icmp .gt 32, 3) := dk_163 0 32 (dk_at dksX4_isMet_2 0 rfl rfl)
theorem dX4_isMet_50 : decode cX4_isMet 50 = .ok (.iload 7, 2) := dk_21 7 (dk_at dksX4_isMet_2 3 rfl rfl)
theorem dX4_isMet_52 : decode cX4_isMet 52 = .ok (.iload 6, 2) := dk_21 6 (dk_at dksX4_isMet_2 5 rfl rfl)
theorem dX4_isMet_54 : decode cX4_isMet 54 = .ok (.iadd, 1) := dk_96 (dk_at dksX4_isMet_2 7 rfl rfl)
theorem dX4_isMet_55 : decode cX4_isMet 55 = .ok (.iload_n 2, 1) := dk_28 (dk_at dksX4_isMet_2 8 rfl rfl)
theorem dX4_isMet_56 : decode cX4_isMet 56 = .ok (.if_icmp .lt 23, 3) := dk_161 0 23 (dk_at dksX4_isMet_2 9 rfl rfl)
theorem dX4_isMet_59 : decode cX4_isMet 59 = .ok (.iload 8, 2) := dk_21 8 (dk_at dksX4_isMet_2 12 rfl rfl)
theorem dX4_isMet_61 : decode cX4_isMet 61 = .ok (.iload 5, 2) := dk_21 5 (dk_at dksX4_isMet_2 14 rfl rfl)
theorem dX4_isMet_63 : decode cX4_isMet 63 = .ok (.if_icmp .gt 16, 3) := dk_163 0 16 (dk_at dksX4_isMet_2 16 rfl rfl)
theorem dX4_isMet_66 : decode cX4_isMet 66 = .ok (.iload 8, 2) := dk_21 8 (dk_at dksX4_isMet_2 19 rfl rfl)
theorem dX4_isMet_68 : decode cX4_isMet 68 = .ok (.iload 6, 2) := dk_21 6 (dk_at dksX4_isMet_2 21 rfl rfl)
theorem dX4_isMet_70 : decode cX4_isMet 70 = .ok (.iadd, 1) := dk_96 (dk_at dksX4_isMet_2 23 rfl rfl)
theorem dX4_isMet_71 : decode cX4_isMet 71 = .ok (.iload_n 3, 1) := dk_29 (dk_at dksX4_isMet_3 0 rfl rfl)
theorem dX4_isMet_72 : decode cX4_isMet 72 = .ok (.if_icmp .lt 7, 3) := dk_161 0 7 (dk_at dksX4_isMet_3 1 rfl rfl)
theorem dX4_isMet_75 : decode cX4_isMet 75 = .ok (.iconst 1, 1) := dk_4 (dk_at dksX4_isMet_3 4 rfl rfl)
theorem dX4_isMet_76 : decode cX4_isMet 76 = .ok (.goto 4, 3) := dk_167 0 4 (dk_at dksX4_isMet_3 5 rfl rfl)
theorem dX4_isMet_79 : decode cX4_isMet 79 = .ok (.iconst 0, 1) := dk_3 (dk_at dksX4_isMet_3 8 rfl rfl)
theorem dX4_isMet_80 : decode cX4_isMet 80 = .ok (.ireturn, 1) := dk_172 (dk_at dksX4_isMet_3 9 rfl rfl)
abbrev cX4_tileSide : ByteArray := prog_18_method_11_code
def yX4_tileSide : MethodName := ⟨RX4, "tileSide", "(I)I"⟩
def dkwX4_tileSide_0 : List UInt8 := [16, 64, 26, 122, 172]
abbrev dktX4_tileSide_0 : List UInt8 := dkwX4_tileSide_0 ++ []
theorem dksX4_tileSide_0 : cX4_tileSide.data.toList.drop 0 = dktX4_tileSide_0 := by decide +kernel
theorem dX4_tileSide_0 : decode cX4_tileSide 0 = .ok (.bipush 64, 2) := dk_16 64 (dk_at dksX4_tileSide_0 0 rfl rfl)
theorem dX4_tileSide_2 : decode cX4_tileSide 2 = .ok (.iload_n 0, 1) := dk_26 (dk_at dksX4_tileSide_0 2 rfl rfl)
theorem dX4_tileSide_3 : decode cX4_tileSide 3 = .ok (.ishr, 1) := dk_122 (dk_at dksX4_tileSide_0 3 rfl rfl)
theorem dX4_tileSide_4 : decode cX4_tileSide 4 = .ok (.ireturn, 1) := dk_172 (dk_at dksX4_tileSide_0 4 rfl rfl)
abbrev cX4_drops : ByteArray := prog_18_method_13_code
def yX4_drops : MethodName := ⟨RX4, "drops", "(I)V"⟩
def dkwX4_drops_1 : List UInt8 := [42, 180, 0, 22, 28, 42, 180, 0, 22, 28, 7, 96, 46, 79, 132, 2, 1, 167, 255, 229, 177]
abbrev dktX4_drops_1 : List UInt8 := dkwX4_drops_1 ++ []
def dkwX4_drops_0 : List UInt8 := [42, 89, 180, 0, 58, 4, 100, 181, 0, 58, 7, 27, 104, 61, 28, 7, 42, 180, 0, 58, 104, 162, 0, 23]
abbrev dktX4_drops_0 : List UInt8 := dkwX4_drops_0 ++ dktX4_drops_1
theorem dksX4_drops_0 : cX4_drops.data.toList.drop 0 = dktX4_drops_0 := by decide +kernel
theorem dksX4_drops_1 : cX4_drops.data.toList.drop 24 = dktX4_drops_1 := dk_seg dksX4_drops_0 24 rfl rfl
theorem dX4_drops_0 : decode cX4_drops 0 = .ok (.aload_n 0, 1) := dk_42 (dk_at dksX4_drops_0 0 rfl rfl)
theorem dX4_drops_1 : decode cX4_drops 1 = .ok (.dup, 1) := dk_89 (dk_at dksX4_drops_0 1 rfl rfl)
theorem dX4_drops_2 : decode cX4_drops 2 = .ok (.getfield 58, 3) := dk_180 0 58 (dk_at dksX4_drops_0 2 rfl rfl)
theorem dX4_drops_5 : decode cX4_drops 5 = .ok (.iconst 1, 1) := dk_4 (dk_at dksX4_drops_0 5 rfl rfl)
theorem dX4_drops_6 : decode cX4_drops 6 = .ok (.isub, 1) := dk_100 (dk_at dksX4_drops_0 6 rfl rfl)
theorem dX4_drops_7 : decode cX4_drops 7 = .ok (.putfield 58, 3) := dk_181 0 58 (dk_at dksX4_drops_0 7 rfl rfl)
theorem dX4_drops_10 : decode cX4_drops 10 = .ok (.iconst 4, 1) := dk_7 (dk_at dksX4_drops_0 10 rfl rfl)
theorem dX4_drops_11 : decode cX4_drops 11 = .ok (.iload_n 1, 1) := dk_27 (dk_at dksX4_drops_0 11 rfl rfl)
theorem dX4_drops_12 : decode cX4_drops 12 = .ok (.imul, 1) := dk_104 (dk_at dksX4_drops_0 12 rfl rfl)
theorem dX4_drops_13 : decode cX4_drops 13 = .ok (.istore_n 2, 1) := dk_61 (dk_at dksX4_drops_0 13 rfl rfl)
theorem dX4_drops_14 : decode cX4_drops 14 = .ok (.iload_n 2, 1) := dk_28 (dk_at dksX4_drops_0 14 rfl rfl)
theorem dX4_drops_15 : decode cX4_drops 15 = .ok (.iconst 4, 1) := dk_7 (dk_at dksX4_drops_0 15 rfl rfl)
theorem dX4_drops_16 : decode cX4_drops 16 = .ok (.aload_n 0, 1) := dk_42 (dk_at dksX4_drops_0 16 rfl rfl)
theorem dX4_drops_17 : decode cX4_drops 17 = .ok (.getfield 58, 3) := dk_180 0 58 (dk_at dksX4_drops_0 17 rfl rfl)
theorem dX4_drops_20 : decode cX4_drops 20 = .ok (.imul, 1) := dk_104 (dk_at dksX4_drops_0 20 rfl rfl)
theorem dX4_drops_21 : decode cX4_drops 21 = .ok (.if_icmp .ge 23, 3) := dk_162 0 23 (dk_at dksX4_drops_0 21 rfl rfl)
theorem dX4_drops_24 : decode cX4_drops 24 = .ok (.aload_n 0, 1) := dk_42 (dk_at dksX4_drops_1 0 rfl rfl)
theorem dX4_drops_25 : decode cX4_drops 25 = .ok (.getfield 22, 3) := dk_180 0 22 (dk_at dksX4_drops_1 1 rfl rfl)
theorem dX4_drops_28 : decode cX4_drops 28 = .ok (.iload_n 2, 1) := dk_28 (dk_at dksX4_drops_1 4 rfl rfl)
theorem dX4_drops_29 : decode cX4_drops 29 = .ok (.aload_n 0, 1) := dk_42 (dk_at dksX4_drops_1 5 rfl rfl)
theorem dX4_drops_30 : decode cX4_drops 30 = .ok (.getfield 22, 3) := dk_180 0 22 (dk_at dksX4_drops_1 6 rfl rfl)
theorem dX4_drops_33 : decode cX4_drops 33 = .ok (.iload_n 2, 1) := dk_28 (dk_at dksX4_drops_1 9 rfl rfl)
theorem dX4_drops_34 : decode cX4_drops 34 = .ok (.iconst 4, 1) := dk_7 (dk_at dksX4_drops_1 10 rfl rfl)
theorem dX4_drops_35 : decode cX4_drops 35 = .ok (.iadd, 1) := dk_96 (dk_at dksX4_drops_1 11 rfl rfl)
theorem dX4_drops_36 : decode cX4_drops 36 = .ok (.iaload, 1) := dk_46 (dk_at dksX4_drops_1 12 rfl rfl)
theorem dX4_drops_37 : decode cX4_drops 37 = .ok (.iastore, 1) := dk_79 (dk_at dksX4_drops_1 13 rfl rfl)
theorem dX4_drops_38 : decode cX4_drops 38 = .ok (.iinc 2 1, 3) := dk_132 2 1 (dk_at dksX4_drops_1 14 rfl rfl)
theorem dX4_drops_41 : decode cX4_drops 41 = .ok (.goto (-27), 3) := dk_167 255 229 (dk_at dksX4_drops_1 17 rfl rfl)
theorem dX4_drops_44 : decode cX4_drops 44 = .ok (.return_, 1) := dk_177 (dk_at dksX4_drops_1 20 rfl rfl)
abbrev cX4_extend : ByteArray := prog_18_method_32_code
def yX4_extend : MethodName := ⟨RX4, "extend", "(III)I"⟩
def dkwX4_extend_3 : List UInt8 := [21, 4, 28, 29, 182, 0, 132, 87, 42, 21, 4, 182, 0, 135, 87, 42, 21, 4, 5, 182, 0, 42, 172]
abbrev dktX4_extend_3 : List UInt8 := dkwX4_extend_3 ++ []
def dkwX4_extend_2 : List UInt8 := [167, 0, 4, 3, 181, 0, 35, 42, 180, 0, 35, 158, 0, 5, 2, 172, 42, 27, 182, 0, 138, 54, 4, 42]
abbrev dktX4_extend_2 : List UInt8 := dkwX4_extend_2 ++ dktX4_extend_3
def dkwX4_extend_1 : List UInt8 := [184, 0, 126, 154, 0, 7, 6, 167, 0, 20, 42, 21, 4, 5, 182, 0, 42, 16, 9, 160, 0, 7, 7]
abbrev dktX4_extend_1 : List UInt8 := dkwX4_extend_1 ++ dktX4_extend_2
def dkwX4_extend_0 : List UInt8 := [42, 27, 182, 0, 141, 153, 0, 49, 42, 27, 182, 0, 138, 54, 4, 42, 28, 184, 0, 126, 153, 0, 10, 29]
abbrev dktX4_extend_0 : List UInt8 := dkwX4_extend_0 ++ dktX4_extend_1
theorem dksX4_extend_0 : cX4_extend.data.toList.drop 0 = dktX4_extend_0 := by decide +kernel
theorem dksX4_extend_1 : cX4_extend.data.toList.drop 24 = dktX4_extend_1 := dk_seg dksX4_extend_0 24 rfl rfl
theorem dksX4_extend_2 : cX4_extend.data.toList.drop 47 = dktX4_extend_2 := dk_seg dksX4_extend_1 23 rfl rfl
theorem dksX4_extend_3 : cX4_extend.data.toList.drop 71 = dktX4_extend_3 := dk_seg dksX4_extend_2 24 rfl rfl
theorem dX4_extend_0 : decode cX4_extend 0 = .ok (.aload_n 0, 1) := dk_42 (dk_at dksX4_extend_0 0 rfl rfl)
theorem dX4_extend_1 : decode cX4_extend 1 = .ok (.iload_n 1, 1) := dk_27 (dk_at dksX4_extend_0 1 rfl rfl)
theorem dX4_extend_2 : decode cX4_extend 2 = .ok (.invokevirtual 141, 3) := dk_182 0 141 (dk_at dksX4_extend_0 2 rfl rfl)
theorem dX4_extend_5 : decode cX4_extend 5 = .ok (.ifCond .eq 49, 3) := dk_153 0 49 (dk_at dksX4_extend_0 5 rfl rfl)
theorem dX4_extend_8 : decode cX4_extend 8 = .ok (.aload_n 0, 1) := dk_42 (dk_at dksX4_extend_0 8 rfl rfl)
theorem dX4_extend_9 : decode cX4_extend 9 = .ok (.iload_n 1, 1) := dk_27 (dk_at dksX4_extend_0 9 rfl rfl)
theorem dX4_extend_10 : decode cX4_extend 10 = .ok (.invokevirtual 138, 3) := dk_182 0 138 (dk_at dksX4_extend_0 10 rfl rfl)
theorem dX4_extend_13 : decode cX4_extend 13 = .ok (.istore 4, 2) := dk_54 4 (dk_at dksX4_extend_0 13 rfl rfl)
theorem dX4_extend_15 : decode cX4_extend 15 = .ok (.aload_n 0, 1) := dk_42 (dk_at dksX4_extend_0 15 rfl rfl)
theorem dX4_extend_16 : decode cX4_extend 16 = .ok (.iload_n 2, 1) := dk_28 (dk_at dksX4_extend_0 16 rfl rfl)
theorem dX4_extend_17 : decode cX4_extend 17 = .ok (.invokestatic 126, 3) := dk_184 0 126 (dk_at dksX4_extend_0 17 rfl rfl)
theorem dX4_extend_20 : decode cX4_extend 20 = .ok (.ifCond .eq 10, 3) := dk_153 0 10 (dk_at dksX4_extend_0 20 rfl rfl)
theorem dX4_extend_23 : decode cX4_extend 23 = .ok (.iload_n 3, 1) := dk_29 (dk_at dksX4_extend_0 23 rfl rfl)
theorem dX4_extend_24 : decode cX4_extend 24 = .ok (.invokestatic 126, 3) := dk_184 0 126 (dk_at dksX4_extend_1 0 rfl rfl)
theorem dX4_extend_27 : decode cX4_extend 27 = .ok (.ifCond .ne 7, 3) := dk_154 0 7 (dk_at dksX4_extend_1 3 rfl rfl)
theorem dX4_extend_30 : decode cX4_extend 30 = .ok (.iconst 3, 1) := dk_6 (dk_at dksX4_extend_1 6 rfl rfl)
theorem dX4_extend_31 : decode cX4_extend 31 = .ok (.goto 20, 3) := dk_167 0 20 (dk_at dksX4_extend_1 7 rfl rfl)
theorem dX4_extend_34 : decode cX4_extend 34 = .ok (.aload_n 0, 1) := dk_42 (dk_at dksX4_extend_1 10 rfl rfl)
theorem dX4_extend_35 : decode cX4_extend 35 = .ok (.iload 4, 2) := dk_21 4 (dk_at dksX4_extend_1 11 rfl rfl)
theorem dX4_extend_37 : decode cX4_extend 37 = .ok (.iconst 2, 1) := dk_5 (dk_at dksX4_extend_1 13 rfl rfl)
theorem dX4_extend_38 : decode cX4_extend 38 = .ok (.invokevirtual 42, 3) := dk_182 0 42 (dk_at dksX4_extend_1 14 rfl rfl)
theorem dX4_extend_41 : decode cX4_extend 41 = .ok (.bipush 9, 2) := dk_16 9 (dk_at dksX4_extend_1 17 rfl rfl)
theorem dX4_extend_43 : decode cX4_extend 43 = .ok (.if_icmp .ne 7, 3) := dk_160 0 7 (dk_at dksX4_extend_1 19 rfl rfl)
theorem dX4_extend_46 : decode cX4_extend 46 = .ok (.iconst 4, 1) := dk_7 (dk_at dksX4_extend_1 22 rfl rfl)
theorem dX4_extend_47 : decode cX4_extend 47 = .ok (.goto 4, 3) := dk_167 0 4 (dk_at dksX4_extend_2 0 rfl rfl)
theorem dX4_extend_50 : decode cX4_extend 50 = .ok (.iconst 0, 1) := dk_3 (dk_at dksX4_extend_2 3 rfl rfl)
theorem dX4_extend_51 : decode cX4_extend 51 = .ok (.putfield 35, 3) := dk_181 0 35 (dk_at dksX4_extend_2 4 rfl rfl)
theorem dX4_extend_54 : decode cX4_extend 54 = .ok (.aload_n 0, 1) := dk_42 (dk_at dksX4_extend_2 7 rfl rfl)
theorem dX4_extend_55 : decode cX4_extend 55 = .ok (.getfield 35, 3) := dk_180 0 35 (dk_at dksX4_extend_2 8 rfl rfl)
theorem dX4_extend_58 : decode cX4_extend 58 = .ok (.ifCond .le 5, 3) := dk_158 0 5 (dk_at dksX4_extend_2 11 rfl rfl)
theorem dX4_extend_61 : decode cX4_extend 61 = .ok (.iconst (-1), 1) := dk_2 (dk_at dksX4_extend_2 14 rfl rfl)
theorem dX4_extend_62 : decode cX4_extend 62 = .ok (.ireturn, 1) := dk_172 (dk_at dksX4_extend_2 15 rfl rfl)
theorem dX4_extend_63 : decode cX4_extend 63 = .ok (.aload_n 0, 1) := dk_42 (dk_at dksX4_extend_2 16 rfl rfl)
theorem dX4_extend_64 : decode cX4_extend 64 = .ok (.iload_n 1, 1) := dk_27 (dk_at dksX4_extend_2 17 rfl rfl)
theorem dX4_extend_65 : decode cX4_extend 65 = .ok (.invokevirtual 138, 3) := dk_182 0 138 (dk_at dksX4_extend_2 18 rfl rfl)
theorem dX4_extend_68 : decode cX4_extend 68 = .ok (.istore 4, 2) := dk_54 4 (dk_at dksX4_extend_2 21 rfl rfl)
theorem dX4_extend_70 : decode cX4_extend 70 = .ok (.aload_n 0, 1) := dk_42 (dk_at dksX4_extend_2 23 rfl rfl)
theorem dX4_extend_71 : decode cX4_extend 71 = .ok (.iload 4, 2) := dk_21 4 (dk_at dksX4_extend_3 0 rfl rfl)
theorem dX4_extend_73 : decode cX4_extend 73 = .ok (.iload_n 2, 1) := dk_28 (dk_at dksX4_extend_3 2 rfl rfl)
theorem dX4_extend_74 : decode cX4_extend 74 = .ok (.iload_n 3, 1) := dk_29 (dk_at dksX4_extend_3 3 rfl rfl)
theorem dX4_extend_75 : decode cX4_extend 75 = .ok (.invokevirtual 132, 3) := dk_182 0 132 (dk_at dksX4_extend_3 4 rfl rfl)
theorem dX4_extend_78 : decode cX4_extend 78 = .ok (.pop, 1) := dk_87 (dk_at dksX4_extend_3 7 rfl rfl)
theorem dX4_extend_79 : decode cX4_extend 79 = .ok (.aload_n 0, 1) := dk_42 (dk_at dksX4_extend_3 8 rfl rfl)
theorem dX4_extend_80 : decode cX4_extend 80 = .ok (.iload 4, 2) := dk_21 4 (dk_at dksX4_extend_3 9 rfl rfl)
theorem dX4_extend_82 : decode cX4_extend 82 = .ok (.invokevirtual 135, 3) := dk_182 0 135 (dk_at dksX4_extend_3 11 rfl rfl)
theorem dX4_extend_85 : decode cX4_extend 85 = .ok (.pop, 1) := dk_87 (dk_at dksX4_extend_3 14 rfl rfl)
theorem dX4_extend_86 : decode cX4_extend 86 = .ok (.aload_n 0, 1) := dk_42 (dk_at dksX4_extend_3 15 rfl rfl)
theorem dX4_extend_87 : decode cX4_extend 87 = .ok (.iload 4, 2) := dk_21 4 (dk_at dksX4_extend_3 16 rfl rfl)
theorem dX4_extend_89 : decode cX4_extend 89 = .ok (.iconst 2, 1) := dk_5 (dk_at dksX4_extend_3 18 rfl rfl)
theorem dX4_extend_90 : decode cX4_extend 90 = .ok (.invokevirtual 42, 3) := dk_182 0 42 (dk_at dksX4_extend_3 19 rfl rfl)
theorem dX4_extend_93 : decode cX4_extend 93 = .ok (.ireturn, 1) := dk_172 (dk_at dksX4_extend_3 22 rfl rfl)
abbrev cX4_isLine : ByteArray := prog_18_method_30_code
def yX4_isLine : MethodName := ⟨RX4, "isLine", "(I)Z"⟩
def dkwX4_isLine_1 : List UInt8 := [160, 0, 7, 5, 167, 0, 4, 3, 181, 0, 35, 42, 180, 0, 35, 154, 0, 7, 4, 167, 0, 4, 3, 172]
abbrev dktX4_isLine_1 : List UInt8 := dkwX4_isLine_1 ++ []
def dkwX4_isLine_0 : List UInt8 := [42, 27, 182, 0, 138, 61, 42, 28, 2, 160, 0, 7, 4, 167, 0, 18, 42, 28, 4, 182, 0, 42, 4]
abbrev dktX4_isLine_0 : List UInt8 := dkwX4_isLine_0 ++ dktX4_isLine_1
theorem dksX4_isLine_0 : cX4_isLine.data.toList.drop 0 = dktX4_isLine_0 := by decide +kernel
theorem dksX4_isLine_1 : cX4_isLine.data.toList.drop 23 = dktX4_isLine_1 := dk_seg dksX4_isLine_0 23 rfl rfl
theorem dX4_isLine_0 : decode cX4_isLine 0 = .ok (.aload_n 0, 1) := dk_42 (dk_at dksX4_isLine_0 0 rfl rfl)
theorem dX4_isLine_1 : decode cX4_isLine 1 = .ok (.iload_n 1, 1) := dk_27 (dk_at dksX4_isLine_0 1 rfl rfl)
theorem dX4_isLine_2 : decode cX4_isLine 2 = .ok (.invokevirtual 138, 3) := dk_182 0 138 (dk_at dksX4_isLine_0 2 rfl rfl)
theorem dX4_isLine_5 : decode cX4_isLine 5 = .ok (.istore_n 2, 1) := dk_61 (dk_at dksX4_isLine_0 5 rfl rfl)
theorem dX4_isLine_6 : decode cX4_isLine 6 = .ok (.aload_n 0, 1) := dk_42 (dk_at dksX4_isLine_0 6 rfl rfl)
theorem dX4_isLine_7 : decode cX4_isLine 7 = .ok (.iload_n 2, 1) := dk_28 (dk_at dksX4_isLine_0 7 rfl rfl)
theorem dX4_isLine_8 : decode cX4_isLine 8 = .ok (.iconst (-1), 1) := dk_2 (dk_at dksX4_isLine_0 8 rfl rfl)
theorem dX4_isLine_9 : decode cX4_isLine 9 = .ok (.if_icmp .ne 7, 3) := dk_160 0 7 (dk_at dksX4_isLine_0 9 rfl rfl)
theorem dX4_isLine_12 : decode cX4_isLine 12 = .ok (.iconst 1, 1) := dk_4 (dk_at dksX4_isLine_0 12 rfl rfl)
theorem dX4_isLine_13 : decode cX4_isLine 13 = .ok (.goto 18, 3) := dk_167 0 18 (dk_at dksX4_isLine_0 13 rfl rfl)
theorem dX4_isLine_16 : decode cX4_isLine 16 = .ok (.aload_n 0, 1) := dk_42 (dk_at dksX4_isLine_0 16 rfl rfl)
theorem dX4_isLine_17 : decode cX4_isLine 17 = .ok (.iload_n 2, 1) := dk_28 (dk_at dksX4_isLine_0 17 rfl rfl)
theorem dX4_isLine_18 : decode cX4_isLine 18 = .ok (.iconst 1, 1) := dk_4 (dk_at dksX4_isLine_0 18 rfl rfl)
theorem dX4_isLine_19 : decode cX4_isLine 19 = .ok (.invokevirtual 42, 3) := dk_182 0 42 (dk_at dksX4_isLine_0 19 rfl rfl)
theorem dX4_isLine_22 : decode cX4_isLine 22 = .ok (.iconst 1, 1) := dk_4 (dk_at dksX4_isLine_0 22 rfl rfl)
theorem dX4_isLine_23 : decode cX4_isLine 23 = .ok (.if_icmp .ne 7, 3) := dk_160 0 7 (dk_at dksX4_isLine_1 0 rfl rfl)
theorem dX4_isLine_26 : decode cX4_isLine 26 = .ok (.iconst 2, 1) := dk_5 (dk_at dksX4_isLine_1 3 rfl rfl)
theorem dX4_isLine_27 : decode cX4_isLine 27 = .ok (.goto 4, 3) := dk_167 0 4 (dk_at dksX4_isLine_1 4 rfl rfl)
theorem dX4_isLine_30 : decode cX4_isLine 30 = .ok (.iconst 0, 1) := dk_3 (dk_at dksX4_isLine_1 7 rfl rfl)
theorem dX4_isLine_31 : decode cX4_isLine 31 = .ok (.putfield 35, 3) := dk_181 0 35 (dk_at dksX4_isLine_1 8 rfl rfl)
theorem dX4_isLine_34 : decode cX4_isLine 34 = .ok (.aload_n 0, 1) := dk_42 (dk_at dksX4_isLine_1 11 rfl rfl)
theorem dX4_isLine_35 : decode cX4_isLine 35 = .ok (.getfield 35, 3) := dk_180 0 35 (dk_at dksX4_isLine_1 12 rfl rfl)
theorem dX4_isLine_38 : decode cX4_isLine 38 = .ok (.ifCond .ne 7, 3) := dk_154 0 7 (dk_at dksX4_isLine_1 15 rfl rfl)
theorem dX4_isLine_41 : decode cX4_isLine 41 = .ok (.iconst 1, 1) := dk_4 (dk_at dksX4_isLine_1 18 rfl rfl)
theorem dX4_isLine_42 : decode cX4_isLine 42 = .ok (.goto 4, 3) := dk_167 0 4 (dk_at dksX4_isLine_1 19 rfl rfl)
theorem dX4_isLine_45 : decode cX4_isLine 45 = .ok (.iconst 0, 1) := dk_3 (dk_at dksX4_isLine_1 22 rfl rfl)
theorem dX4_isLine_46 : decode cX4_isLine 46 = .ok (.ireturn, 1) := dk_172 (dk_at dksX4_isLine_1 23 rfl rfl)
abbrev cX4_slot : ByteArray := prog_18_method_7_code
def yX4_slot : MethodName := ⟨RX4, "slot", "(I)I"⟩
def dkwX4_slot_1 : List UInt8 := [132, 2, 1, 167, 255, 233, 2, 172]
abbrev dktX4_slot_1 : List UInt8 := dkwX4_slot_1 ++ []
def dkwX4_slot_0 : List UInt8 := [3, 61, 28, 42, 180, 0, 39, 162, 0, 21, 42, 28, 3, 182, 0, 42, 27, 160, 0, 5, 28, 172]
abbrev dktX4_slot_0 : List UInt8 := dkwX4_slot_0 ++ dktX4_slot_1
theorem dksX4_slot_0 : cX4_slot.data.toList.drop 0 = dktX4_slot_0 := by decide +kernel
theorem dksX4_slot_1 : cX4_slot.data.toList.drop 22 = dktX4_slot_1 := dk_seg dksX4_slot_0 22 rfl rfl
theorem dX4_slot_0 : decode cX4_slot 0 = .ok (.iconst 0, 1) := dk_3 (dk_at dksX4_slot_0 0 rfl rfl)
theorem dX4_slot_1 : decode cX4_slot 1 = .ok (.istore_n 2, 1) := dk_61 (dk_at dksX4_slot_0 1 rfl rfl)
theorem dX4_slot_2 : decode cX4_slot 2 = .ok (.iload_n 2, 1) := dk_28 (dk_at dksX4_slot_0 2 rfl rfl)
theorem dX4_slot_3 : decode cX4_slot 3 = .ok (.aload_n 0, 1) := dk_42 (dk_at dksX4_slot_0 3 rfl rfl)
theorem dX4_slot_4 : decode cX4_slot 4 = .ok (.getfield 39, 3) := dk_180 0 39 (dk_at dksX4_slot_0 4 rfl rfl)
theorem dX4_slot_7 : decode cX4_slot 7 = .ok (.if_icmp .ge 21, 3) := dk_162 0 21 (dk_at dksX4_slot_0 7 rfl rfl)
theorem dX4_slot_10 : decode cX4_slot 10 = .ok (.aload_n 0, 1) := dk_42 (dk_at dksX4_slot_0 10 rfl rfl)
theorem dX4_slot_11 : decode cX4_slot 11 = .ok (.iload_n 2, 1) := dk_28 (dk_at dksX4_slot_0 11 rfl rfl)
theorem dX4_slot_12 : decode cX4_slot 12 = .ok (.iconst 0, 1) := dk_3 (dk_at dksX4_slot_0 12 rfl rfl)
theorem dX4_slot_13 : decode cX4_slot 13 = .ok (.invokevirtual 42, 3) := dk_182 0 42 (dk_at dksX4_slot_0 13 rfl rfl)
theorem dX4_slot_16 : decode cX4_slot 16 = .ok (.iload_n 1, 1) := dk_27 (dk_at dksX4_slot_0 16 rfl rfl)
theorem dX4_slot_17 : decode cX4_slot 17 = .ok (.if_icmp .ne 5, 3) := dk_160 0 5 (dk_at dksX4_slot_0 17 rfl rfl)
theorem dX4_slot_20 : decode cX4_slot 20 = .ok (.iload_n 2, 1) := dk_28 (dk_at dksX4_slot_0 20 rfl rfl)
theorem dX4_slot_21 : decode cX4_slot 21 = .ok (.ireturn, 1) := dk_172 (dk_at dksX4_slot_0 21 rfl rfl)
theorem dX4_slot_22 : decode cX4_slot 22 = .ok (.iinc 2 1, 3) := dk_132 2 1 (dk_at dksX4_slot_1 0 rfl rfl)
theorem dX4_slot_25 : decode cX4_slot 25 = .ok (.goto (-23), 3) := dk_167 255 233 (dk_at dksX4_slot_1 3 rfl rfl)
theorem dX4_slot_28 : decode cX4_slot 28 = .ok (.iconst (-1), 1) := dk_2 (dk_at dksX4_slot_1 6 rfl rfl)
theorem dX4_slot_29 : decode cX4_slot 29 = .ok (.ireturn, 1) := dk_172 (dk_at dksX4_slot_1 7 rfl rfl)
abbrev cX4_movePoint : ByteArray := prog_18_method_34_code
def yX4_movePoint : MethodName := ⟨RX4, "movePoint", "(IIII)I"⟩
def dkwX4_movePoint_4 : List UInt8 := [96, 172]
abbrev dktX4_movePoint_4 : List UInt8 := dkwX4_movePoint_4 ++ []
def dkwX4_movePoint_3 : List UInt8 := [29, 79, 42, 180, 0, 16, 16, 9, 21, 5, 104, 28, 96, 21, 4, 79, 21, 6, 42, 21, 5, 182, 0, 135]
abbrev dktX4_movePoint_3 : List UInt8 := dkwX4_movePoint_3 ++ dktX4_movePoint_4
def dkwX4_movePoint_2 : List UInt8 := [182, 0, 138, 54, 5, 42, 21, 5, 182, 0, 135, 54, 6, 42, 180, 0, 13, 16, 9, 21, 5, 104, 28, 96]
abbrev dktX4_movePoint_2 : List UInt8 := dkwX4_movePoint_2 ++ dktX4_movePoint_3
def dkwX4_movePoint_1 : List UInt8 := [153, 0, 7, 3, 167, 0, 4, 7, 181, 0, 35, 42, 180, 0, 35, 158, 0, 5, 2, 172, 42, 27]
abbrev dktX4_movePoint_1 : List UInt8 := dkwX4_movePoint_1 ++ dktX4_movePoint_2
def dkwX4_movePoint_0 : List UInt8 := [42, 27, 28, 182, 0, 144, 153, 0, 27, 42, 29, 184, 0, 126, 153, 0, 15, 21, 4, 184, 0, 126]
abbrev dktX4_movePoint_0 : List UInt8 := dkwX4_movePoint_0 ++ dktX4_movePoint_1
theorem dksX4_movePoint_0 : cX4_movePoint.data.toList.drop 0 = dktX4_movePoint_0 := by decide +kernel
theorem dksX4_movePoint_1 : cX4_movePoint.data.toList.drop 22 = dktX4_movePoint_1 := dk_seg dksX4_movePoint_0 22 rfl rfl
theorem dksX4_movePoint_2 : cX4_movePoint.data.toList.drop 44 = dktX4_movePoint_2 := dk_seg dksX4_movePoint_1 22 rfl rfl
theorem dksX4_movePoint_3 : cX4_movePoint.data.toList.drop 68 = dktX4_movePoint_3 := dk_seg dksX4_movePoint_2 24 rfl rfl
theorem dksX4_movePoint_4 : cX4_movePoint.data.toList.drop 92 = dktX4_movePoint_4 := dk_seg dksX4_movePoint_3 24 rfl rfl
theorem dX4_movePoint_0 : decode cX4_movePoint 0 = .ok (.aload_n 0, 1) := dk_42 (dk_at dksX4_movePoint_0 0 rfl rfl)
theorem dX4_movePoint_1 : decode cX4_movePoint 1 = .ok (.iload_n 1, 1) := dk_27 (dk_at dksX4_movePoint_0 1 rfl rfl)
theorem dX4_movePoint_2 : decode cX4_movePoint 2 = .ok (.iload_n 2, 1) := dk_28 (dk_at dksX4_movePoint_0 2 rfl rfl)
theorem dX4_movePoint_3 : decode cX4_movePoint 3 = .ok (.invokevirtual 144, 3) := dk_182 0 144 (dk_at dksX4_movePoint_0 3 rfl rfl)
theorem dX4_movePoint_6 : decode cX4_movePoint 6 = .ok (.ifCond .eq 27, 3) := dk_153 0 27 (dk_at dksX4_movePoint_0 6 rfl rfl)
theorem dX4_movePoint_9 : decode cX4_movePoint 9 = .ok (.aload_n 0, 1) := dk_42 (dk_at dksX4_movePoint_0 9 rfl rfl)
theorem dX4_movePoint_10 : decode cX4_movePoint 10 = .ok (.iload_n 3, 1) := dk_29 (dk_at dksX4_movePoint_0 10 rfl rfl)
theorem dX4_movePoint_11 : decode cX4_movePoint 11 = .ok (.invokestatic 126, 3) := dk_184 0 126 (dk_at dksX4_movePoint_0 11 rfl rfl)
theorem dX4_movePoint_14 : decode cX4_movePoint 14 = .ok (.ifCond .eq 15, 3) := dk_153 0 15 (dk_at dksX4_movePoint_0 14 rfl rfl)
theorem dX4_movePoint_17 : decode cX4_movePoint 17 = .ok (.iload 4, 2) := dk_21 4 (dk_at dksX4_movePoint_0 17 rfl rfl)
theorem dX4_movePoint_19 : decode cX4_movePoint 19 = .ok (.invokestatic 126, 3) := dk_184 0 126 (dk_at dksX4_movePoint_0 19 rfl rfl)
theorem dX4_movePoint_22 : decode cX4_movePoint 22 = .ok (.ifCond .eq 7, 3) := dk_153 0 7 (dk_at dksX4_movePoint_1 0 rfl rfl)
theorem dX4_movePoint_25 : decode cX4_movePoint 25 = .ok (.iconst 0, 1) := dk_3 (dk_at dksX4_movePoint_1 3 rfl rfl)
theorem dX4_movePoint_26 : decode cX4_movePoint 26 = .ok (.goto 4, 3) := dk_167 0 4 (dk_at dksX4_movePoint_1 4 rfl rfl)
theorem dX4_movePoint_29 : decode cX4_movePoint 29 = .ok (.iconst 4, 1) := dk_7 (dk_at dksX4_movePoint_1 7 rfl rfl)
theorem dX4_movePoint_30 : decode cX4_movePoint 30 = .ok (.putfield 35, 3) := dk_181 0 35 (dk_at dksX4_movePoint_1 8 rfl rfl)
theorem dX4_movePoint_33 : decode cX4_movePoint 33 = .ok (.aload_n 0, 1) := dk_42 (dk_at dksX4_movePoint_1 11 rfl rfl)
theorem dX4_movePoint_34 : decode cX4_movePoint 34 = .ok (.getfield 35, 3) := dk_180 0 35 (dk_at dksX4_movePoint_1 12 rfl rfl)
theorem dX4_movePoint_37 : decode cX4_movePoint 37 = .ok (.ifCond .le 5, 3) := dk_158 0 5 (dk_at dksX4_movePoint_1 15 rfl rfl)
theorem dX4_movePoint_40 : decode cX4_movePoint 40 = .ok (.iconst (-1), 1) := dk_2 (dk_at dksX4_movePoint_1 18 rfl rfl)
theorem dX4_movePoint_41 : decode cX4_movePoint 41 = .ok (.ireturn, 1) := dk_172 (dk_at dksX4_movePoint_1 19 rfl rfl)
theorem dX4_movePoint_42 : decode cX4_movePoint 42 = .ok (.aload_n 0, 1) := dk_42 (dk_at dksX4_movePoint_1 20 rfl rfl)
theorem dX4_movePoint_43 : decode cX4_movePoint 43 = .ok (.iload_n 1, 1) := dk_27 (dk_at dksX4_movePoint_1 21 rfl rfl)
theorem dX4_movePoint_44 : decode cX4_movePoint 44 = .ok (.invokevirtual 138, 3) := dk_182 0 138 (dk_at dksX4_movePoint_2 0 rfl rfl)
theorem dX4_movePoint_47 : decode cX4_movePoint 47 = .ok (.istore 5, 2) := dk_54 5 (dk_at dksX4_movePoint_2 3 rfl rfl)
theorem dX4_movePoint_49 : decode cX4_movePoint 49 = .ok (.aload_n 0, 1) := dk_42 (dk_at dksX4_movePoint_2 5 rfl rfl)
theorem dX4_movePoint_50 : decode cX4_movePoint 50 = .ok (.iload 5, 2) := dk_21 5 (dk_at dksX4_movePoint_2 6 rfl rfl)
theorem dX4_movePoint_52 : decode cX4_movePoint 52 = .ok (.invokevirtual 135, 3) := dk_182 0 135 (dk_at dksX4_movePoint_2 8 rfl rfl)
theorem dX4_movePoint_55 : decode cX4_movePoint 55 = .ok (.istore 6, 2) := dk_54 6 (dk_at dksX4_movePoint_2 11 rfl rfl)
theorem dX4_movePoint_57 : decode cX4_movePoint 57 = .ok (.aload_n 0, 1) := dk_42 (dk_at dksX4_movePoint_2 13 rfl rfl)
theorem dX4_movePoint_58 : decode cX4_movePoint 58 = .ok (.getfield 13, 3) := dk_180 0 13 (dk_at dksX4_movePoint_2 14 rfl rfl)
theorem dX4_movePoint_61 : decode cX4_movePoint 61 = .ok (.bipush 9, 2) := dk_16 9 (dk_at dksX4_movePoint_2 17 rfl rfl)
theorem dX4_movePoint_63 : decode cX4_movePoint 63 = .ok (.iload 5, 2) := dk_21 5 (dk_at dksX4_movePoint_2 19 rfl rfl)
theorem dX4_movePoint_65 : decode cX4_movePoint 65 = .ok (.imul, 1) := dk_104 (dk_at dksX4_movePoint_2 21 rfl rfl)
theorem dX4_movePoint_66 : decode cX4_movePoint 66 = .ok (.iload_n 2, 1) := dk_28 (dk_at dksX4_movePoint_2 22 rfl rfl)
theorem dX4_movePoint_67 : decode cX4_movePoint 67 = .ok (.iadd, 1) := dk_96 (dk_at dksX4_movePoint_2 23 rfl rfl)
theorem dX4_movePoint_68 : decode cX4_movePoint 68 = .ok (.iload_n 3, 1) := dk_29 (dk_at dksX4_movePoint_3 0 rfl rfl)
theorem dX4_movePoint_69 : decode cX4_movePoint 69 = .ok (.iastore, 1) := dk_79 (dk_at dksX4_movePoint_3 1 rfl rfl)
theorem dX4_movePoint_70 : decode cX4_movePoint 70 = .ok (.aload_n 0, 1) := dk_42 (dk_at dksX4_movePoint_3 2 rfl rfl)
theorem dX4_movePoint_71 : decode cX4_movePoint 71 = .ok (.getfield 16, 3) := dk_180 0 16 (dk_at dksX4_movePoint_3 3 rfl rfl)
theorem dX4_movePoint_74 : decode cX4_movePoint 74 = .ok (.bipush 9, 2) := dk_16 9 (dk_at dksX4_movePoint_3 6 rfl rfl)
theorem dX4_movePoint_76 : decode cX4_movePoint 76 = .ok (.iload 5, 2) := dk_21 5 (dk_at dksX4_movePoint_3 8 rfl rfl)
theorem dX4_movePoint_78 : decode cX4_movePoint 78 = .ok (.imul, 1) := dk_104 (dk_at dksX4_movePoint_3 10 rfl rfl)
theorem dX4_movePoint_79 : decode cX4_movePoint 79 = .ok (.iload_n 2, 1) := dk_28 (dk_at dksX4_movePoint_3 11 rfl rfl)
theorem dX4_movePoint_80 : decode cX4_movePoint 80 = .ok (.iadd, 1) := dk_96 (dk_at dksX4_movePoint_3 12 rfl rfl)
theorem dX4_movePoint_81 : decode cX4_movePoint 81 = .ok (.iload 4, 2) := dk_21 4 (dk_at dksX4_movePoint_3 13 rfl rfl)
theorem dX4_movePoint_83 : decode cX4_movePoint 83 = .ok (.iastore, 1) := dk_79 (dk_at dksX4_movePoint_3 15 rfl rfl)
theorem dX4_movePoint_84 : decode cX4_movePoint 84 = .ok (.iload 6, 2) := dk_21 6 (dk_at dksX4_movePoint_3 16 rfl rfl)
theorem dX4_movePoint_86 : decode cX4_movePoint 86 = .ok (.aload_n 0, 1) := dk_42 (dk_at dksX4_movePoint_3 18 rfl rfl)
theorem dX4_movePoint_87 : decode cX4_movePoint 87 = .ok (.iload 5, 2) := dk_21 5 (dk_at dksX4_movePoint_3 19 rfl rfl)
theorem dX4_movePoint_89 : decode cX4_movePoint 89 = .ok (.invokevirtual 135, 3) := dk_182 0 135 (dk_at dksX4_movePoint_3 21 rfl rfl)
theorem dX4_movePoint_92 : decode cX4_movePoint 92 = .ok (.iadd, 1) := dk_96 (dk_at dksX4_movePoint_4 0 rfl rfl)
theorem dX4_movePoint_93 : decode cX4_movePoint 93 = .ok (.ireturn, 1) := dk_172 (dk_at dksX4_movePoint_4 1 rfl rfl)
abbrev cX4_isPoint : ByteArray := prog_18_method_33_code
def yX4_isPoint : MethodName := ⟨RX4, "isPoint", "(II)Z"⟩
def dkwX4_isPoint_2 : List UInt8 := [167, 0, 4, 3, 172]
abbrev dktX4_isPoint_2 : List UInt8 := dkwX4_isPoint_2 ++ []
def dkwX4_isPoint_1 : List UInt8 := [133, 184, 0, 48, 153, 0, 7, 3, 167, 0, 4, 6, 181, 0, 35, 42, 180, 0, 35, 154, 0, 7, 4]
abbrev dktX4_isPoint_1 : List UInt8 := dkwX4_isPoint_1 ++ dktX4_isPoint_2
def dkwX4_isPoint_0 : List UInt8 := [42, 27, 182, 0, 141, 153, 0, 34, 42, 28, 133, 9, 42, 42, 27, 182, 0, 138, 5, 182, 0, 42, 4, 100]
abbrev dktX4_isPoint_0 : List UInt8 := dkwX4_isPoint_0 ++ dktX4_isPoint_1
theorem dksX4_isPoint_0 : cX4_isPoint.data.toList.drop 0 = dktX4_isPoint_0 := by decide +kernel
theorem dksX4_isPoint_1 : cX4_isPoint.data.toList.drop 24 = dktX4_isPoint_1 := dk_seg dksX4_isPoint_0 24 rfl rfl
theorem dksX4_isPoint_2 : cX4_isPoint.data.toList.drop 47 = dktX4_isPoint_2 := dk_seg dksX4_isPoint_1 23 rfl rfl
theorem dX4_isPoint_0 : decode cX4_isPoint 0 = .ok (.aload_n 0, 1) := dk_42 (dk_at dksX4_isPoint_0 0 rfl rfl)
theorem dX4_isPoint_1 : decode cX4_isPoint 1 = .ok (.iload_n 1, 1) := dk_27 (dk_at dksX4_isPoint_0 1 rfl rfl)
theorem dX4_isPoint_2 : decode cX4_isPoint 2 = .ok (.invokevirtual 141, 3) := dk_182 0 141 (dk_at dksX4_isPoint_0 2 rfl rfl)
theorem dX4_isPoint_5 : decode cX4_isPoint 5 = .ok (.ifCond .eq 34, 3) := dk_153 0 34 (dk_at dksX4_isPoint_0 5 rfl rfl)
theorem dX4_isPoint_8 : decode cX4_isPoint 8 = .ok (.aload_n 0, 1) := dk_42 (dk_at dksX4_isPoint_0 8 rfl rfl)
theorem dX4_isPoint_9 : decode cX4_isPoint 9 = .ok (.iload_n 2, 1) := dk_28 (dk_at dksX4_isPoint_0 9 rfl rfl)
theorem dX4_isPoint_10 : decode cX4_isPoint 10 = .ok (.i2l, 1) := dk_133 (dk_at dksX4_isPoint_0 10 rfl rfl)
theorem dX4_isPoint_11 : decode cX4_isPoint 11 = .ok (.lconst 0, 1) := dk_9 (dk_at dksX4_isPoint_0 11 rfl rfl)
theorem dX4_isPoint_12 : decode cX4_isPoint 12 = .ok (.aload_n 0, 1) := dk_42 (dk_at dksX4_isPoint_0 12 rfl rfl)
theorem dX4_isPoint_13 : decode cX4_isPoint 13 = .ok (.aload_n 0, 1) := dk_42 (dk_at dksX4_isPoint_0 13 rfl rfl)
theorem dX4_isPoint_14 : decode cX4_isPoint 14 = .ok (.iload_n 1, 1) := dk_27 (dk_at dksX4_isPoint_0 14 rfl rfl)
theorem dX4_isPoint_15 : decode cX4_isPoint 15 = .ok (.invokevirtual 138, 3) := dk_182 0 138 (dk_at dksX4_isPoint_0 15 rfl rfl)
theorem dX4_isPoint_18 : decode cX4_isPoint 18 = .ok (.iconst 2, 1) := dk_5 (dk_at dksX4_isPoint_0 18 rfl rfl)
theorem dX4_isPoint_19 : decode cX4_isPoint 19 = .ok (.invokevirtual 42, 3) := dk_182 0 42 (dk_at dksX4_isPoint_0 19 rfl rfl)
theorem dX4_isPoint_22 : decode cX4_isPoint 22 = .ok (.iconst 1, 1) := dk_4 (dk_at dksX4_isPoint_0 22 rfl rfl)
theorem dX4_isPoint_23 : decode cX4_isPoint 23 = .ok (.isub, 1) := dk_100 (dk_at dksX4_isPoint_0 23 rfl rfl)
theorem dX4_isPoint_24 : decode cX4_isPoint 24 = .ok (.i2l, 1) := dk_133 (dk_at dksX4_isPoint_1 0 rfl rfl)
theorem dX4_isPoint_25 : decode cX4_isPoint 25 = .ok (.invokestatic 48, 3) := dk_184 0 48 (dk_at dksX4_isPoint_1 1 rfl rfl)
theorem dX4_isPoint_28 : decode cX4_isPoint 28 = .ok (.ifCond .eq 7, 3) := dk_153 0 7 (dk_at dksX4_isPoint_1 4 rfl rfl)
theorem dX4_isPoint_31 : decode cX4_isPoint 31 = .ok (.iconst 0, 1) := dk_3 (dk_at dksX4_isPoint_1 7 rfl rfl)
theorem dX4_isPoint_32 : decode cX4_isPoint 32 = .ok (.goto 4, 3) := dk_167 0 4 (dk_at dksX4_isPoint_1 8 rfl rfl)
theorem dX4_isPoint_35 : decode cX4_isPoint 35 = .ok (.iconst 3, 1) := dk_6 (dk_at dksX4_isPoint_1 11 rfl rfl)
theorem dX4_isPoint_36 : decode cX4_isPoint 36 = .ok (.putfield 35, 3) := dk_181 0 35 (dk_at dksX4_isPoint_1 12 rfl rfl)
theorem dX4_isPoint_39 : decode cX4_isPoint 39 = .ok (.aload_n 0, 1) := dk_42 (dk_at dksX4_isPoint_1 15 rfl rfl)
theorem dX4_isPoint_40 : decode cX4_isPoint 40 = .ok (.getfield 35, 3) := dk_180 0 35 (dk_at dksX4_isPoint_1 16 rfl rfl)
theorem dX4_isPoint_43 : decode cX4_isPoint 43 = .ok (.ifCond .ne 7, 3) := dk_154 0 7 (dk_at dksX4_isPoint_1 19 rfl rfl)
theorem dX4_isPoint_46 : decode cX4_isPoint 46 = .ok (.iconst 1, 1) := dk_4 (dk_at dksX4_isPoint_1 22 rfl rfl)
theorem dX4_isPoint_47 : decode cX4_isPoint 47 = .ok (.goto 4, 3) := dk_167 0 4 (dk_at dksX4_isPoint_2 0 rfl rfl)
theorem dX4_isPoint_50 : decode cX4_isPoint 50 = .ok (.iconst 0, 1) := dk_3 (dk_at dksX4_isPoint_2 3 rfl rfl)
theorem dX4_isPoint_51 : decode cX4_isPoint 51 = .ok (.ireturn, 1) := dk_172 (dk_at dksX4_isPoint_2 4 rfl rfl)
abbrev cX4_dropPoint : ByteArray := prog_18_method_35_code
def yX4_dropPoint : MethodName := ⟨RX4, "dropPoint", "(II)I"⟩
def dkwX4_dropPoint_5 : List UInt8 := [167, 255, 209, 42, 180, 0, 9, 16, 7, 29, 104, 5, 96, 21, 4, 79, 21, 4, 172]
abbrev dktX4_dropPoint_5 : List UInt8 := dkwX4_dropPoint_5 ++ []
def dkwX4_dropPoint_4 : List UInt8 := [4, 96, 46, 79, 42, 180, 0, 16, 21, 5, 42, 180, 0, 16, 21, 5, 4, 96, 46, 79, 132, 5, 1]
abbrev dktX4_dropPoint_4 : List UInt8 := dkwX4_dropPoint_4 ++ dktX4_dropPoint_5
def dkwX4_dropPoint_3 : List UInt8 := [21, 5, 16, 9, 29, 104, 21, 4, 96, 162, 0, 41, 42, 180, 0, 13, 21, 5, 42, 180, 0, 13, 21, 5]
abbrev dktX4_dropPoint_3 : List UInt8 := dkwX4_dropPoint_3 ++ dktX4_dropPoint_4
def dkwX4_dropPoint_2 : List UInt8 := [29, 182, 0, 135, 87, 42, 29, 5, 182, 0, 42, 4, 100, 54, 4, 16, 9, 29, 104, 28, 96, 54, 5]
abbrev dktX4_dropPoint_2 : List UInt8 := dkwX4_dropPoint_2 ++ dktX4_dropPoint_3
def dkwX4_dropPoint_1 : List UInt8 := [3, 167, 0, 4, 7, 181, 0, 35, 42, 180, 0, 35, 158, 0, 5, 2, 172, 42, 27, 182, 0, 138, 62, 42]
abbrev dktX4_dropPoint_1 : List UInt8 := dkwX4_dropPoint_1 ++ dktX4_dropPoint_2
def dkwX4_dropPoint_0 : List UInt8 := [42, 27, 28, 182, 0, 144, 153, 0, 26, 42, 42, 42, 27, 182, 0, 138, 5, 182, 0, 42, 5, 164, 0, 7]
abbrev dktX4_dropPoint_0 : List UInt8 := dkwX4_dropPoint_0 ++ dktX4_dropPoint_1
theorem dksX4_dropPoint_0 : cX4_dropPoint.data.toList.drop 0 = dktX4_dropPoint_0 := by decide +kernel
theorem dksX4_dropPoint_1 : cX4_dropPoint.data.toList.drop 24 = dktX4_dropPoint_1 := dk_seg dksX4_dropPoint_0 24 rfl rfl
theorem dksX4_dropPoint_2 : cX4_dropPoint.data.toList.drop 48 = dktX4_dropPoint_2 := dk_seg dksX4_dropPoint_1 24 rfl rfl
theorem dksX4_dropPoint_3 : cX4_dropPoint.data.toList.drop 71 = dktX4_dropPoint_3 := dk_seg dksX4_dropPoint_2 23 rfl rfl
theorem dksX4_dropPoint_4 : cX4_dropPoint.data.toList.drop 95 = dktX4_dropPoint_4 := dk_seg dksX4_dropPoint_3 24 rfl rfl
theorem dksX4_dropPoint_5 : cX4_dropPoint.data.toList.drop 118 = dktX4_dropPoint_5 := dk_seg dksX4_dropPoint_4 23 rfl rfl
theorem dX4_dropPoint_0 : decode cX4_dropPoint 0 = .ok (.aload_n 0, 1) := dk_42 (dk_at dksX4_dropPoint_0 0 rfl rfl)
theorem dX4_dropPoint_1 : decode cX4_dropPoint 1 = .ok (.iload_n 1, 1) := dk_27 (dk_at dksX4_dropPoint_0 1 rfl rfl)
theorem dX4_dropPoint_2 : decode cX4_dropPoint 2 = .ok (.iload_n 2, 1) := dk_28 (dk_at dksX4_dropPoint_0 2 rfl rfl)
theorem dX4_dropPoint_3 : decode cX4_dropPoint 3 = .ok (.invokevirtual 144, 3) := dk_182 0 144 (dk_at dksX4_dropPoint_0 3 rfl rfl)
theorem dX4_dropPoint_6 : decode cX4_dropPoint 6 = .ok (.ifCond .eq 26, 3) := dk_153 0 26 (dk_at dksX4_dropPoint_0 6 rfl rfl)
theorem dX4_dropPoint_9 : decode cX4_dropPoint 9 = .ok (.aload_n 0, 1) := dk_42 (dk_at dksX4_dropPoint_0 9 rfl rfl)
theorem dX4_dropPoint_10 : decode cX4_dropPoint 10 = .ok (.aload_n 0, 1) := dk_42 (dk_at dksX4_dropPoint_0 10 rfl rfl)
theorem dX4_dropPoint_11 : decode cX4_dropPoint 11 = .ok (.aload_n 0, 1) := dk_42 (dk_at dksX4_dropPoint_0 11 rfl rfl)
theorem dX4_dropPoint_12 : decode cX4_dropPoint 12 = .ok (.iload_n 1, 1) := dk_27 (dk_at dksX4_dropPoint_0 12 rfl rfl)
theorem dX4_dropPoint_13 : decode cX4_dropPoint 13 = .ok (.invokevirtual 138, 3) := dk_182 0 138 (dk_at dksX4_dropPoint_0 13 rfl rfl)
theorem dX4_dropPoint_16 : decode cX4_dropPoint 16 = .ok (.iconst 2, 1) := dk_5 (dk_at dksX4_dropPoint_0 16 rfl rfl)
theorem dX4_dropPoint_17 : decode cX4_dropPoint 17 = .ok (.invokevirtual 42, 3) := dk_182 0 42 (dk_at dksX4_dropPoint_0 17 rfl rfl)
theorem dX4_dropPoint_20 : decode cX4_dropPoint 20 = .ok (.iconst 2, 1) := dk_5 (dk_at dksX4_dropPoint_0 20 rfl rfl)
theorem dX4_dropPoint_21 : decode cX4_dropPoint 21 = .ok (.if_icmp .le 7, 3) := dk_164 0 7 (dk_at dksX4_dropPoint_0 21 rfl rfl)
theorem dX4_dropPoint_24 : decode cX4_dropPoint 24 = .ok (.iconst 0, 1) := dk_3 (dk_at dksX4_dropPoint_1 0 rfl rfl)
theorem dX4_dropPoint_25 : decode cX4_dropPoint 25 = .ok (.goto 4, 3) := dk_167 0 4 (dk_at dksX4_dropPoint_1 1 rfl rfl)
theorem dX4_dropPoint_28 : decode cX4_dropPoint 28 = .ok (.iconst 4, 1) := dk_7 (dk_at dksX4_dropPoint_1 4 rfl rfl)
theorem dX4_dropPoint_29 : decode cX4_dropPoint 29 = .ok (.putfield 35, 3) := dk_181 0 35 (dk_at dksX4_dropPoint_1 5 rfl rfl)
theorem dX4_dropPoint_32 : decode cX4_dropPoint 32 = .ok (.aload_n 0, 1) := dk_42 (dk_at dksX4_dropPoint_1 8 rfl rfl)
theorem dX4_dropPoint_33 : decode cX4_dropPoint 33 = .ok (.getfield 35, 3) := dk_180 0 35 (dk_at dksX4_dropPoint_1 9 rfl rfl)
theorem dX4_dropPoint_36 : decode cX4_dropPoint 36 = .ok (.ifCond .le 5, 3) := dk_158 0 5 (dk_at dksX4_dropPoint_1 12 rfl rfl)
theorem dX4_dropPoint_39 : decode cX4_dropPoint 39 = .ok (.iconst (-1), 1) := dk_2 (dk_at dksX4_dropPoint_1 15 rfl rfl)
theorem dX4_dropPoint_40 : decode cX4_dropPoint 40 = .ok (.ireturn, 1) := dk_172 (dk_at dksX4_dropPoint_1 16 rfl rfl)
theorem dX4_dropPoint_41 : decode cX4_dropPoint 41 = .ok (.aload_n 0, 1) := dk_42 (dk_at dksX4_dropPoint_1 17 rfl rfl)
theorem dX4_dropPoint_42 : decode cX4_dropPoint 42 = .ok (.iload_n 1, 1) := dk_27 (dk_at dksX4_dropPoint_1 18 rfl rfl)
theorem dX4_dropPoint_43 : decode cX4_dropPoint 43 = .ok (.invokevirtual 138, 3) := dk_182 0 138 (dk_at dksX4_dropPoint_1 19 rfl rfl)
theorem dX4_dropPoint_46 : decode cX4_dropPoint 46 = .ok (.istore_n 3, 1) := dk_62 (dk_at dksX4_dropPoint_1 22 rfl rfl)
theorem dX4_dropPoint_47 : decode cX4_dropPoint 47 = .ok (.aload_n 0, 1) := dk_42 (dk_at dksX4_dropPoint_1 23 rfl rfl)
theorem dX4_dropPoint_48 : decode cX4_dropPoint 48 = .ok (.iload_n 3, 1) := dk_29 (dk_at dksX4_dropPoint_2 0 rfl rfl)
theorem dX4_dropPoint_49 : decode cX4_dropPoint 49 = .ok (.invokevirtual 135, 3) := dk_182 0 135 (dk_at dksX4_dropPoint_2 1 rfl rfl)
theorem dX4_dropPoint_52 : decode cX4_dropPoint 52 = .ok (.pop, 1) := dk_87 (dk_at dksX4_dropPoint_2 4 rfl rfl)
theorem dX4_dropPoint_53 : decode cX4_dropPoint 53 = .ok (.aload_n 0, 1) := dk_42 (dk_at dksX4_dropPoint_2 5 rfl rfl)
theorem dX4_dropPoint_54 : decode cX4_dropPoint 54 = .ok (.iload_n 3, 1) := dk_29 (dk_at dksX4_dropPoint_2 6 rfl rfl)
theorem dX4_dropPoint_55 : decode cX4_dropPoint 55 = .ok (.iconst 2, 1) := dk_5 (dk_at dksX4_dropPoint_2 7 rfl rfl)
theorem dX4_dropPoint_56 : decode cX4_dropPoint 56 = .ok (.invokevirtual 42, 3) := dk_182 0 42 (dk_at dksX4_dropPoint_2 8 rfl rfl)
theorem dX4_dropPoint_59 : decode cX4_dropPoint 59 = .ok (.iconst 1, 1) := dk_4 (dk_at dksX4_dropPoint_2 11 rfl rfl)
theorem dX4_dropPoint_60 : decode cX4_dropPoint 60 = .ok (.isub, 1) := dk_100 (dk_at dksX4_dropPoint_2 12 rfl rfl)
theorem dX4_dropPoint_61 : decode cX4_dropPoint 61 = .ok (.istore 4, 2) := dk_54 4 (dk_at dksX4_dropPoint_2 13 rfl rfl)
theorem dX4_dropPoint_63 : decode cX4_dropPoint 63 = .ok (.bipush 9, 2) := dk_16 9 (dk_at dksX4_dropPoint_2 15 rfl rfl)
theorem dX4_dropPoint_65 : decode cX4_dropPoint 65 = .ok (.iload_n 3, 1) := dk_29 (dk_at dksX4_dropPoint_2 17 rfl rfl)
theorem dX4_dropPoint_66 : decode cX4_dropPoint 66 = .ok (.imul, 1) := dk_104 (dk_at dksX4_dropPoint_2 18 rfl rfl)
theorem dX4_dropPoint_67 : decode cX4_dropPoint 67 = .ok (.iload_n 2, 1) := dk_28 (dk_at dksX4_dropPoint_2 19 rfl rfl)
theorem dX4_dropPoint_68 : decode cX4_dropPoint 68 = .ok (.iadd, 1) := dk_96 (dk_at dksX4_dropPoint_2 20 rfl rfl)
theorem dX4_dropPoint_69 : decode cX4_dropPoint 69 = .ok (.istore 5, 2) := dk_54 5 (dk_at dksX4_dropPoint_2 21 rfl rfl)
theorem dX4_dropPoint_71 : decode cX4_dropPoint 71 = .ok (.iload 5, 2) := dk_21 5 (dk_at dksX4_dropPoint_3 0 rfl rfl)
theorem dX4_dropPoint_73 : decode cX4_dropPoint 73 = .ok (.bipush 9, 2) := dk_16 9 (dk_at dksX4_dropPoint_3 2 rfl rfl)
theorem dX4_dropPoint_75 : decode cX4_dropPoint 75 = .ok (.iload_n 3, 1) := dk_29 (dk_at dksX4_dropPoint_3 4 rfl rfl)
theorem dX4_dropPoint_76 : decode cX4_dropPoint 76 = .ok (.imul, 1) := dk_104 (dk_at dksX4_dropPoint_3 5 rfl rfl)
theorem dX4_dropPoint_77 : decode cX4_dropPoint 77 = .ok (.iload 4, 2) := dk_21 4 (dk_at dksX4_dropPoint_3 6 rfl rfl)
theorem dX4_dropPoint_79 : decode cX4_dropPoint 79 = .ok (.iadd, 1) := dk_96 (dk_at dksX4_dropPoint_3 8 rfl rfl)
theorem dX4_dropPoint_80 : decode cX4_dropPoint 80 = .ok (.if_icmp .ge 41, 3) := dk_162 0 41 (dk_at dksX4_dropPoint_3 9 rfl rfl)
theorem dX4_dropPoint_83 : decode cX4_dropPoint 83 = .ok (.aload_n 0, 1) := dk_42 (dk_at dksX4_dropPoint_3 12 rfl rfl)
theorem dX4_dropPoint_84 : decode cX4_dropPoint 84 = .ok (.getfield 13, 3) := dk_180 0 13 (dk_at dksX4_dropPoint_3 13 rfl rfl)
theorem dX4_dropPoint_87 : decode cX4_dropPoint 87 = .ok (.iload 5, 2) := dk_21 5 (dk_at dksX4_dropPoint_3 16 rfl rfl)
theorem dX4_dropPoint_89 : decode cX4_dropPoint 89 = .ok (.aload_n 0, 1) := dk_42 (dk_at dksX4_dropPoint_3 18 rfl rfl)
theorem dX4_dropPoint_90 : decode cX4_dropPoint 90 = .ok (.getfield 13, 3) := dk_180 0 13 (dk_at dksX4_dropPoint_3 19 rfl rfl)
theorem dX4_dropPoint_93 : decode cX4_dropPoint 93 = .ok (.iload 5, 2) := dk_21 5 (dk_at dksX4_dropPoint_3 22 rfl rfl)
theorem dX4_dropPoint_95 : decode cX4_dropPoint 95 = .ok (.iconst 1, 1) := dk_4 (dk_at dksX4_dropPoint_4 0 rfl rfl)
theorem dX4_dropPoint_96 : decode cX4_dropPoint 96 = .ok (.iadd, 1) := dk_96 (dk_at dksX4_dropPoint_4 1 rfl rfl)
theorem dX4_dropPoint_97 : decode cX4_dropPoint 97 = .ok (.iaload, 1) := dk_46 (dk_at dksX4_dropPoint_4 2 rfl rfl)
theorem dX4_dropPoint_98 : decode cX4_dropPoint 98 = .ok (.iastore, 1) := dk_79 (dk_at dksX4_dropPoint_4 3 rfl rfl)
theorem dX4_dropPoint_99 : decode cX4_dropPoint 99 = .ok (.aload_n 0, 1) := dk_42 (dk_at dksX4_dropPoint_4 4 rfl rfl)
theorem dX4_dropPoint_100 : decode cX4_dropPoint 100 = .ok (.getfield 16, 3) := dk_180 0 16 (dk_at dksX4_dropPoint_4 5 rfl rfl)
theorem dX4_dropPoint_103 : decode cX4_dropPoint 103 = .ok (.iload 5, 2) := dk_21 5 (dk_at dksX4_dropPoint_4 8 rfl rfl)
theorem dX4_dropPoint_105 : decode cX4_dropPoint 105 = .ok (.aload_n 0, 1) := dk_42 (dk_at dksX4_dropPoint_4 10 rfl rfl)
theorem dX4_dropPoint_106 : decode cX4_dropPoint 106 = .ok (.getfield 16, 3) := dk_180 0 16 (dk_at dksX4_dropPoint_4 11 rfl rfl)
theorem dX4_dropPoint_109 : decode cX4_dropPoint 109 = .ok (.iload 5, 2) := dk_21 5 (dk_at dksX4_dropPoint_4 14 rfl rfl)
theorem dX4_dropPoint_111 : decode cX4_dropPoint 111 = .ok (.iconst 1, 1) := dk_4 (dk_at dksX4_dropPoint_4 16 rfl rfl)
theorem dX4_dropPoint_112 : decode cX4_dropPoint 112 = .ok (.iadd, 1) := dk_96 (dk_at dksX4_dropPoint_4 17 rfl rfl)
theorem dX4_dropPoint_113 : decode cX4_dropPoint 113 = .ok (.iaload, 1) := dk_46 (dk_at dksX4_dropPoint_4 18 rfl rfl)
theorem dX4_dropPoint_114 : decode cX4_dropPoint 114 = .ok (.iastore, 1) := dk_79 (dk_at dksX4_dropPoint_4 19 rfl rfl)
theorem dX4_dropPoint_115 : decode cX4_dropPoint 115 = .ok (.iinc 5 1, 3) := dk_132 5 1 (dk_at dksX4_dropPoint_4 20 rfl rfl)
theorem dX4_dropPoint_118 : decode cX4_dropPoint 118 = .ok (.goto (-47), 3) := dk_167 255 209 (dk_at dksX4_dropPoint_5 0 rfl rfl)
theorem dX4_dropPoint_121 : decode cX4_dropPoint 121 = .ok (.aload_n 0, 1) := dk_42 (dk_at dksX4_dropPoint_5 3 rfl rfl)
theorem dX4_dropPoint_122 : decode cX4_dropPoint 122 = .ok (.getfield 9, 3) := dk_180 0 9 (dk_at dksX4_dropPoint_5 4 rfl rfl)
theorem dX4_dropPoint_125 : decode cX4_dropPoint 125 = .ok (.bipush 7, 2) := dk_16 7 (dk_at dksX4_dropPoint_5 7 rfl rfl)
theorem dX4_dropPoint_127 : decode cX4_dropPoint 127 = .ok (.iload_n 3, 1) := dk_29 (dk_at dksX4_dropPoint_5 9 rfl rfl)
theorem dX4_dropPoint_128 : decode cX4_dropPoint 128 = .ok (.imul, 1) := dk_104 (dk_at dksX4_dropPoint_5 10 rfl rfl)
theorem dX4_dropPoint_129 : decode cX4_dropPoint 129 = .ok (.iconst 2, 1) := dk_5 (dk_at dksX4_dropPoint_5 11 rfl rfl)
theorem dX4_dropPoint_130 : decode cX4_dropPoint 130 = .ok (.iadd, 1) := dk_96 (dk_at dksX4_dropPoint_5 12 rfl rfl)
theorem dX4_dropPoint_131 : decode cX4_dropPoint 131 = .ok (.iload 4, 2) := dk_21 4 (dk_at dksX4_dropPoint_5 13 rfl rfl)
theorem dX4_dropPoint_133 : decode cX4_dropPoint 133 = .ok (.iastore, 1) := dk_79 (dk_at dksX4_dropPoint_5 15 rfl rfl)
theorem dX4_dropPoint_134 : decode cX4_dropPoint 134 = .ok (.iload 4, 2) := dk_21 4 (dk_at dksX4_dropPoint_5 16 rfl rfl)
theorem dX4_dropPoint_136 : decode cX4_dropPoint 136 = .ok (.ireturn, 1) := dk_172 (dk_at dksX4_dropPoint_5 18 rfl rfl)
abbrev cX4_addArea : ByteArray := prog_18_method_36_code
def yX4_addArea : MethodName := ⟨RX4, "addArea", "(IIII)I"⟩
def dkwX4_addArea_4 : List UInt8 := [182, 0, 129, 182, 0, 135, 87, 42, 180, 0, 123, 172]
abbrev dktX4_addArea_4 : List UInt8 := dkwX4_addArea_4 ++ []
def dkwX4_addArea_3 : List UInt8 := [167, 0, 4, 3, 181, 0, 35, 42, 180, 0, 35, 158, 0, 5, 2, 172, 42, 42, 4, 27, 28, 29, 21, 4]
abbrev dktX4_addArea_3 : List UInt8 := dkwX4_addArea_3 ++ dktX4_addArea_4
def dkwX4_addArea_2 : List UInt8 := [3, 54, 5, 42, 21, 5, 154, 0, 7, 4, 167, 0, 17, 42, 180, 0, 39, 16, 12, 160, 0, 7, 5]
abbrev dktX4_addArea_2 : List UInt8 := dkwX4_addArea_2 ++ dktX4_addArea_3
def dkwX4_addArea_1 : List UInt8 := [153, 0, 24, 21, 4, 133, 29, 133, 20, 0, 150, 29, 133, 105, 184, 0, 48, 153, 0, 7, 4, 167, 0, 4]
abbrev dktX4_addArea_1 : List UInt8 := dkwX4_addArea_1 ++ dktX4_addArea_2
def dkwX4_addArea_0 : List UInt8 := [27, 184, 0, 126, 153, 0, 43, 28, 184, 0, 126, 153, 0, 36, 29, 133, 10, 20, 0, 148, 184, 0, 48]
abbrev dktX4_addArea_0 : List UInt8 := dkwX4_addArea_0 ++ dktX4_addArea_1
theorem dksX4_addArea_0 : cX4_addArea.data.toList.drop 0 = dktX4_addArea_0 := by decide +kernel
theorem dksX4_addArea_1 : cX4_addArea.data.toList.drop 23 = dktX4_addArea_1 := dk_seg dksX4_addArea_0 23 rfl rfl
theorem dksX4_addArea_2 : cX4_addArea.data.toList.drop 47 = dktX4_addArea_2 := dk_seg dksX4_addArea_1 24 rfl rfl
theorem dksX4_addArea_3 : cX4_addArea.data.toList.drop 70 = dktX4_addArea_3 := dk_seg dksX4_addArea_2 23 rfl rfl
theorem dksX4_addArea_4 : cX4_addArea.data.toList.drop 94 = dktX4_addArea_4 := dk_seg dksX4_addArea_3 24 rfl rfl
theorem dX4_addArea_0 : decode cX4_addArea 0 = .ok (.iload_n 1, 1) := dk_27 (dk_at dksX4_addArea_0 0 rfl rfl)
theorem dX4_addArea_1 : decode cX4_addArea 1 = .ok (.invokestatic 126, 3) := dk_184 0 126 (dk_at dksX4_addArea_0 1 rfl rfl)
theorem dX4_addArea_4 : decode cX4_addArea 4 = .ok (.ifCond .eq 43, 3) := dk_153 0 43 (dk_at dksX4_addArea_0 4 rfl rfl)
theorem dX4_addArea_7 : decode cX4_addArea 7 = .ok (.iload_n 2, 1) := dk_28 (dk_at dksX4_addArea_0 7 rfl rfl)
theorem dX4_addArea_8 : decode cX4_addArea 8 = .ok (.invokestatic 126, 3) := dk_184 0 126 (dk_at dksX4_addArea_0 8 rfl rfl)
theorem dX4_addArea_11 : decode cX4_addArea 11 = .ok (.ifCond .eq 36, 3) := dk_153 0 36 (dk_at dksX4_addArea_0 11 rfl rfl)
theorem dX4_addArea_14 : decode cX4_addArea 14 = .ok (.iload_n 3, 1) := dk_29 (dk_at dksX4_addArea_0 14 rfl rfl)
theorem dX4_addArea_15 : decode cX4_addArea 15 = .ok (.i2l, 1) := dk_133 (dk_at dksX4_addArea_0 15 rfl rfl)
theorem dX4_addArea_16 : decode cX4_addArea 16 = .ok (.lconst 1, 1) := dk_10 (dk_at dksX4_addArea_0 16 rfl rfl)
theorem dX4_addArea_17 : decode cX4_addArea 17 = .ok (.ldc2_w 148, 3) := dk_20 0 148 (dk_at dksX4_addArea_0 17 rfl rfl)
theorem dX4_addArea_20 : decode cX4_addArea 20 = .ok (.invokestatic 48, 3) := dk_184 0 48 (dk_at dksX4_addArea_0 20 rfl rfl)
theorem dX4_addArea_23 : decode cX4_addArea 23 = .ok (.ifCond .eq 24, 3) := dk_153 0 24 (dk_at dksX4_addArea_1 0 rfl rfl)
theorem dX4_addArea_26 : decode cX4_addArea 26 = .ok (.iload 4, 2) := dk_21 4 (dk_at dksX4_addArea_1 3 rfl rfl)
theorem dX4_addArea_28 : decode cX4_addArea 28 = .ok (.i2l, 1) := dk_133 (dk_at dksX4_addArea_1 5 rfl rfl)
theorem dX4_addArea_29 : decode cX4_addArea 29 = .ok (.iload_n 3, 1) := dk_29 (dk_at dksX4_addArea_1 6 rfl rfl)
theorem dX4_addArea_30 : decode cX4_addArea 30 = .ok (.i2l, 1) := dk_133 (dk_at dksX4_addArea_1 7 rfl rfl)
theorem dX4_addArea_31 : decode cX4_addArea 31 = .ok (.ldc2_w 150, 3) := dk_20 0 150 (dk_at dksX4_addArea_1 8 rfl rfl)
theorem dX4_addArea_34 : decode cX4_addArea 34 = .ok (.iload_n 3, 1) := dk_29 (dk_at dksX4_addArea_1 11 rfl rfl)
theorem dX4_addArea_35 : decode cX4_addArea 35 = .ok (.i2l, 1) := dk_133 (dk_at dksX4_addArea_1 12 rfl rfl)
theorem dX4_addArea_36 : decode cX4_addArea 36 = .ok (.lmul, 1) := dk_105 (dk_at dksX4_addArea_1 13 rfl rfl)
theorem dX4_addArea_37 : decode cX4_addArea 37 = .ok (.invokestatic 48, 3) := dk_184 0 48 (dk_at dksX4_addArea_1 14 rfl rfl)
theorem dX4_addArea_40 : decode cX4_addArea 40 = .ok (.ifCond .eq 7, 3) := dk_153 0 7 (dk_at dksX4_addArea_1 17 rfl rfl)
theorem dX4_addArea_43 : decode cX4_addArea 43 = .ok (.iconst 1, 1) := dk_4 (dk_at dksX4_addArea_1 20 rfl rfl)
theorem dX4_addArea_44 : decode cX4_addArea 44 = .ok (.goto 4, 3) := dk_167 0 4 (dk_at dksX4_addArea_1 21 rfl rfl)
theorem dX4_addArea_47 : decode cX4_addArea 47 = .ok (.iconst 0, 1) := dk_3 (dk_at dksX4_addArea_2 0 rfl rfl)
theorem dX4_addArea_48 : decode cX4_addArea 48 = .ok (.istore 5, 2) := dk_54 5 (dk_at dksX4_addArea_2 1 rfl rfl)
theorem dX4_addArea_50 : decode cX4_addArea 50 = .ok (.aload_n 0, 1) := dk_42 (dk_at dksX4_addArea_2 3 rfl rfl)
theorem dX4_addArea_51 : decode cX4_addArea 51 = .ok (.iload 5, 2) := dk_21 5 (dk_at dksX4_addArea_2 4 rfl rfl)
theorem dX4_addArea_53 : decode cX4_addArea 53 = .ok (.ifCond .ne 7, 3) := dk_154 0 7 (dk_at dksX4_addArea_2 6 rfl rfl)
theorem dX4_addArea_56 : decode cX4_addArea 56 = .ok (.iconst 1, 1) := dk_4 (dk_at dksX4_addArea_2 9 rfl rfl)
theorem dX4_addArea_57 : decode cX4_addArea 57 = .ok (.goto 17, 3) := dk_167 0 17 (dk_at dksX4_addArea_2 10 rfl rfl)
theorem dX4_addArea_60 : decode cX4_addArea 60 = .ok (.aload_n 0, 1) := dk_42 (dk_at dksX4_addArea_2 13 rfl rfl)
theorem dX4_addArea_61 : decode cX4_addArea 61 = .ok (.getfield 39, 3) := dk_180 0 39 (dk_at dksX4_addArea_2 14 rfl rfl)
theorem dX4_addArea_64 : decode cX4_addArea 64 = .ok (.bipush 12, 2) := dk_16 12 (dk_at dksX4_addArea_2 17 rfl rfl)
theorem dX4_addArea_66 : decode cX4_addArea 66 = .ok (.if_icmp .ne 7, 3) := dk_160 0 7 (dk_at dksX4_addArea_2 19 rfl rfl)
theorem dX4_addArea_69 : decode cX4_addArea 69 = .ok (.iconst 2, 1) := dk_5 (dk_at dksX4_addArea_2 22 rfl rfl)
theorem dX4_addArea_70 : decode cX4_addArea 70 = .ok (.goto 4, 3) := dk_167 0 4 (dk_at dksX4_addArea_3 0 rfl rfl)
theorem dX4_addArea_73 : decode cX4_addArea 73 = .ok (.iconst 0, 1) := dk_3 (dk_at dksX4_addArea_3 3 rfl rfl)
theorem dX4_addArea_74 : decode cX4_addArea 74 = .ok (.putfield 35, 3) := dk_181 0 35 (dk_at dksX4_addArea_3 4 rfl rfl)
theorem dX4_addArea_77 : decode cX4_addArea 77 = .ok (.aload_n 0, 1) := dk_42 (dk_at dksX4_addArea_3 7 rfl rfl)
theorem dX4_addArea_78 : decode cX4_addArea 78 = .ok (.getfield 35, 3) := dk_180 0 35 (dk_at dksX4_addArea_3 8 rfl rfl)
theorem dX4_addArea_81 : decode cX4_addArea 81 = .ok (.ifCond .le 5, 3) := dk_158 0 5 (dk_at dksX4_addArea_3 11 rfl rfl)
theorem dX4_addArea_84 : decode cX4_addArea 84 = .ok (.iconst (-1), 1) := dk_2 (dk_at dksX4_addArea_3 14 rfl rfl)
theorem dX4_addArea_85 : decode cX4_addArea 85 = .ok (.ireturn, 1) := dk_172 (dk_at dksX4_addArea_3 15 rfl rfl)
theorem dX4_addArea_86 : decode cX4_addArea 86 = .ok (.aload_n 0, 1) := dk_42 (dk_at dksX4_addArea_3 16 rfl rfl)
theorem dX4_addArea_87 : decode cX4_addArea 87 = .ok (.aload_n 0, 1) := dk_42 (dk_at dksX4_addArea_3 17 rfl rfl)
theorem dX4_addArea_88 : decode cX4_addArea 88 = .ok (.iconst 1, 1) := dk_4 (dk_at dksX4_addArea_3 18 rfl rfl)
theorem dX4_addArea_89 : decode cX4_addArea 89 = .ok (.iload_n 1, 1) := dk_27 (dk_at dksX4_addArea_3 19 rfl rfl)
theorem dX4_addArea_90 : decode cX4_addArea 90 = .ok (.iload_n 2, 1) := dk_28 (dk_at dksX4_addArea_3 20 rfl rfl)
theorem dX4_addArea_91 : decode cX4_addArea 91 = .ok (.iload_n 3, 1) := dk_29 (dk_at dksX4_addArea_3 21 rfl rfl)
theorem dX4_addArea_92 : decode cX4_addArea 92 = .ok (.iload 4, 2) := dk_21 4 (dk_at dksX4_addArea_3 22 rfl rfl)
theorem dX4_addArea_94 : decode cX4_addArea 94 = .ok (.invokevirtual 129, 3) := dk_182 0 129 (dk_at dksX4_addArea_4 0 rfl rfl)
theorem dX4_addArea_97 : decode cX4_addArea 97 = .ok (.invokevirtual 135, 3) := dk_182 0 135 (dk_at dksX4_addArea_4 3 rfl rfl)
theorem dX4_addArea_100 : decode cX4_addArea 100 = .ok (.pop, 1) := dk_87 (dk_at dksX4_addArea_4 6 rfl rfl)
theorem dX4_addArea_101 : decode cX4_addArea 101 = .ok (.aload_n 0, 1) := dk_42 (dk_at dksX4_addArea_4 7 rfl rfl)
theorem dX4_addArea_102 : decode cX4_addArea 102 = .ok (.getfield 123, 3) := dk_180 0 123 (dk_at dksX4_addArea_4 8 rfl rfl)
theorem dX4_addArea_105 : decode cX4_addArea 105 = .ok (.ireturn, 1) := dk_172 (dk_at dksX4_addArea_4 11 rfl rfl)
abbrev cX4_moveArea : ByteArray := prog_18_method_37_code
def yX4_moveArea : MethodName := ⟨RX4, "moveArea", "(III)I"⟩
def dkwX4_moveArea_5 : List UInt8 := [21, 5, 42, 21, 4, 182, 0, 135, 96, 172]
abbrev dktX4_moveArea_5 : List UInt8 := dkwX4_moveArea_5 ++ []
def dkwX4_moveArea_4 : List UInt8 := [16, 9, 21, 4, 104, 92, 46, 28, 96, 79, 42, 180, 0, 16, 16, 9, 21, 4, 104, 92, 46, 29, 96, 79]
abbrev dktX4_moveArea_4 : List UInt8 := dkwX4_moveArea_4 ++ dktX4_moveArea_5
def dkwX4_moveArea_3 : List UInt8 := [158, 0, 5, 2, 172, 42, 27, 182, 0, 138, 54, 4, 42, 21, 4, 182, 0, 135, 54, 5, 42, 180, 0, 13]
abbrev dktX4_moveArea_3 : List UInt8 := dkwX4_moveArea_3 ++ dktX4_moveArea_4
def dkwX4_moveArea_2 : List UInt8 := [9, 20, 0, 46, 184, 0, 48, 153, 0, 7, 3, 167, 0, 4, 6, 181, 0, 35, 42, 180, 0, 35]
abbrev dktX4_moveArea_2 : List UInt8 := dkwX4_moveArea_2 ++ dktX4_moveArea_3
def dkwX4_moveArea_1 : List UInt8 := [28, 133, 97, 9, 20, 0, 46, 184, 0, 48, 153, 0, 28, 42, 21, 4, 3, 182, 0, 68, 133, 29, 133, 97]
abbrev dktX4_moveArea_1 : List UInt8 := dkwX4_moveArea_1 ++ dktX4_moveArea_2
def dkwX4_moveArea_0 : List UInt8 := [42, 27, 182, 0, 152, 153, 0, 61, 42, 27, 182, 0, 138, 54, 4, 42, 42, 21, 4, 3, 182, 0, 65, 133]
abbrev dktX4_moveArea_0 : List UInt8 := dkwX4_moveArea_0 ++ dktX4_moveArea_1
theorem dksX4_moveArea_0 : cX4_moveArea.data.toList.drop 0 = dktX4_moveArea_0 := by decide +kernel
theorem dksX4_moveArea_1 : cX4_moveArea.data.toList.drop 24 = dktX4_moveArea_1 := dk_seg dksX4_moveArea_0 24 rfl rfl
theorem dksX4_moveArea_2 : cX4_moveArea.data.toList.drop 48 = dktX4_moveArea_2 := dk_seg dksX4_moveArea_1 24 rfl rfl
theorem dksX4_moveArea_3 : cX4_moveArea.data.toList.drop 70 = dktX4_moveArea_3 := dk_seg dksX4_moveArea_2 22 rfl rfl
theorem dksX4_moveArea_4 : cX4_moveArea.data.toList.drop 94 = dktX4_moveArea_4 := dk_seg dksX4_moveArea_3 24 rfl rfl
theorem dksX4_moveArea_5 : cX4_moveArea.data.toList.drop 118 = dktX4_moveArea_5 := dk_seg dksX4_moveArea_4 24 rfl rfl
theorem dX4_moveArea_0 : decode cX4_moveArea 0 = .ok (.aload_n 0, 1) := dk_42 (dk_at dksX4_moveArea_0 0 rfl rfl)
theorem dX4_moveArea_1 : decode cX4_moveArea 1 = .ok (.iload_n 1, 1) := dk_27 (dk_at dksX4_moveArea_0 1 rfl rfl)
theorem dX4_moveArea_2 : decode cX4_moveArea 2 = .ok (.invokevirtual 152, 3) := dk_182 0 152 (dk_at dksX4_moveArea_0 2 rfl rfl)
theorem dX4_moveArea_5 : decode cX4_moveArea 5 = .ok (.ifCond .eq 61, 3) := dk_153 0 61 (dk_at dksX4_moveArea_0 5 rfl rfl)
theorem dX4_moveArea_8 : decode cX4_moveArea 8 = .ok (.aload_n 0, 1) := dk_42 (dk_at dksX4_moveArea_0 8 rfl rfl)
theorem dX4_moveArea_9 : decode cX4_moveArea 9 = .ok (.iload_n 1, 1) := dk_27 (dk_at dksX4_moveArea_0 9 rfl rfl)
theorem dX4_moveArea_10 : decode cX4_moveArea 10 = .ok (.invokevirtual 138, 3) := dk_182 0 138 (dk_at dksX4_moveArea_0 10 rfl rfl)
theorem dX4_moveArea_13 : decode cX4_moveArea 13 = .ok (.istore 4, 2) := dk_54 4 (dk_at dksX4_moveArea_0 13 rfl rfl)
theorem dX4_moveArea_15 : decode cX4_moveArea 15 = .ok (.aload_n 0, 1) := dk_42 (dk_at dksX4_moveArea_0 15 rfl rfl)
theorem dX4_moveArea_16 : decode cX4_moveArea 16 = .ok (.aload_n 0, 1) := dk_42 (dk_at dksX4_moveArea_0 16 rfl rfl)
theorem dX4_moveArea_17 : decode cX4_moveArea 17 = .ok (.iload 4, 2) := dk_21 4 (dk_at dksX4_moveArea_0 17 rfl rfl)
theorem dX4_moveArea_19 : decode cX4_moveArea 19 = .ok (.iconst 0, 1) := dk_3 (dk_at dksX4_moveArea_0 19 rfl rfl)
theorem dX4_moveArea_20 : decode cX4_moveArea 20 = .ok (.invokevirtual 65, 3) := dk_182 0 65 (dk_at dksX4_moveArea_0 20 rfl rfl)
theorem dX4_moveArea_23 : decode cX4_moveArea 23 = .ok (.i2l, 1) := dk_133 (dk_at dksX4_moveArea_0 23 rfl rfl)
theorem dX4_moveArea_24 : decode cX4_moveArea 24 = .ok (.iload_n 2, 1) := dk_28 (dk_at dksX4_moveArea_1 0 rfl rfl)
theorem dX4_moveArea_25 : decode cX4_moveArea 25 = .ok (.i2l, 1) := dk_133 (dk_at dksX4_moveArea_1 1 rfl rfl)
theorem dX4_moveArea_26 : decode cX4_moveArea 26 = .ok (.ladd, 1) := dk_97 (dk_at dksX4_moveArea_1 2 rfl rfl)
theorem dX4_moveArea_27 : decode cX4_moveArea 27 = .ok (.lconst 0, 1) := dk_9 (dk_at dksX4_moveArea_1 3 rfl rfl)
theorem dX4_moveArea_28 : decode cX4_moveArea 28 = .ok (.ldc2_w 46, 3) := dk_20 0 46 (dk_at dksX4_moveArea_1 4 rfl rfl)
theorem dX4_moveArea_31 : decode cX4_moveArea 31 = .ok (.invokestatic 48, 3) := dk_184 0 48 (dk_at dksX4_moveArea_1 7 rfl rfl)
theorem dX4_moveArea_34 : decode cX4_moveArea 34 = .ok (.ifCond .eq 28, 3) := dk_153 0 28 (dk_at dksX4_moveArea_1 10 rfl rfl)
theorem dX4_moveArea_37 : decode cX4_moveArea 37 = .ok (.aload_n 0, 1) := dk_42 (dk_at dksX4_moveArea_1 13 rfl rfl)
theorem dX4_moveArea_38 : decode cX4_moveArea 38 = .ok (.iload 4, 2) := dk_21 4 (dk_at dksX4_moveArea_1 14 rfl rfl)
theorem dX4_moveArea_40 : decode cX4_moveArea 40 = .ok (.iconst 0, 1) := dk_3 (dk_at dksX4_moveArea_1 16 rfl rfl)
theorem dX4_moveArea_41 : decode cX4_moveArea 41 = .ok (.invokevirtual 68, 3) := dk_182 0 68 (dk_at dksX4_moveArea_1 17 rfl rfl)
theorem dX4_moveArea_44 : decode cX4_moveArea 44 = .ok (.i2l, 1) := dk_133 (dk_at dksX4_moveArea_1 20 rfl rfl)
theorem dX4_moveArea_45 : decode cX4_moveArea 45 = .ok (.iload_n 3, 1) := dk_29 (dk_at dksX4_moveArea_1 21 rfl rfl)
theorem dX4_moveArea_46 : decode cX4_moveArea 46 = .ok (.i2l, 1) := dk_133 (dk_at dksX4_moveArea_1 22 rfl rfl)
theorem dX4_moveArea_47 : decode cX4_moveArea 47 = .ok (.ladd, 1) := dk_97 (dk_at dksX4_moveArea_1 23 rfl rfl)
theorem dX4_moveArea_48 : decode cX4_moveArea 48 = .ok (.lconst 0, 1) := dk_9 (dk_at dksX4_moveArea_2 0 rfl rfl)
theorem dX4_moveArea_49 : decode cX4_moveArea 49 = .ok (.ldc2_w 46, 3) := dk_20 0 46 (dk_at dksX4_moveArea_2 1 rfl rfl)
theorem dX4_moveArea_52 : decode cX4_moveArea 52 = .ok (.invokestatic 48, 3) := dk_184 0 48 (dk_at dksX4_moveArea_2 4 rfl rfl)
theorem dX4_moveArea_55 : decode cX4_moveArea 55 = .ok (.ifCond .eq 7, 3) := dk_153 0 7 (dk_at dksX4_moveArea_2 7 rfl rfl)
theorem dX4_moveArea_58 : decode cX4_moveArea 58 = .ok (.iconst 0, 1) := dk_3 (dk_at dksX4_moveArea_2 10 rfl rfl)
theorem dX4_moveArea_59 : decode cX4_moveArea 59 = .ok (.goto 4, 3) := dk_167 0 4 (dk_at dksX4_moveArea_2 11 rfl rfl)
theorem dX4_moveArea_62 : decode cX4_moveArea 62 = .ok (.iconst 3, 1) := dk_6 (dk_at dksX4_moveArea_2 14 rfl rfl)
theorem dX4_moveArea_63 : decode cX4_moveArea 63 = .ok (.putfield 35, 3) := dk_181 0 35 (dk_at dksX4_moveArea_2 15 rfl rfl)
theorem dX4_moveArea_66 : decode cX4_moveArea 66 = .ok (.aload_n 0, 1) := dk_42 (dk_at dksX4_moveArea_2 18 rfl rfl)
theorem dX4_moveArea_67 : decode cX4_moveArea 67 = .ok (.getfield 35, 3) := dk_180 0 35 (dk_at dksX4_moveArea_2 19 rfl rfl)
theorem dX4_moveArea_70 : decode cX4_moveArea 70 = .ok (.ifCond .le 5, 3) := dk_158 0 5 (dk_at dksX4_moveArea_3 0 rfl rfl)
theorem dX4_moveArea_73 : decode cX4_moveArea 73 = .ok (.iconst (-1), 1) := dk_2 (dk_at dksX4_moveArea_3 3 rfl rfl)
theorem dX4_moveArea_74 : decode cX4_moveArea 74 = .ok (.ireturn, 1) := dk_172 (dk_at dksX4_moveArea_3 4 rfl rfl)
theorem dX4_moveArea_75 : decode cX4_moveArea 75 = .ok (.aload_n 0, 1) := dk_42 (dk_at dksX4_moveArea_3 5 rfl rfl)
theorem dX4_moveArea_76 : decode cX4_moveArea 76 = .ok (.iload_n 1, 1) := dk_27 (dk_at dksX4_moveArea_3 6 rfl rfl)
theorem dX4_moveArea_77 : decode cX4_moveArea 77 = .ok (.invokevirtual 138, 3) := dk_182 0 138 (dk_at dksX4_moveArea_3 7 rfl rfl)
theorem dX4_moveArea_80 : decode cX4_moveArea 80 = .ok (.istore 4, 2) := dk_54 4 (dk_at dksX4_moveArea_3 10 rfl rfl)
theorem dX4_moveArea_82 : decode cX4_moveArea 82 = .ok (.aload_n 0, 1) := dk_42 (dk_at dksX4_moveArea_3 12 rfl rfl)
theorem dX4_moveArea_83 : decode cX4_moveArea 83 = .ok (.iload 4, 2) := dk_21 4 (dk_at dksX4_moveArea_3 13 rfl rfl)
theorem dX4_moveArea_85 : decode cX4_moveArea 85 = .ok (.invokevirtual 135, 3) := dk_182 0 135 (dk_at dksX4_moveArea_3 15 rfl rfl)
theorem dX4_moveArea_88 : decode cX4_moveArea 88 = .ok (.istore 5, 2) := dk_54 5 (dk_at dksX4_moveArea_3 18 rfl rfl)
theorem dX4_moveArea_90 : decode cX4_moveArea 90 = .ok (.aload_n 0, 1) := dk_42 (dk_at dksX4_moveArea_3 20 rfl rfl)
theorem dX4_moveArea_91 : decode cX4_moveArea 91 = .ok (.getfield 13, 3) := dk_180 0 13 (dk_at dksX4_moveArea_3 21 rfl rfl)
theorem dX4_moveArea_94 : decode cX4_moveArea 94 = .ok (.bipush 9, 2) := dk_16 9 (dk_at dksX4_moveArea_4 0 rfl rfl)
theorem dX4_moveArea_96 : decode cX4_moveArea 96 = .ok (.iload 4, 2) := dk_21 4 (dk_at dksX4_moveArea_4 2 rfl rfl)
theorem dX4_moveArea_98 : decode cX4_moveArea 98 = .ok (.imul, 1) := dk_104 (dk_at dksX4_moveArea_4 4 rfl rfl)
theorem dX4_moveArea_99 : decode cX4_moveArea 99 = .ok (.dup2, 1) := dk_92 (dk_at dksX4_moveArea_4 5 rfl rfl)
theorem dX4_moveArea_100 : decode cX4_moveArea 100 = .ok (.iaload, 1) := dk_46 (dk_at dksX4_moveArea_4 6 rfl rfl)
theorem dX4_moveArea_101 : decode cX4_moveArea 101 = .ok (.iload_n 2, 1) := dk_28 (dk_at dksX4_moveArea_4 7 rfl rfl)
theorem dX4_moveArea_102 : decode cX4_moveArea 102 = .ok (.iadd, 1) := dk_96 (dk_at dksX4_moveArea_4 8 rfl rfl)
theorem dX4_moveArea_103 : decode cX4_moveArea 103 = .ok (.iastore, 1) := dk_79 (dk_at dksX4_moveArea_4 9 rfl rfl)
theorem dX4_moveArea_104 : decode cX4_moveArea 104 = .ok (.aload_n 0, 1) := dk_42 (dk_at dksX4_moveArea_4 10 rfl rfl)
theorem dX4_moveArea_105 : decode cX4_moveArea 105 = .ok (.getfield 16, 3) := dk_180 0 16 (dk_at dksX4_moveArea_4 11 rfl rfl)
theorem dX4_moveArea_108 : decode cX4_moveArea 108 = .ok (.bipush 9, 2) := dk_16 9 (dk_at dksX4_moveArea_4 14 rfl rfl)
theorem dX4_moveArea_110 : decode cX4_moveArea 110 = .ok (.iload 4, 2) := dk_21 4 (dk_at dksX4_moveArea_4 16 rfl rfl)
theorem dX4_moveArea_112 : decode cX4_moveArea 112 = .ok (.imul, 1) := dk_104 (dk_at dksX4_moveArea_4 18 rfl rfl)
theorem dX4_moveArea_113 : decode cX4_moveArea 113 = .ok (.dup2, 1) := dk_92 (dk_at dksX4_moveArea_4 19 rfl rfl)
theorem dX4_moveArea_114 : decode cX4_moveArea 114 = .ok (.iaload, 1) := dk_46 (dk_at dksX4_moveArea_4 20 rfl rfl)
theorem dX4_moveArea_115 : decode cX4_moveArea 115 = .ok (.iload_n 3, 1) := dk_29 (dk_at dksX4_moveArea_4 21 rfl rfl)
theorem dX4_moveArea_116 : decode cX4_moveArea 116 = .ok (.iadd, 1) := dk_96 (dk_at dksX4_moveArea_4 22 rfl rfl)
theorem dX4_moveArea_117 : decode cX4_moveArea 117 = .ok (.iastore, 1) := dk_79 (dk_at dksX4_moveArea_4 23 rfl rfl)
theorem dX4_moveArea_118 : decode cX4_moveArea 118 = .ok (.iload 5, 2) := dk_21 5 (dk_at dksX4_moveArea_5 0 rfl rfl)
theorem dX4_moveArea_120 : decode cX4_moveArea 120 = .ok (.aload_n 0, 1) := dk_42 (dk_at dksX4_moveArea_5 2 rfl rfl)
theorem dX4_moveArea_121 : decode cX4_moveArea 121 = .ok (.iload 4, 2) := dk_21 4 (dk_at dksX4_moveArea_5 3 rfl rfl)
theorem dX4_moveArea_123 : decode cX4_moveArea 123 = .ok (.invokevirtual 135, 3) := dk_182 0 135 (dk_at dksX4_moveArea_5 5 rfl rfl)
theorem dX4_moveArea_126 : decode cX4_moveArea 126 = .ok (.iadd, 1) := dk_96 (dk_at dksX4_moveArea_5 8 rfl rfl)
theorem dX4_moveArea_127 : decode cX4_moveArea 127 = .ok (.ireturn, 1) := dk_172 (dk_at dksX4_moveArea_5 9 rfl rfl)
abbrev cX4_isArea : ByteArray := prog_18_method_31_code
def yX4_isArea : MethodName := ⟨RX4, "isArea", "(I)Z"⟩
def dkwX4_isArea_1 : List UInt8 := [154, 0, 7, 5, 167, 0, 4, 3, 181, 0, 35, 42, 180, 0, 35, 154, 0, 7, 4, 167, 0, 4, 3, 172]
abbrev dktX4_isArea_1 : List UInt8 := dkwX4_isArea_1 ++ []
def dkwX4_isArea_0 : List UInt8 := [42, 27, 182, 0, 138, 61, 42, 28, 2, 160, 0, 7, 4, 167, 0, 17, 42, 28, 4, 182, 0, 42]
abbrev dktX4_isArea_0 : List UInt8 := dkwX4_isArea_0 ++ dktX4_isArea_1
theorem dksX4_isArea_0 : cX4_isArea.data.toList.drop 0 = dktX4_isArea_0 := by decide +kernel
theorem dksX4_isArea_1 : cX4_isArea.data.toList.drop 22 = dktX4_isArea_1 := dk_seg dksX4_isArea_0 22 rfl rfl
theorem dX4_isArea_0 : decode cX4_isArea 0 = .ok (.aload_n 0, 1) := dk_42 (dk_at dksX4_isArea_0 0 rfl rfl)
theorem dX4_isArea_1 : decode cX4_isArea 1 = .ok (.iload_n 1, 1) := dk_27 (dk_at dksX4_isArea_0 1 rfl rfl)
theorem dX4_isArea_2 : decode cX4_isArea 2 = .ok (.invokevirtual 138, 3) := dk_182 0 138 (dk_at dksX4_isArea_0 2 rfl rfl)
theorem dX4_isArea_5 : decode cX4_isArea 5 = .ok (.istore_n 2, 1) := dk_61 (dk_at dksX4_isArea_0 5 rfl rfl)
theorem dX4_isArea_6 : decode cX4_isArea 6 = .ok (.aload_n 0, 1) := dk_42 (dk_at dksX4_isArea_0 6 rfl rfl)
theorem dX4_isArea_7 : decode cX4_isArea 7 = .ok (.iload_n 2, 1) := dk_28 (dk_at dksX4_isArea_0 7 rfl rfl)
theorem dX4_isArea_8 : decode cX4_isArea 8 = .ok (.iconst (-1), 1) := dk_2 (dk_at dksX4_isArea_0 8 rfl rfl)
theorem dX4_isArea_9 : decode cX4_isArea 9 = .ok (.if_icmp .ne 7, 3) := dk_160 0 7 (dk_at dksX4_isArea_0 9 rfl rfl)
theorem dX4_isArea_12 : decode cX4_isArea 12 = .ok (.iconst 1, 1) := dk_4 (dk_at dksX4_isArea_0 12 rfl rfl)
theorem dX4_isArea_13 : decode cX4_isArea 13 = .ok (.goto 17, 3) := dk_167 0 17 (dk_at dksX4_isArea_0 13 rfl rfl)
theorem dX4_isArea_16 : decode cX4_isArea 16 = .ok (.aload_n 0, 1) := dk_42 (dk_at dksX4_isArea_0 16 rfl rfl)
theorem dX4_isArea_17 : decode cX4_isArea 17 = .ok (.iload_n 2, 1) := dk_28 (dk_at dksX4_isArea_0 17 rfl rfl)
theorem dX4_isArea_18 : decode cX4_isArea 18 = .ok (.iconst 1, 1) := dk_4 (dk_at dksX4_isArea_0 18 rfl rfl)
theorem dX4_isArea_19 : decode cX4_isArea 19 = .ok (.invokevirtual 42, 3) := dk_182 0 42 (dk_at dksX4_isArea_0 19 rfl rfl)
theorem dX4_isArea_22 : decode cX4_isArea 22 = .ok (.ifCond .ne 7, 3) := dk_154 0 7 (dk_at dksX4_isArea_1 0 rfl rfl)
theorem dX4_isArea_25 : decode cX4_isArea 25 = .ok (.iconst 2, 1) := dk_5 (dk_at dksX4_isArea_1 3 rfl rfl)
theorem dX4_isArea_26 : decode cX4_isArea 26 = .ok (.goto 4, 3) := dk_167 0 4 (dk_at dksX4_isArea_1 4 rfl rfl)
theorem dX4_isArea_29 : decode cX4_isArea 29 = .ok (.iconst 0, 1) := dk_3 (dk_at dksX4_isArea_1 7 rfl rfl)
theorem dX4_isArea_30 : decode cX4_isArea 30 = .ok (.putfield 35, 3) := dk_181 0 35 (dk_at dksX4_isArea_1 8 rfl rfl)
theorem dX4_isArea_33 : decode cX4_isArea 33 = .ok (.aload_n 0, 1) := dk_42 (dk_at dksX4_isArea_1 11 rfl rfl)
theorem dX4_isArea_34 : decode cX4_isArea 34 = .ok (.getfield 35, 3) := dk_180 0 35 (dk_at dksX4_isArea_1 12 rfl rfl)
theorem dX4_isArea_37 : decode cX4_isArea 37 = .ok (.ifCond .ne 7, 3) := dk_154 0 7 (dk_at dksX4_isArea_1 15 rfl rfl)
theorem dX4_isArea_40 : decode cX4_isArea 40 = .ok (.iconst 1, 1) := dk_4 (dk_at dksX4_isArea_1 18 rfl rfl)
theorem dX4_isArea_41 : decode cX4_isArea 41 = .ok (.goto 4, 3) := dk_167 0 4 (dk_at dksX4_isArea_1 19 rfl rfl)
theorem dX4_isArea_44 : decode cX4_isArea 44 = .ok (.iconst 0, 1) := dk_3 (dk_at dksX4_isArea_1 22 rfl rfl)
theorem dX4_isArea_45 : decode cX4_isArea 45 = .ok (.ireturn, 1) := dk_172 (dk_at dksX4_isArea_1 23 rfl rfl)
abbrev cX4_remove : ByteArray := prog_18_method_38_code
def yX4_remove : MethodName := ⟨RX4, "remove", "(I)I"⟩
def dkwX4_remove_5 : List UInt8 := [180, 0, 16, 29, 16, 9, 96, 46, 79, 132, 3, 1, 167, 255, 212, 42, 180, 0, 39, 172]
abbrev dktX4_remove_5 : List UInt8 := dkwX4_remove_5 ++ []
def dkwX4_remove_4 : List UInt8 := [162, 0, 39, 42, 180, 0, 13, 29, 42, 180, 0, 13, 29, 16, 9, 96, 46, 79, 42, 180, 0, 16, 29, 42]
abbrev dktX4_remove_4 : List UInt8 := dkwX4_remove_4 ++ dktX4_remove_5
def dkwX4_remove_3 : List UInt8 := [16, 7, 96, 46, 79, 132, 3, 1, 167, 255, 227, 16, 9, 28, 104, 62, 29, 16, 9, 42, 180, 0, 39, 104]
abbrev dktX4_remove_3 : List UInt8 := dkwX4_remove_3 ++ dktX4_remove_4
def dkwX4_remove_2 : List UInt8 := [104, 62, 29, 16, 7, 42, 180, 0, 39, 104, 162, 0, 24, 42, 180, 0, 9, 29, 42, 180, 0, 9, 29]
abbrev dktX4_remove_2 : List UInt8 := dkwX4_remove_2 ++ dktX4_remove_3
def dkwX4_remove_1 : List UInt8 := [158, 0, 5, 2, 172, 42, 28, 182, 0, 135, 87, 42, 89, 180, 0, 39, 4, 100, 181, 0, 39, 16, 7, 28]
abbrev dktX4_remove_1 : List UInt8 := dkwX4_remove_1 ++ dktX4_remove_2
def dkwX4_remove_0 : List UInt8 := [42, 27, 182, 0, 138, 61, 42, 28, 2, 160, 0, 7, 4, 167, 0, 4, 3, 181, 0, 35, 42, 180, 0, 35]
abbrev dktX4_remove_0 : List UInt8 := dkwX4_remove_0 ++ dktX4_remove_1
theorem dksX4_remove_0 : cX4_remove.data.toList.drop 0 = dktX4_remove_0 := by decide +kernel
theorem dksX4_remove_1 : cX4_remove.data.toList.drop 24 = dktX4_remove_1 := dk_seg dksX4_remove_0 24 rfl rfl
theorem dksX4_remove_2 : cX4_remove.data.toList.drop 48 = dktX4_remove_2 := dk_seg dksX4_remove_1 24 rfl rfl
theorem dksX4_remove_3 : cX4_remove.data.toList.drop 71 = dktX4_remove_3 := dk_seg dksX4_remove_2 23 rfl rfl
theorem dksX4_remove_4 : cX4_remove.data.toList.drop 95 = dktX4_remove_4 := dk_seg dksX4_remove_3 24 rfl rfl
theorem dksX4_remove_5 : cX4_remove.data.toList.drop 119 = dktX4_remove_5 := dk_seg dksX4_remove_4 24 rfl rfl
theorem dX4_remove_0 : decode cX4_remove 0 = .ok (.aload_n 0, 1) := dk_42 (dk_at dksX4_remove_0 0 rfl rfl)
theorem dX4_remove_1 : decode cX4_remove 1 = .ok (.iload_n 1, 1) := dk_27 (dk_at dksX4_remove_0 1 rfl rfl)
theorem dX4_remove_2 : decode cX4_remove 2 = .ok (.invokevirtual 138, 3) := dk_182 0 138 (dk_at dksX4_remove_0 2 rfl rfl)
theorem dX4_remove_5 : decode cX4_remove 5 = .ok (.istore_n 2, 1) := dk_61 (dk_at dksX4_remove_0 5 rfl rfl)
theorem dX4_remove_6 : decode cX4_remove 6 = .ok (.aload_n 0, 1) := dk_42 (dk_at dksX4_remove_0 6 rfl rfl)
theorem dX4_remove_7 : decode cX4_remove 7 = .ok (.iload_n 2, 1) := dk_28 (dk_at dksX4_remove_0 7 rfl rfl)
theorem dX4_remove_8 : decode cX4_remove 8 = .ok (.iconst (-1), 1) := dk_2 (dk_at dksX4_remove_0 8 rfl rfl)
theorem dX4_remove_9 : decode cX4_remove 9 = .ok (.if_icmp .ne 7, 3) := dk_160 0 7 (dk_at dksX4_remove_0 9 rfl rfl)
theorem dX4_remove_12 : decode cX4_remove 12 = .ok (.iconst 1, 1) := dk_4 (dk_at dksX4_remove_0 12 rfl rfl)
theorem dX4_remove_13 : decode cX4_remove 13 = .ok (.goto 4, 3) := dk_167 0 4 (dk_at dksX4_remove_0 13 rfl rfl)
theorem dX4_remove_16 : decode cX4_remove 16 = .ok (.iconst 0, 1) := dk_3 (dk_at dksX4_remove_0 16 rfl rfl)
theorem dX4_remove_17 : decode cX4_remove 17 = .ok (.putfield 35, 3) := dk_181 0 35 (dk_at dksX4_remove_0 17 rfl rfl)
theorem dX4_remove_20 : decode cX4_remove 20 = .ok (.aload_n 0, 1) := dk_42 (dk_at dksX4_remove_0 20 rfl rfl)
theorem dX4_remove_21 : decode cX4_remove 21 = .ok (.getfield 35, 3) := dk_180 0 35 (dk_at dksX4_remove_0 21 rfl rfl)
theorem dX4_remove_24 : decode cX4_remove 24 = .ok (.ifCond .le 5, 3) := dk_158 0 5 (dk_at dksX4_remove_1 0 rfl rfl)
theorem dX4_remove_27 : decode cX4_remove 27 = .ok (.iconst (-1), 1) := dk_2 (dk_at dksX4_remove_1 3 rfl rfl)
theorem dX4_remove_28 : decode cX4_remove 28 = .ok (.ireturn, 1) := dk_172 (dk_at dksX4_remove_1 4 rfl rfl)
theorem dX4_remove_29 : decode cX4_remove 29 = .ok (.aload_n 0, 1) := dk_42 (dk_at dksX4_remove_1 5 rfl rfl)
theorem dX4_remove_30 : decode cX4_remove 30 = .ok (.iload_n 2, 1) := dk_28 (dk_at dksX4_remove_1 6 rfl rfl)
theorem dX4_remove_31 : decode cX4_remove 31 = .ok (.invokevirtual 135, 3) := dk_182 0 135 (dk_at dksX4_remove_1 7 rfl rfl)
theorem dX4_remove_34 : decode cX4_remove 34 = .ok (.pop, 1) := dk_87 (dk_at dksX4_remove_1 10 rfl rfl)
theorem dX4_remove_35 : decode cX4_remove 35 = .ok (.aload_n 0, 1) := dk_42 (dk_at dksX4_remove_1 11 rfl rfl)
theorem dX4_remove_36 : decode cX4_remove 36 = .ok (.dup, 1) := dk_89 (dk_at dksX4_remove_1 12 rfl rfl)
theorem dX4_remove_37 : decode cX4_remove 37 = .ok (.getfield 39, 3) := dk_180 0 39 (dk_at dksX4_remove_1 13 rfl rfl)
theorem dX4_remove_40 : decode cX4_remove 40 = .ok (.iconst 1, 1) := dk_4 (dk_at dksX4_remove_1 16 rfl rfl)
theorem dX4_remove_41 : decode cX4_remove 41 = .ok (.isub, 1) := dk_100 (dk_at dksX4_remove_1 17 rfl rfl)
theorem dX4_remove_42 : decode cX4_remove 42 = .ok (.putfield 39, 3) := dk_181 0 39 (dk_at dksX4_remove_1 18 rfl rfl)
theorem dX4_remove_45 : decode cX4_remove 45 = .ok (.bipush 7, 2) := dk_16 7 (dk_at dksX4_remove_1 21 rfl rfl)
theorem dX4_remove_47 : decode cX4_remove 47 = .ok (.iload_n 2, 1) := dk_28 (dk_at dksX4_remove_1 23 rfl rfl)
theorem dX4_remove_48 : decode cX4_remove 48 = .ok (.imul, 1) := dk_104 (dk_at dksX4_remove_2 0 rfl rfl)
theorem dX4_remove_49 : decode cX4_remove 49 = .ok (.istore_n 3, 1) := dk_62 (dk_at dksX4_remove_2 1 rfl rfl)
theorem dX4_remove_50 : decode cX4_remove 50 = .ok (.iload_n 3, 1) := dk_29 (dk_at dksX4_remove_2 2 rfl rfl)
theorem dX4_remove_51 : decode cX4_remove 51 = .ok (.bipush 7, 2) := dk_16 7 (dk_at dksX4_remove_2 3 rfl rfl)
theorem dX4_remove_53 : decode cX4_remove 53 = .ok (.aload_n 0, 1) := dk_42 (dk_at dksX4_remove_2 5 rfl rfl)
theorem dX4_remove_54 : decode cX4_remove 54 = .ok (.getfield 39, 3) := dk_180 0 39 (dk_at dksX4_remove_2 6 rfl rfl)
theorem dX4_remove_57 : decode cX4_remove 57 = .ok (.imul, 1) := dk_104 (dk_at dksX4_remove_2 9 rfl rfl)
theorem dX4_remove_58 : decode cX4_remove 58 = .ok (.if_icmp .ge 24, 3) := dk_162 0 24 (dk_at dksX4_remove_2 10 rfl rfl)
theorem dX4_remove_61 : decode cX4_remove 61 = .ok (.aload_n 0, 1) := dk_42 (dk_at dksX4_remove_2 13 rfl rfl)
theorem dX4_remove_62 : decode cX4_remove 62 = .ok (.getfield 9, 3) := dk_180 0 9 (dk_at dksX4_remove_2 14 rfl rfl)
theorem dX4_remove_65 : decode cX4_remove 65 = .ok (.iload_n 3, 1) := dk_29 (dk_at dksX4_remove_2 17 rfl rfl)
theorem dX4_remove_66 : decode cX4_remove 66 = .ok (.aload_n 0, 1) := dk_42 (dk_at dksX4_remove_2 18 rfl rfl)
theorem dX4_remove_67 : decode cX4_remove 67 = .ok (.getfield 9, 3) := dk_180 0 9 (dk_at dksX4_remove_2 19 rfl rfl)
theorem dX4_remove_70 : decode cX4_remove 70 = .ok (.iload_n 3, 1) := dk_29 (dk_at dksX4_remove_2 22 rfl rfl)
theorem dX4_remove_71 : decode cX4_remove 71 = .ok (.bipush 7, 2) := dk_16 7 (dk_at dksX4_remove_3 0 rfl rfl)
theorem dX4_remove_73 : decode cX4_remove 73 = .ok (.iadd, 1) := dk_96 (dk_at dksX4_remove_3 2 rfl rfl)
theorem dX4_remove_74 : decode cX4_remove 74 = .ok (.iaload, 1) := dk_46 (dk_at dksX4_remove_3 3 rfl rfl)
theorem dX4_remove_75 : decode cX4_remove 75 = .ok (.iastore, 1) := dk_79 (dk_at dksX4_remove_3 4 rfl rfl)
theorem dX4_remove_76 : decode cX4_remove 76 = .ok (.iinc 3 1, 3) := dk_132 3 1 (dk_at dksX4_remove_3 5 rfl rfl)
theorem dX4_remove_79 : decode cX4_remove 79 = .ok (.goto (-29), 3) := dk_167 255 227 (dk_at dksX4_remove_3 8 rfl rfl)
theorem dX4_remove_82 : decode cX4_remove 82 = .ok (.bipush 9, 2) := dk_16 9 (dk_at dksX4_remove_3 11 rfl rfl)
theorem dX4_remove_84 : decode cX4_remove 84 = .ok (.iload_n 2, 1) := dk_28 (dk_at dksX4_remove_3 13 rfl rfl)
theorem dX4_remove_85 : decode cX4_remove 85 = .ok (.imul, 1) := dk_104 (dk_at dksX4_remove_3 14 rfl rfl)
theorem dX4_remove_86 : decode cX4_remove 86 = .ok (.istore_n 3, 1) := dk_62 (dk_at dksX4_remove_3 15 rfl rfl)
theorem dX4_remove_87 : decode cX4_remove 87 = .ok (.iload_n 3, 1) := dk_29 (dk_at dksX4_remove_3 16 rfl rfl)
theorem dX4_remove_88 : decode cX4_remove 88 = .ok (.bipush 9, 2) := dk_16 9 (dk_at dksX4_remove_3 17 rfl rfl)
theorem dX4_remove_90 : decode cX4_remove 90 = .ok (.aload_n 0, 1) := dk_42 (dk_at dksX4_remove_3 19 rfl rfl)
theorem dX4_remove_91 : decode cX4_remove 91 = .ok (.getfield 39, 3) := dk_180 0 39 (dk_at dksX4_remove_3 20 rfl rfl)
theorem dX4_remove_94 : decode cX4_remove 94 = .ok (.imul, 1) := dk_104 (dk_at dksX4_remove_3 23 rfl rfl)
theorem dX4_remove_95 : decode cX4_remove 95 = .ok (.if_icmp .ge 39, 3) := dk_162 0 39 (dk_at dksX4_remove_4 0 rfl rfl)
theorem dX4_remove_98 : decode cX4_remove 98 = .ok (.aload_n 0, 1) := dk_42 (dk_at dksX4_remove_4 3 rfl rfl)
theorem dX4_remove_99 : decode cX4_remove 99 = .ok (.getfield 13, 3) := dk_180 0 13 (dk_at dksX4_remove_4 4 rfl rfl)
theorem dX4_remove_102 : decode cX4_remove 102 = .ok (.iload_n 3, 1) := dk_29 (dk_at dksX4_remove_4 7 rfl rfl)
theorem dX4_remove_103 : decode cX4_remove 103 = .ok (.aload_n 0, 1) := dk_42 (dk_at dksX4_remove_4 8 rfl rfl)
theorem dX4_remove_104 : decode cX4_remove 104 = .ok (.getfield 13, 3) := dk_180 0 13 (dk_at dksX4_remove_4 9 rfl rfl)
theorem dX4_remove_107 : decode cX4_remove 107 = .ok (.iload_n 3, 1) := dk_29 (dk_at dksX4_remove_4 12 rfl rfl)
theorem dX4_remove_108 : decode cX4_remove 108 = .ok (.bipush 9, 2) := dk_16 9 (dk_at dksX4_remove_4 13 rfl rfl)
theorem dX4_remove_110 : decode cX4_remove 110 = .ok (.iadd, 1) := dk_96 (dk_at dksX4_remove_4 15 rfl rfl)
theorem dX4_remove_111 : decode cX4_remove 111 = .ok (.iaload, 1) := dk_46 (dk_at dksX4_remove_4 16 rfl rfl)
theorem dX4_remove_112 : decode cX4_remove 112 = .ok (.iastore, 1) := dk_79 (dk_at dksX4_remove_4 17 rfl rfl)
theorem dX4_remove_113 : decode cX4_remove 113 = .ok (.aload_n 0, 1) := dk_42 (dk_at dksX4_remove_4 18 rfl rfl)
theorem dX4_remove_114 : decode cX4_remove 114 = .ok (.getfield 16, 3) := dk_180 0 16 (dk_at dksX4_remove_4 19 rfl rfl)
theorem dX4_remove_117 : decode cX4_remove 117 = .ok (.iload_n 3, 1) := dk_29 (dk_at dksX4_remove_4 22 rfl rfl)
theorem dX4_remove_118 : decode cX4_remove 118 = .ok (.aload_n 0, 1) := dk_42 (dk_at dksX4_remove_4 23 rfl rfl)
theorem dX4_remove_119 : decode cX4_remove 119 = .ok (.getfield 16, 3) := dk_180 0 16 (dk_at dksX4_remove_5 0 rfl rfl)
theorem dX4_remove_122 : decode cX4_remove 122 = .ok (.iload_n 3, 1) := dk_29 (dk_at dksX4_remove_5 3 rfl rfl)
theorem dX4_remove_123 : decode cX4_remove 123 = .ok (.bipush 9, 2) := dk_16 9 (dk_at dksX4_remove_5 4 rfl rfl)
theorem dX4_remove_125 : decode cX4_remove 125 = .ok (.iadd, 1) := dk_96 (dk_at dksX4_remove_5 6 rfl rfl)
theorem dX4_remove_126 : decode cX4_remove 126 = .ok (.iaload, 1) := dk_46 (dk_at dksX4_remove_5 7 rfl rfl)
theorem dX4_remove_127 : decode cX4_remove 127 = .ok (.iastore, 1) := dk_79 (dk_at dksX4_remove_5 8 rfl rfl)
theorem dX4_remove_128 : decode cX4_remove 128 = .ok (.iinc 3 1, 3) := dk_132 3 1 (dk_at dksX4_remove_5 9 rfl rfl)
theorem dX4_remove_131 : decode cX4_remove 131 = .ok (.goto (-44), 3) := dk_167 255 212 (dk_at dksX4_remove_5 12 rfl rfl)
theorem dX4_remove_134 : decode cX4_remove 134 = .ok (.aload_n 0, 1) := dk_42 (dk_at dksX4_remove_5 15 rfl rfl)
theorem dX4_remove_135 : decode cX4_remove 135 = .ok (.getfield 39, 3) := dk_180 0 39 (dk_at dksX4_remove_5 16 rfl rfl)
theorem dX4_remove_138 : decode cX4_remove 138 = .ok (.ireturn, 1) := dk_172 (dk_at dksX4_remove_5 19 rfl rfl)
abbrev cX4_setLabel : ByteArray := prog_18_method_39_code
def yX4_setLabel : MethodName := ⟨RX4, "setLabel", "(III)I"⟩
def dkwX4_setLabel_4 : List UInt8 := [29, 79, 21, 5, 172]
abbrev dktX4_setLabel_4 : List UInt8 := dkwX4_setLabel_4 ++ []
def dkwX4_setLabel_3 : List UInt8 := [180, 0, 9, 16, 7, 21, 4, 104, 8, 96, 28, 79, 42, 180, 0, 9, 16, 7, 21, 4, 104, 16, 6, 96]
abbrev dktX4_setLabel_3 : List UInt8 := dkwX4_setLabel_3 ++ dktX4_setLabel_4
def dkwX4_setLabel_2 : List UInt8 := [181, 0, 35, 42, 180, 0, 35, 158, 0, 5, 2, 172, 42, 21, 4, 8, 182, 0, 42, 54, 5, 42]
abbrev dktX4_setLabel_2 : List UInt8 := dkwX4_setLabel_2 ++ dktX4_setLabel_3
def dkwX4_setLabel_1 : List UInt8 := [184, 0, 48, 153, 0, 15, 29, 133, 10, 20, 0, 157, 184, 0, 48, 154, 0, 7, 5, 167, 0, 4, 3]
abbrev dktX4_setLabel_1 : List UInt8 := dkwX4_setLabel_1 ++ dktX4_setLabel_2
def dkwX4_setLabel_0 : List UInt8 := [42, 27, 182, 0, 138, 54, 4, 42, 21, 4, 2, 160, 0, 7, 4, 167, 0, 32, 28, 133, 9, 20, 0, 155]
abbrev dktX4_setLabel_0 : List UInt8 := dkwX4_setLabel_0 ++ dktX4_setLabel_1
theorem dksX4_setLabel_0 : cX4_setLabel.data.toList.drop 0 = dktX4_setLabel_0 := by decide +kernel
theorem dksX4_setLabel_1 : cX4_setLabel.data.toList.drop 24 = dktX4_setLabel_1 := dk_seg dksX4_setLabel_0 24 rfl rfl
theorem dksX4_setLabel_2 : cX4_setLabel.data.toList.drop 47 = dktX4_setLabel_2 := dk_seg dksX4_setLabel_1 23 rfl rfl
theorem dksX4_setLabel_3 : cX4_setLabel.data.toList.drop 69 = dktX4_setLabel_3 := dk_seg dksX4_setLabel_2 22 rfl rfl
theorem dksX4_setLabel_4 : cX4_setLabel.data.toList.drop 93 = dktX4_setLabel_4 := dk_seg dksX4_setLabel_3 24 rfl rfl
theorem dX4_setLabel_0 : decode cX4_setLabel 0 = .ok (.aload_n 0, 1) := dk_42 (dk_at dksX4_setLabel_0 0 rfl rfl)
theorem dX4_setLabel_1 : decode cX4_setLabel 1 = .ok (.iload_n 1, 1) := dk_27 (dk_at dksX4_setLabel_0 1 rfl rfl)
theorem dX4_setLabel_2 : decode cX4_setLabel 2 = .ok (.invokevirtual 138, 3) := dk_182 0 138 (dk_at dksX4_setLabel_0 2 rfl rfl)
theorem dX4_setLabel_5 : decode cX4_setLabel 5 = .ok (.istore 4, 2) := dk_54 4 (dk_at dksX4_setLabel_0 5 rfl rfl)
theorem dX4_setLabel_7 : decode cX4_setLabel 7 = .ok (.aload_n 0, 1) := dk_42 (dk_at dksX4_setLabel_0 7 rfl rfl)
theorem dX4_setLabel_8 : decode cX4_setLabel 8 = .ok (.iload 4, 2) := dk_21 4 (dk_at dksX4_setLabel_0 8 rfl rfl)
theorem dX4_setLabel_10 : decode cX4_setLabel 10 = .ok (.iconst (-1), 1) := dk_2 (dk_at dksX4_setLabel_0 10 rfl rfl)
theorem dX4_setLabel_11 : decode cX4_setLabel 11 = .ok (.if_icmp .ne 7, 3) := dk_160 0 7 (dk_at dksX4_setLabel_0 11 rfl rfl)
theorem dX4_setLabel_14 : decode cX4_setLabel 14 = .ok (.iconst 1, 1) := dk_4 (dk_at dksX4_setLabel_0 14 rfl rfl)
theorem dX4_setLabel_15 : decode cX4_setLabel 15 = .ok (.goto 32, 3) := dk_167 0 32 (dk_at dksX4_setLabel_0 15 rfl rfl)
theorem dX4_setLabel_18 : decode cX4_setLabel 18 = .ok (.iload_n 2, 1) := dk_28 (dk_at dksX4_setLabel_0 18 rfl rfl)
theorem dX4_setLabel_19 : decode cX4_setLabel 19 = .ok (.i2l, 1) := dk_133 (dk_at dksX4_setLabel_0 19 rfl rfl)
theorem dX4_setLabel_20 : decode cX4_setLabel 20 = .ok (.lconst 0, 1) := dk_9 (dk_at dksX4_setLabel_0 20 rfl rfl)
theorem dX4_setLabel_21 : decode cX4_setLabel 21 = .ok (.ldc2_w 155, 3) := dk_20 0 155 (dk_at dksX4_setLabel_0 21 rfl rfl)
theorem dX4_setLabel_24 : decode cX4_setLabel 24 = .ok (.invokestatic 48, 3) := dk_184 0 48 (dk_at dksX4_setLabel_1 0 rfl rfl)
theorem dX4_setLabel_27 : decode cX4_setLabel 27 = .ok (.ifCond .eq 15, 3) := dk_153 0 15 (dk_at dksX4_setLabel_1 3 rfl rfl)
theorem dX4_setLabel_30 : decode cX4_setLabel 30 = .ok (.iload_n 3, 1) := dk_29 (dk_at dksX4_setLabel_1 6 rfl rfl)
theorem dX4_setLabel_31 : decode cX4_setLabel 31 = .ok (.i2l, 1) := dk_133 (dk_at dksX4_setLabel_1 7 rfl rfl)
theorem dX4_setLabel_32 : decode cX4_setLabel 32 = .ok (.lconst 1, 1) := dk_10 (dk_at dksX4_setLabel_1 8 rfl rfl)
theorem dX4_setLabel_33 : decode cX4_setLabel 33 = .ok (.ldc2_w 157, 3) := dk_20 0 157 (dk_at dksX4_setLabel_1 9 rfl rfl)
theorem dX4_setLabel_36 : decode cX4_setLabel 36 = .ok (.invokestatic 48, 3) := dk_184 0 48 (dk_at dksX4_setLabel_1 12 rfl rfl)
theorem dX4_setLabel_39 : decode cX4_setLabel 39 = .ok (.ifCond .ne 7, 3) := dk_154 0 7 (dk_at dksX4_setLabel_1 15 rfl rfl)
theorem dX4_setLabel_42 : decode cX4_setLabel 42 = .ok (.iconst 2, 1) := dk_5 (dk_at dksX4_setLabel_1 18 rfl rfl)
theorem dX4_setLabel_43 : decode cX4_setLabel 43 = .ok (.goto 4, 3) := dk_167 0 4 (dk_at dksX4_setLabel_1 19 rfl rfl)
theorem dX4_setLabel_46 : decode cX4_setLabel 46 = .ok (.iconst 0, 1) := dk_3 (dk_at dksX4_setLabel_1 22 rfl rfl)
theorem dX4_setLabel_47 : decode cX4_setLabel 47 = .ok (.putfield 35, 3) := dk_181 0 35 (dk_at dksX4_setLabel_2 0 rfl rfl)
theorem dX4_setLabel_50 : decode cX4_setLabel 50 = .ok (.aload_n 0, 1) := dk_42 (dk_at dksX4_setLabel_2 3 rfl rfl)
theorem dX4_setLabel_51 : decode cX4_setLabel 51 = .ok (.getfield 35, 3) := dk_180 0 35 (dk_at dksX4_setLabel_2 4 rfl rfl)
theorem dX4_setLabel_54 : decode cX4_setLabel 54 = .ok (.ifCond .le 5, 3) := dk_158 0 5 (dk_at dksX4_setLabel_2 7 rfl rfl)
theorem dX4_setLabel_57 : decode cX4_setLabel 57 = .ok (.iconst (-1), 1) := dk_2 (dk_at dksX4_setLabel_2 10 rfl rfl)
theorem dX4_setLabel_58 : decode cX4_setLabel 58 = .ok (.ireturn, 1) := dk_172 (dk_at dksX4_setLabel_2 11 rfl rfl)
theorem dX4_setLabel_59 : decode cX4_setLabel 59 = .ok (.aload_n 0, 1) := dk_42 (dk_at dksX4_setLabel_2 12 rfl rfl)
theorem dX4_setLabel_60 : decode cX4_setLabel 60 = .ok (.iload 4, 2) := dk_21 4 (dk_at dksX4_setLabel_2 13 rfl rfl)
theorem dX4_setLabel_62 : decode cX4_setLabel 62 = .ok (.iconst 5, 1) := dk_8 (dk_at dksX4_setLabel_2 15 rfl rfl)
theorem dX4_setLabel_63 : decode cX4_setLabel 63 = .ok (.invokevirtual 42, 3) := dk_182 0 42 (dk_at dksX4_setLabel_2 16 rfl rfl)
theorem dX4_setLabel_66 : decode cX4_setLabel 66 = .ok (.istore 5, 2) := dk_54 5 (dk_at dksX4_setLabel_2 19 rfl rfl)
theorem dX4_setLabel_68 : decode cX4_setLabel 68 = .ok (.aload_n 0, 1) := dk_42 (dk_at dksX4_setLabel_2 21 rfl rfl)
theorem dX4_setLabel_69 : decode cX4_setLabel 69 = .ok (.getfield 9, 3) := dk_180 0 9 (dk_at dksX4_setLabel_3 0 rfl rfl)
theorem dX4_setLabel_72 : decode cX4_setLabel 72 = .ok (.bipush 7, 2) := dk_16 7 (dk_at dksX4_setLabel_3 3 rfl rfl)
theorem dX4_setLabel_74 : decode cX4_setLabel 74 = .ok (.iload 4, 2) := dk_21 4 (dk_at dksX4_setLabel_3 5 rfl rfl)
theorem dX4_setLabel_76 : decode cX4_setLabel 76 = .ok (.imul, 1) := dk_104 (dk_at dksX4_setLabel_3 7 rfl rfl)
theorem dX4_setLabel_77 : decode cX4_setLabel 77 = .ok (.iconst 5, 1) := dk_8 (dk_at dksX4_setLabel_3 8 rfl rfl)
theorem dX4_setLabel_78 : decode cX4_setLabel 78 = .ok (.iadd, 1) := dk_96 (dk_at dksX4_setLabel_3 9 rfl rfl)
theorem dX4_setLabel_79 : decode cX4_setLabel 79 = .ok (.iload_n 2, 1) := dk_28 (dk_at dksX4_setLabel_3 10 rfl rfl)
theorem dX4_setLabel_80 : decode cX4_setLabel 80 = .ok (.iastore, 1) := dk_79 (dk_at dksX4_setLabel_3 11 rfl rfl)
theorem dX4_setLabel_81 : decode cX4_setLabel 81 = .ok (.aload_n 0, 1) := dk_42 (dk_at dksX4_setLabel_3 12 rfl rfl)
theorem dX4_setLabel_82 : decode cX4_setLabel 82 = .ok (.getfield 9, 3) := dk_180 0 9 (dk_at dksX4_setLabel_3 13 rfl rfl)
theorem dX4_setLabel_85 : decode cX4_setLabel 85 = .ok (.bipush 7, 2) := dk_16 7 (dk_at dksX4_setLabel_3 16 rfl rfl)
theorem dX4_setLabel_87 : decode cX4_setLabel 87 = .ok (.iload 4, 2) := dk_21 4 (dk_at dksX4_setLabel_3 18 rfl rfl)
theorem dX4_setLabel_89 : decode cX4_setLabel 89 = .ok (.imul, 1) := dk_104 (dk_at dksX4_setLabel_3 20 rfl rfl)
theorem dX4_setLabel_90 : decode cX4_setLabel 90 = .ok (.bipush 6, 2) := dk_16 6 (dk_at dksX4_setLabel_3 21 rfl rfl)
theorem dX4_setLabel_92 : decode cX4_setLabel 92 = .ok (.iadd, 1) := dk_96 (dk_at dksX4_setLabel_3 23 rfl rfl)
theorem dX4_setLabel_93 : decode cX4_setLabel 93 = .ok (.iload_n 3, 1) := dk_29 (dk_at dksX4_setLabel_4 0 rfl rfl)
theorem dX4_setLabel_94 : decode cX4_setLabel 94 = .ok (.iastore, 1) := dk_79 (dk_at dksX4_setLabel_4 1 rfl rfl)
theorem dX4_setLabel_95 : decode cX4_setLabel 95 = .ok (.iload 5, 2) := dk_21 5 (dk_at dksX4_setLabel_4 2 rfl rfl)
theorem dX4_setLabel_97 : decode cX4_setLabel 97 = .ok (.ireturn, 1) := dk_172 (dk_at dksX4_setLabel_4 4 rfl rfl)
abbrev cX4_setTolerance : ByteArray := prog_18_method_40_code
def yX4_setTolerance : MethodName := ⟨RX4, "setTolerance", "(II)I"⟩
def dkwX4_setTolerance_3 : List UInt8 := [167, 255, 232, 42, 180, 0, 19, 27, 46, 62, 42, 180, 0, 19, 27, 28, 79, 29, 172]
abbrev dktX4_setTolerance_3 : List UInt8 := dkwX4_setTolerance_3 ++ []
def dkwX4_setTolerance_2 : List UInt8 := [29, 155, 0, 26, 42, 180, 0, 22, 7, 29, 104, 46, 27, 160, 0, 8, 42, 29, 182, 0, 83, 132, 3, 255]
abbrev dktX4_setTolerance_2 : List UInt8 := dkwX4_setTolerance_2 ++ dktX4_setTolerance_3
def dkwX4_setTolerance_1 : List UInt8 := [5, 167, 0, 4, 3, 181, 0, 35, 42, 180, 0, 35, 158, 0, 5, 2, 172, 42, 180, 0, 58, 4, 100, 62]
abbrev dktX4_setTolerance_1 : List UInt8 := dkwX4_setTolerance_1 ++ dktX4_setTolerance_2
def dkwX4_setTolerance_0 : List UInt8 := [42, 27, 184, 0, 54, 154, 0, 7, 4, 167, 0, 20, 28, 133, 9, 20, 0, 157, 184, 0, 48, 154, 0, 7]
abbrev dktX4_setTolerance_0 : List UInt8 := dkwX4_setTolerance_0 ++ dktX4_setTolerance_1
theorem dksX4_setTolerance_0 : cX4_setTolerance.data.toList.drop 0 = dktX4_setTolerance_0 := by decide +kernel
theorem dksX4_setTolerance_1 : cX4_setTolerance.data.toList.drop 24 = dktX4_setTolerance_1 := dk_seg dksX4_setTolerance_0 24 rfl rfl
theorem dksX4_setTolerance_2 : cX4_setTolerance.data.toList.drop 48 = dktX4_setTolerance_2 := dk_seg dksX4_setTolerance_1 24 rfl rfl
theorem dksX4_setTolerance_3 : cX4_setTolerance.data.toList.drop 72 = dktX4_setTolerance_3 := dk_seg dksX4_setTolerance_2 24 rfl rfl
theorem dX4_setTolerance_0 : decode cX4_setTolerance 0 = .ok (.aload_n 0, 1) := dk_42 (dk_at dksX4_setTolerance_0 0 rfl rfl)
theorem dX4_setTolerance_1 : decode cX4_setTolerance 1 = .ok (.iload_n 1, 1) := dk_27 (dk_at dksX4_setTolerance_0 1 rfl rfl)
theorem dX4_setTolerance_2 : decode cX4_setTolerance 2 = .ok (.invokestatic 54, 3) := dk_184 0 54 (dk_at dksX4_setTolerance_0 2 rfl rfl)
theorem dX4_setTolerance_5 : decode cX4_setTolerance 5 = .ok (.ifCond .ne 7, 3) := dk_154 0 7 (dk_at dksX4_setTolerance_0 5 rfl rfl)
theorem dX4_setTolerance_8 : decode cX4_setTolerance 8 = .ok (.iconst 1, 1) := dk_4 (dk_at dksX4_setTolerance_0 8 rfl rfl)
theorem dX4_setTolerance_9 : decode cX4_setTolerance 9 = .ok (.goto 20, 3) := dk_167 0 20 (dk_at dksX4_setTolerance_0 9 rfl rfl)
theorem dX4_setTolerance_12 : decode cX4_setTolerance 12 = .ok (.iload_n 2, 1) := dk_28 (dk_at dksX4_setTolerance_0 12 rfl rfl)
theorem dX4_setTolerance_13 : decode cX4_setTolerance 13 = .ok (.i2l, 1) := dk_133 (dk_at dksX4_setTolerance_0 13 rfl rfl)
theorem dX4_setTolerance_14 : decode cX4_setTolerance 14 = .ok (.lconst 0, 1) := dk_9 (dk_at dksX4_setTolerance_0 14 rfl rfl)
theorem dX4_setTolerance_15 : decode cX4_setTolerance 15 = .ok (.ldc2_w 157, 3) := dk_20 0 157 (dk_at dksX4_setTolerance_0 15 rfl rfl)
theorem dX4_setTolerance_18 : decode cX4_setTolerance 18 = .ok (.invokestatic 48, 3) := dk_184 0 48 (dk_at dksX4_setTolerance_0 18 rfl rfl)
theorem dX4_setTolerance_21 : decode cX4_setTolerance 21 = .ok (.ifCond .ne 7, 3) := dk_154 0 7 (dk_at dksX4_setTolerance_0 21 rfl rfl)
theorem dX4_setTolerance_24 : decode cX4_setTolerance 24 = .ok (.iconst 2, 1) := dk_5 (dk_at dksX4_setTolerance_1 0 rfl rfl)
theorem dX4_setTolerance_25 : decode cX4_setTolerance 25 = .ok (.goto 4, 3) := dk_167 0 4 (dk_at dksX4_setTolerance_1 1 rfl rfl)
theorem dX4_setTolerance_28 : decode cX4_setTolerance 28 = .ok (.iconst 0, 1) := dk_3 (dk_at dksX4_setTolerance_1 4 rfl rfl)
theorem dX4_setTolerance_29 : decode cX4_setTolerance 29 = .ok (.putfield 35, 3) := dk_181 0 35 (dk_at dksX4_setTolerance_1 5 rfl rfl)
theorem dX4_setTolerance_32 : decode cX4_setTolerance 32 = .ok (.aload_n 0, 1) := dk_42 (dk_at dksX4_setTolerance_1 8 rfl rfl)
theorem dX4_setTolerance_33 : decode cX4_setTolerance 33 = .ok (.getfield 35, 3) := dk_180 0 35 (dk_at dksX4_setTolerance_1 9 rfl rfl)
theorem dX4_setTolerance_36 : decode cX4_setTolerance 36 = .ok (.ifCond .le 5, 3) := dk_158 0 5 (dk_at dksX4_setTolerance_1 12 rfl rfl)
theorem dX4_setTolerance_39 : decode cX4_setTolerance 39 = .ok (.iconst (-1), 1) := dk_2 (dk_at dksX4_setTolerance_1 15 rfl rfl)
theorem dX4_setTolerance_40 : decode cX4_setTolerance 40 = .ok (.ireturn, 1) := dk_172 (dk_at dksX4_setTolerance_1 16 rfl rfl)
theorem dX4_setTolerance_41 : decode cX4_setTolerance 41 = .ok (.aload_n 0, 1) := dk_42 (dk_at dksX4_setTolerance_1 17 rfl rfl)
theorem dX4_setTolerance_42 : decode cX4_setTolerance 42 = .ok (.getfield 58, 3) := dk_180 0 58 (dk_at dksX4_setTolerance_1 18 rfl rfl)
theorem dX4_setTolerance_45 : decode cX4_setTolerance 45 = .ok (.iconst 1, 1) := dk_4 (dk_at dksX4_setTolerance_1 21 rfl rfl)
theorem dX4_setTolerance_46 : decode cX4_setTolerance 46 = .ok (.isub, 1) := dk_100 (dk_at dksX4_setTolerance_1 22 rfl rfl)
theorem dX4_setTolerance_47 : decode cX4_setTolerance 47 = .ok (.istore_n 3, 1) := dk_62 (dk_at dksX4_setTolerance_1 23 rfl rfl)
theorem dX4_setTolerance_48 : decode cX4_setTolerance 48 = .ok (.iload_n 3, 1) := dk_29 (dk_at dksX4_setTolerance_2 0 rfl rfl)
theorem dX4_setTolerance_49 : decode cX4_setTolerance 49 = .ok (.ifCond .lt 26, 3) := dk_155 0 26 (dk_at dksX4_setTolerance_2 1 rfl rfl)
theorem dX4_setTolerance_52 : decode cX4_setTolerance 52 = .ok (.aload_n 0, 1) := dk_42 (dk_at dksX4_setTolerance_2 4 rfl rfl)
theorem dX4_setTolerance_53 : decode cX4_setTolerance 53 = .ok (.getfield 22, 3) := dk_180 0 22 (dk_at dksX4_setTolerance_2 5 rfl rfl)
theorem dX4_setTolerance_56 : decode cX4_setTolerance 56 = .ok (.iconst 4, 1) := dk_7 (dk_at dksX4_setTolerance_2 8 rfl rfl)
theorem dX4_setTolerance_57 : decode cX4_setTolerance 57 = .ok (.iload_n 3, 1) := dk_29 (dk_at dksX4_setTolerance_2 9 rfl rfl)
theorem dX4_setTolerance_58 : decode cX4_setTolerance 58 = .ok (.imul, 1) := dk_104 (dk_at dksX4_setTolerance_2 10 rfl rfl)
theorem dX4_setTolerance_59 : decode cX4_setTolerance 59 = .ok (.iaload, 1) := dk_46 (dk_at dksX4_setTolerance_2 11 rfl rfl)
theorem dX4_setTolerance_60 : decode cX4_setTolerance 60 = .ok (.iload_n 1, 1) := dk_27 (dk_at dksX4_setTolerance_2 12 rfl rfl)
theorem dX4_setTolerance_61 : decode cX4_setTolerance 61 = .ok (.if_icmp .ne 8, 3) := dk_160 0 8 (dk_at dksX4_setTolerance_2 13 rfl rfl)
theorem dX4_setTolerance_64 : decode cX4_setTolerance 64 = .ok (.aload_n 0, 1) := dk_42 (dk_at dksX4_setTolerance_2 16 rfl rfl)
theorem dX4_setTolerance_65 : decode cX4_setTolerance 65 = .ok (.iload_n 3, 1) := dk_29 (dk_at dksX4_setTolerance_2 17 rfl rfl)
theorem dX4_setTolerance_66 : decode cX4_setTolerance 66 = .ok (.invokevirtual 83, 3) := dk_182 0 83 (dk_at dksX4_setTolerance_2 18 rfl rfl)
theorem dX4_setTolerance_69 : decode cX4_setTolerance 69 = .ok (.iinc 3 (-1), 3) := dk_132 3 255 (dk_at dksX4_setTolerance_2 21 rfl rfl)
theorem dX4_setTolerance_72 : decode cX4_setTolerance 72 = .ok (.goto (-24), 3) := dk_167 255 232 (dk_at dksX4_setTolerance_3 0 rfl rfl)
theorem dX4_setTolerance_75 : decode cX4_setTolerance 75 = .ok (.aload_n 0, 1) := dk_42 (dk_at dksX4_setTolerance_3 3 rfl rfl)
theorem dX4_setTolerance_76 : decode cX4_setTolerance 76 = .ok (.getfield 19, 3) := dk_180 0 19 (dk_at dksX4_setTolerance_3 4 rfl rfl)
theorem dX4_setTolerance_79 : decode cX4_setTolerance 79 = .ok (.iload_n 1, 1) := dk_27 (dk_at dksX4_setTolerance_3 7 rfl rfl)
theorem dX4_setTolerance_80 : decode cX4_setTolerance 80 = .ok (.iaload, 1) := dk_46 (dk_at dksX4_setTolerance_3 8 rfl rfl)
theorem dX4_setTolerance_81 : decode cX4_setTolerance 81 = .ok (.istore_n 3, 1) := dk_62 (dk_at dksX4_setTolerance_3 9 rfl rfl)
theorem dX4_setTolerance_82 : decode cX4_setTolerance 82 = .ok (.aload_n 0, 1) := dk_42 (dk_at dksX4_setTolerance_3 10 rfl rfl)
theorem dX4_setTolerance_83 : decode cX4_setTolerance 83 = .ok (.getfield 19, 3) := dk_180 0 19 (dk_at dksX4_setTolerance_3 11 rfl rfl)
theorem dX4_setTolerance_86 : decode cX4_setTolerance 86 = .ok (.iload_n 1, 1) := dk_27 (dk_at dksX4_setTolerance_3 14 rfl rfl)
theorem dX4_setTolerance_87 : decode cX4_setTolerance 87 = .ok (.iload_n 2, 1) := dk_28 (dk_at dksX4_setTolerance_3 15 rfl rfl)
theorem dX4_setTolerance_88 : decode cX4_setTolerance 88 = .ok (.iastore, 1) := dk_79 (dk_at dksX4_setTolerance_3 16 rfl rfl)
theorem dX4_setTolerance_89 : decode cX4_setTolerance 89 = .ok (.iload_n 3, 1) := dk_29 (dk_at dksX4_setTolerance_3 17 rfl rfl)
theorem dX4_setTolerance_90 : decode cX4_setTolerance 90 = .ok (.ireturn, 1) := dk_172 (dk_at dksX4_setTolerance_3 18 rfl rfl)
abbrev cX4_isLevel : ByteArray := prog_18_method_9_code
def yX4_isLevel : MethodName := ⟨RX4, "isLevel", "(I)Z"⟩
def dkwX4_isLevel_0 : List UInt8 := [26, 133, 9, 20, 0, 52, 184, 0, 48, 172]
abbrev dktX4_isLevel_0 : List UInt8 := dkwX4_isLevel_0 ++ []
theorem dksX4_isLevel_0 : cX4_isLevel.data.toList.drop 0 = dktX4_isLevel_0 := by decide +kernel
theorem dX4_isLevel_0 : decode cX4_isLevel 0 = .ok (.iload_n 0, 1) := dk_26 (dk_at dksX4_isLevel_0 0 rfl rfl)
theorem dX4_isLevel_1 : decode cX4_isLevel 1 = .ok (.i2l, 1) := dk_133 (dk_at dksX4_isLevel_0 1 rfl rfl)
theorem dX4_isLevel_2 : decode cX4_isLevel 2 = .ok (.lconst 0, 1) := dk_9 (dk_at dksX4_isLevel_0 2 rfl rfl)
theorem dX4_isLevel_3 : decode cX4_isLevel 3 = .ok (.ldc2_w 52, 3) := dk_20 0 52 (dk_at dksX4_isLevel_0 3 rfl rfl)
theorem dX4_isLevel_6 : decode cX4_isLevel 6 = .ok (.invokestatic 48, 3) := dk_184 0 48 (dk_at dksX4_isLevel_0 6 rfl rfl)
theorem dX4_isLevel_9 : decode cX4_isLevel 9 = .ok (.ireturn, 1) := dk_172 (dk_at dksX4_isLevel_0 9 rfl rfl)
abbrev cX4_pass : ByteArray := prog_18_method_41_code
def yX4_pass : MethodName := ⟨RX4, "pass", "(I)I"⟩
def dkwX4_pass_3 : List UInt8 := [161, 0, 11, 42, 29, 182, 0, 83, 132, 2, 1, 132, 3, 255, 167, 255, 221, 28, 172]
abbrev dktX4_pass_3 : List UInt8 := dkwX4_pass_3 ++ []
def dkwX4_pass_2 : List UInt8 := [4, 100, 62, 29, 155, 0, 37, 42, 180, 0, 161, 42, 180, 0, 22, 7, 29, 104, 6, 96, 46, 100, 16, 20]
abbrev dktX4_pass_2 : List UInt8 := dkwX4_pass_2 ++ dktX4_pass_3
def dkwX4_pass_1 : List UInt8 := [180, 0, 35, 158, 0, 5, 2, 172, 42, 89, 180, 0, 161, 27, 96, 181, 0, 161, 3, 61, 42, 180, 0, 58]
abbrev dktX4_pass_1 : List UInt8 := dkwX4_pass_1 ++ dktX4_pass_2
def dkwX4_pass_0 : List UInt8 := [42, 27, 133, 10, 20, 0, 159, 184, 0, 48, 153, 0, 7, 3, 167, 0, 4, 4, 181, 0, 35, 42]
abbrev dktX4_pass_0 : List UInt8 := dkwX4_pass_0 ++ dktX4_pass_1
theorem dksX4_pass_0 : cX4_pass.data.toList.drop 0 = dktX4_pass_0 := by decide +kernel
theorem dksX4_pass_1 : cX4_pass.data.toList.drop 22 = dktX4_pass_1 := dk_seg dksX4_pass_0 22 rfl rfl
theorem dksX4_pass_2 : cX4_pass.data.toList.drop 46 = dktX4_pass_2 := dk_seg dksX4_pass_1 24 rfl rfl
theorem dksX4_pass_3 : cX4_pass.data.toList.drop 70 = dktX4_pass_3 := dk_seg dksX4_pass_2 24 rfl rfl
theorem dX4_pass_0 : decode cX4_pass 0 = .ok (.aload_n 0, 1) := dk_42 (dk_at dksX4_pass_0 0 rfl rfl)
theorem dX4_pass_1 : decode cX4_pass 1 = .ok (.iload_n 1, 1) := dk_27 (dk_at dksX4_pass_0 1 rfl rfl)
theorem dX4_pass_2 : decode cX4_pass 2 = .ok (.i2l, 1) := dk_133 (dk_at dksX4_pass_0 2 rfl rfl)
theorem dX4_pass_3 : decode cX4_pass 3 = .ok (.lconst 1, 1) := dk_10 (dk_at dksX4_pass_0 3 rfl rfl)
theorem dX4_pass_4 : decode cX4_pass 4 = .ok (.ldc2_w 159, 3) := dk_20 0 159 (dk_at dksX4_pass_0 4 rfl rfl)
theorem dX4_pass_7 : decode cX4_pass 7 = .ok (.invokestatic 48, 3) := dk_184 0 48 (dk_at dksX4_pass_0 7 rfl rfl)
theorem dX4_pass_10 : decode cX4_pass 10 = .ok (.ifCond .eq 7, 3) := dk_153 0 7 (dk_at dksX4_pass_0 10 rfl rfl)
theorem dX4_pass_13 : decode cX4_pass 13 = .ok (.iconst 0, 1) := dk_3 (dk_at dksX4_pass_0 13 rfl rfl)
theorem dX4_pass_14 : decode cX4_pass 14 = .ok (.goto 4, 3) := dk_167 0 4 (dk_at dksX4_pass_0 14 rfl rfl)
theorem dX4_pass_17 : decode cX4_pass 17 = .ok (.iconst 1, 1) := dk_4 (dk_at dksX4_pass_0 17 rfl rfl)
theorem dX4_pass_18 : decode cX4_pass 18 = .ok (.putfield 35, 3) := dk_181 0 35 (dk_at dksX4_pass_0 18 rfl rfl)
theorem dX4_pass_21 : decode cX4_pass 21 = .ok (.aload_n 0, 1) := dk_42 (dk_at dksX4_pass_0 21 rfl rfl)
theorem dX4_pass_22 : decode cX4_pass 22 = .ok (.getfield 35, 3) := dk_180 0 35 (dk_at dksX4_pass_1 0 rfl rfl)
theorem dX4_pass_25 : decode cX4_pass 25 = .ok (.ifCond .le 5, 3) := dk_158 0 5 (dk_at dksX4_pass_1 3 rfl rfl)
theorem dX4_pass_28 : decode cX4_pass 28 = .ok (.iconst (-1), 1) := dk_2 (dk_at dksX4_pass_1 6 rfl rfl)
theorem dX4_pass_29 : decode cX4_pass 29 = .ok (.ireturn, 1) := dk_172 (dk_at dksX4_pass_1 7 rfl rfl)
theorem dX4_pass_30 : decode cX4_pass 30 = .ok (.aload_n 0, 1) := dk_42 (dk_at dksX4_pass_1 8 rfl rfl)
theorem dX4_pass_31 : decode cX4_pass 31 = .ok (.dup, 1) := dk_89 (dk_at dksX4_pass_1 9 rfl rfl)
theorem dX4_pass_32 : decode cX4_pass 32 = .ok (.getfield 161, 3) := dk_180 0 161 (dk_at dksX4_pass_1 10 rfl rfl)
theorem dX4_pass_35 : decode cX4_pass 35 = .ok (.iload_n 1, 1) := dk_27 (dk_at dksX4_pass_1 13 rfl rfl)
theorem dX4_pass_36 : decode cX4_pass 36 = .ok (.iadd, 1) := dk_96 (dk_at dksX4_pass_1 14 rfl rfl)
theorem dX4_pass_37 : decode cX4_pass 37 = .ok (.putfield 161, 3) := dk_181 0 161 (dk_at dksX4_pass_1 15 rfl rfl)
theorem dX4_pass_40 : decode cX4_pass 40 = .ok (.iconst 0, 1) := dk_3 (dk_at dksX4_pass_1 18 rfl rfl)
theorem dX4_pass_41 : decode cX4_pass 41 = .ok (.istore_n 2, 1) := dk_61 (dk_at dksX4_pass_1 19 rfl rfl)
theorem dX4_pass_42 : decode cX4_pass 42 = .ok (.aload_n 0, 1) := dk_42 (dk_at dksX4_pass_1 20 rfl rfl)
theorem dX4_pass_43 : decode cX4_pass 43 = .ok (.getfield 58, 3) := dk_180 0 58 (dk_at dksX4_pass_1 21 rfl rfl)
theorem dX4_pass_46 : decode cX4_pass 46 = .ok (.iconst 1, 1) := dk_4 (dk_at dksX4_pass_2 0 rfl rfl)
theorem dX4_pass_47 : decode cX4_pass 47 = .ok (.isub, 1) := dk_100 (dk_at dksX4_pass_2 1 rfl rfl)
theorem dX4_pass_48 : decode cX4_pass 48 = .ok (.istore_n 3, 1) := dk_62 (dk_at dksX4_pass_2 2 rfl rfl)
theorem dX4_pass_49 : decode cX4_pass 49 = .ok (.iload_n 3, 1) := dk_29 (dk_at dksX4_pass_2 3 rfl rfl)
theorem dX4_pass_50 : decode cX4_pass 50 = .ok (.ifCond .lt 37, 3) := dk_155 0 37 (dk_at dksX4_pass_2 4 rfl rfl)
theorem dX4_pass_53 : decode cX4_pass 53 = .ok (.aload_n 0, 1) := dk_42 (dk_at dksX4_pass_2 7 rfl rfl)
theorem dX4_pass_54 : decode cX4_pass 54 = .ok (.getfield 161, 3) := dk_180 0 161 (dk_at dksX4_pass_2 8 rfl rfl)
theorem dX4_pass_57 : decode cX4_pass 57 = .ok (.aload_n 0, 1) := dk_42 (dk_at dksX4_pass_2 11 rfl rfl)
theorem dX4_pass_58 : decode cX4_pass 58 = .ok (.getfield 22, 3) := dk_180 0 22 (dk_at dksX4_pass_2 12 rfl rfl)
theorem dX4_pass_61 : decode cX4_pass 61 = .ok (.iconst 4, 1) := dk_7 (dk_at dksX4_pass_2 15 rfl rfl)
theorem dX4_pass_62 : decode cX4_pass 62 = .ok (.iload_n 3, 1) := dk_29 (dk_at dksX4_pass_2 16 rfl rfl)
theorem dX4_pass_63 : decode cX4_pass 63 = .ok (.imul, 1) := dk_104 (dk_at dksX4_pass_2 17 rfl rfl)
theorem dX4_pass_64 : decode cX4_pass 64 = .ok (.iconst 3, 1) := dk_6 (dk_at dksX4_pass_2 18 rfl rfl)
theorem dX4_pass_65 : decode cX4_pass 65 = .ok (.iadd, 1) := dk_96 (dk_at dksX4_pass_2 19 rfl rfl)
theorem dX4_pass_66 : decode cX4_pass 66 = .ok (.iaload, 1) := dk_46 (dk_at dksX4_pass_2 20 rfl rfl)
theorem dX4_pass_67 : decode cX4_pass 67 = .ok (.isub, 1) := dk_100 (dk_at dksX4_pass_2 21 rfl rfl)
theorem dX4_pass_68 : decode cX4_pass 68 = .ok (.bipush 20, 2) := dk_16 20 (dk_at dksX4_pass_2 22 rfl rfl)
theorem dX4_pass_70 : decode cX4_pass 70 = .ok (.if_icmp .lt 11, 3) := dk_161 0 11 (dk_at dksX4_pass_3 0 rfl rfl)
theorem dX4_pass_73 : decode cX4_pass 73 = .ok (.aload_n 0, 1) := dk_42 (dk_at dksX4_pass_3 3 rfl rfl)
theorem dX4_pass_74 : decode cX4_pass 74 = .ok (.iload_n 3, 1) := dk_29 (dk_at dksX4_pass_3 4 rfl rfl)
theorem dX4_pass_75 : decode cX4_pass 75 = .ok (.invokevirtual 83, 3) := dk_182 0 83 (dk_at dksX4_pass_3 5 rfl rfl)
theorem dX4_pass_78 : decode cX4_pass 78 = .ok (.iinc 2 1, 3) := dk_132 2 1 (dk_at dksX4_pass_3 8 rfl rfl)
theorem dX4_pass_81 : decode cX4_pass 81 = .ok (.iinc 3 (-1), 3) := dk_132 3 255 (dk_at dksX4_pass_3 11 rfl rfl)
theorem dX4_pass_84 : decode cX4_pass 84 = .ok (.goto (-35), 3) := dk_167 255 221 (dk_at dksX4_pass_3 14 rfl rfl)
theorem dX4_pass_87 : decode cX4_pass 87 = .ok (.iload_n 2, 1) := dk_28 (dk_at dksX4_pass_3 17 rfl rfl)
theorem dX4_pass_88 : decode cX4_pass 88 = .ok (.ireturn, 1) := dk_172 (dk_at dksX4_pass_3 18 rfl rfl)
abbrev cX4_clock : ByteArray := prog_18_method_42_code
def yX4_clock : MethodName := ⟨RX4, "clock", "()I"⟩
def dkwX4_clock_0 : List UInt8 := [42, 3, 181, 0, 35, 42, 180, 0, 161, 172]
abbrev dktX4_clock_0 : List UInt8 := dkwX4_clock_0 ++ []
theorem dksX4_clock_0 : cX4_clock.data.toList.drop 0 = dktX4_clock_0 := by decide +kernel
theorem dX4_clock_0 : decode cX4_clock 0 = .ok (.aload_n 0, 1) := dk_42 (dk_at dksX4_clock_0 0 rfl rfl)
theorem dX4_clock_1 : decode cX4_clock 1 = .ok (.iconst 0, 1) := dk_3 (dk_at dksX4_clock_0 1 rfl rfl)
theorem dX4_clock_2 : decode cX4_clock 2 = .ok (.putfield 35, 3) := dk_181 0 35 (dk_at dksX4_clock_0 2 rfl rfl)
theorem dX4_clock_5 : decode cX4_clock 5 = .ok (.aload_n 0, 1) := dk_42 (dk_at dksX4_clock_0 5 rfl rfl)
theorem dX4_clock_6 : decode cX4_clock 6 = .ok (.getfield 161, 3) := dk_180 0 161 (dk_at dksX4_clock_0 6 rfl rfl)
theorem dX4_clock_9 : decode cX4_clock 9 = .ok (.ireturn, 1) := dk_172 (dk_at dksX4_clock_0 9 rfl rfl)
abbrev cX4_shapes : ByteArray := prog_18_method_43_code
def yX4_shapes : MethodName := ⟨RX4, "shapes", "()I"⟩
def dkwX4_shapes_0 : List UInt8 := [42, 3, 181, 0, 35, 42, 180, 0, 39, 172]
abbrev dktX4_shapes_0 : List UInt8 := dkwX4_shapes_0 ++ []
theorem dksX4_shapes_0 : cX4_shapes.data.toList.drop 0 = dktX4_shapes_0 := by decide +kernel
theorem dX4_shapes_0 : decode cX4_shapes 0 = .ok (.aload_n 0, 1) := dk_42 (dk_at dksX4_shapes_0 0 rfl rfl)
theorem dX4_shapes_1 : decode cX4_shapes 1 = .ok (.iconst 0, 1) := dk_3 (dk_at dksX4_shapes_0 1 rfl rfl)
theorem dX4_shapes_2 : decode cX4_shapes 2 = .ok (.putfield 35, 3) := dk_181 0 35 (dk_at dksX4_shapes_0 2 rfl rfl)
theorem dX4_shapes_5 : decode cX4_shapes 5 = .ok (.aload_n 0, 1) := dk_42 (dk_at dksX4_shapes_0 5 rfl rfl)
theorem dX4_shapes_6 : decode cX4_shapes 6 = .ok (.getfield 39, 3) := dk_180 0 39 (dk_at dksX4_shapes_0 6 rfl rfl)
theorem dX4_shapes_9 : decode cX4_shapes 9 = .ok (.ireturn, 1) := dk_172 (dk_at dksX4_shapes_0 9 rfl rfl)
abbrev cX4_kindOf : ByteArray := prog_18_method_44_code
def yX4_kindOf : MethodName := ⟨RX4, "kindOf", "(I)C"⟩
def dkwX4_kindOf_2 : List UInt8 := [16, 108, 172]
abbrev dktX4_kindOf_2 : List UInt8 := dkwX4_kindOf_2 ++ []
def dkwX4_kindOf_1 : List UInt8 := [158, 0, 8, 16, 32, 167, 0, 20, 42, 28, 4, 182, 0, 42, 4, 160, 0, 8, 16, 97, 167, 0, 5]
abbrev dktX4_kindOf_1 : List UInt8 := dkwX4_kindOf_1 ++ dktX4_kindOf_2
def dkwX4_kindOf_0 : List UInt8 := [42, 27, 182, 0, 138, 61, 42, 28, 2, 160, 0, 7, 4, 167, 0, 4, 3, 181, 0, 35, 42, 180, 0, 35]
abbrev dktX4_kindOf_0 : List UInt8 := dkwX4_kindOf_0 ++ dktX4_kindOf_1
theorem dksX4_kindOf_0 : cX4_kindOf.data.toList.drop 0 = dktX4_kindOf_0 := by decide +kernel
theorem dksX4_kindOf_1 : cX4_kindOf.data.toList.drop 24 = dktX4_kindOf_1 := dk_seg dksX4_kindOf_0 24 rfl rfl
theorem dksX4_kindOf_2 : cX4_kindOf.data.toList.drop 47 = dktX4_kindOf_2 := dk_seg dksX4_kindOf_1 23 rfl rfl
theorem dX4_kindOf_0 : decode cX4_kindOf 0 = .ok (.aload_n 0, 1) := dk_42 (dk_at dksX4_kindOf_0 0 rfl rfl)
theorem dX4_kindOf_1 : decode cX4_kindOf 1 = .ok (.iload_n 1, 1) := dk_27 (dk_at dksX4_kindOf_0 1 rfl rfl)
theorem dX4_kindOf_2 : decode cX4_kindOf 2 = .ok (.invokevirtual 138, 3) := dk_182 0 138 (dk_at dksX4_kindOf_0 2 rfl rfl)
theorem dX4_kindOf_5 : decode cX4_kindOf 5 = .ok (.istore_n 2, 1) := dk_61 (dk_at dksX4_kindOf_0 5 rfl rfl)
theorem dX4_kindOf_6 : decode cX4_kindOf 6 = .ok (.aload_n 0, 1) := dk_42 (dk_at dksX4_kindOf_0 6 rfl rfl)
theorem dX4_kindOf_7 : decode cX4_kindOf 7 = .ok (.iload_n 2, 1) := dk_28 (dk_at dksX4_kindOf_0 7 rfl rfl)
theorem dX4_kindOf_8 : decode cX4_kindOf 8 = .ok (.iconst (-1), 1) := dk_2 (dk_at dksX4_kindOf_0 8 rfl rfl)
theorem dX4_kindOf_9 : decode cX4_kindOf 9 = .ok (.if_icmp .ne 7, 3) := dk_160 0 7 (dk_at dksX4_kindOf_0 9 rfl rfl)
theorem dX4_kindOf_12 : decode cX4_kindOf 12 = .ok (.iconst 1, 1) := dk_4 (dk_at dksX4_kindOf_0 12 rfl rfl)
theorem dX4_kindOf_13 : decode cX4_kindOf 13 = .ok (.goto 4, 3) := dk_167 0 4 (dk_at dksX4_kindOf_0 13 rfl rfl)
theorem dX4_kindOf_16 : decode cX4_kindOf 16 = .ok (.iconst 0, 1) := dk_3 (dk_at dksX4_kindOf_0 16 rfl rfl)
theorem dX4_kindOf_17 : decode cX4_kindOf 17 = .ok (.putfield 35, 3) := dk_181 0 35 (dk_at dksX4_kindOf_0 17 rfl rfl)
theorem dX4_kindOf_20 : decode cX4_kindOf 20 = .ok (.aload_n 0, 1) := dk_42 (dk_at dksX4_kindOf_0 20 rfl rfl)
theorem dX4_kindOf_21 : decode cX4_kindOf 21 = .ok (.getfield 35, 3) := dk_180 0 35 (dk_at dksX4_kindOf_0 21 rfl rfl)
theorem dX4_kindOf_24 : decode cX4_kindOf 24 = .ok (.ifCond .le 8, 3) := dk_158 0 8 (dk_at dksX4_kindOf_1 0 rfl rfl)
theorem dX4_kindOf_27 : decode cX4_kindOf 27 = .ok (.bipush 32, 2) := dk_16 32 (dk_at dksX4_kindOf_1 3 rfl rfl)
theorem dX4_kindOf_29 : decode cX4_kindOf 29 = .ok (.goto 20, 3) := dk_167 0 20 (dk_at dksX4_kindOf_1 5 rfl rfl)
theorem dX4_kindOf_32 : decode cX4_kindOf 32 = .ok (.aload_n 0, 1) := dk_42 (dk_at dksX4_kindOf_1 8 rfl rfl)
theorem dX4_kindOf_33 : decode cX4_kindOf 33 = .ok (.iload_n 2, 1) := dk_28 (dk_at dksX4_kindOf_1 9 rfl rfl)
theorem dX4_kindOf_34 : decode cX4_kindOf 34 = .ok (.iconst 1, 1) := dk_4 (dk_at dksX4_kindOf_1 10 rfl rfl)
theorem dX4_kindOf_35 : decode cX4_kindOf 35 = .ok (.invokevirtual 42, 3) := dk_182 0 42 (dk_at dksX4_kindOf_1 11 rfl rfl)
theorem dX4_kindOf_38 : decode cX4_kindOf 38 = .ok (.iconst 1, 1) := dk_4 (dk_at dksX4_kindOf_1 14 rfl rfl)
theorem dX4_kindOf_39 : decode cX4_kindOf 39 = .ok (.if_icmp .ne 8, 3) := dk_160 0 8 (dk_at dksX4_kindOf_1 15 rfl rfl)
theorem dX4_kindOf_42 : decode cX4_kindOf 42 = .ok (.bipush 97, 2) := dk_16 97 (dk_at dksX4_kindOf_1 18 rfl rfl)
theorem dX4_kindOf_44 : decode cX4_kindOf 44 = .ok (.goto 5, 3) := dk_167 0 5 (dk_at dksX4_kindOf_1 20 rfl rfl)
theorem dX4_kindOf_47 : decode cX4_kindOf 47 = .ok (.bipush 108, 2) := dk_16 108 (dk_at dksX4_kindOf_2 0 rfl rfl)
theorem dX4_kindOf_49 : decode cX4_kindOf 49 = .ok (.ireturn, 1) := dk_172 (dk_at dksX4_kindOf_2 2 rfl rfl)
abbrev cX4_points : ByteArray := prog_18_method_45_code
def yX4_points : MethodName := ⟨RX4, "points", "(I)I"⟩
def dkwX4_points_0 : List UInt8 := [42, 27, 182, 0, 141, 153, 0, 16, 42, 42, 27, 182, 0, 138, 5, 182, 0, 42, 167, 0, 4, 2, 172]
abbrev dktX4_points_0 : List UInt8 := dkwX4_points_0 ++ []
theorem dksX4_points_0 : cX4_points.data.toList.drop 0 = dktX4_points_0 := by decide +kernel
theorem dX4_points_0 : decode cX4_points 0 = .ok (.aload_n 0, 1) := dk_42 (dk_at dksX4_points_0 0 rfl rfl)
theorem dX4_points_1 : decode cX4_points 1 = .ok (.iload_n 1, 1) := dk_27 (dk_at dksX4_points_0 1 rfl rfl)
theorem dX4_points_2 : decode cX4_points 2 = .ok (.invokevirtual 141, 3) := dk_182 0 141 (dk_at dksX4_points_0 2 rfl rfl)
theorem dX4_points_5 : decode cX4_points 5 = .ok (.ifCond .eq 16, 3) := dk_153 0 16 (dk_at dksX4_points_0 5 rfl rfl)
theorem dX4_points_8 : decode cX4_points 8 = .ok (.aload_n 0, 1) := dk_42 (dk_at dksX4_points_0 8 rfl rfl)
theorem dX4_points_9 : decode cX4_points 9 = .ok (.aload_n 0, 1) := dk_42 (dk_at dksX4_points_0 9 rfl rfl)
theorem dX4_points_10 : decode cX4_points 10 = .ok (.iload_n 1, 1) := dk_27 (dk_at dksX4_points_0 10 rfl rfl)
theorem dX4_points_11 : decode cX4_points 11 = .ok (.invokevirtual 138, 3) := dk_182 0 138 (dk_at dksX4_points_0 11 rfl rfl)
theorem dX4_points_14 : decode cX4_points 14 = .ok (.iconst 2, 1) := dk_5 (dk_at dksX4_points_0 14 rfl rfl)
theorem dX4_points_15 : decode cX4_points 15 = .ok (.invokevirtual 42, 3) := dk_182 0 42 (dk_at dksX4_points_0 15 rfl rfl)
theorem dX4_points_18 : decode cX4_points 18 = .ok (.goto 4, 3) := dk_167 0 4 (dk_at dksX4_points_0 18 rfl rfl)
theorem dX4_points_21 : decode cX4_points 21 = .ok (.iconst (-1), 1) := dk_2 (dk_at dksX4_points_0 21 rfl rfl)
theorem dX4_points_22 : decode cX4_points 22 = .ok (.ireturn, 1) := dk_172 (dk_at dksX4_points_0 22 rfl rfl)
abbrev cX4_xOf : ByteArray := prog_18_method_46_code
def yX4_xOf : MethodName := ⟨RX4, "xOf", "(II)I"⟩
def dkwX4_xOf_0 : List UInt8 := [42, 27, 28, 182, 0, 144, 153, 0, 16, 42, 42, 27, 182, 0, 138, 28, 182, 0, 65, 167, 0, 4, 2, 172]
abbrev dktX4_xOf_0 : List UInt8 := dkwX4_xOf_0 ++ []
theorem dksX4_xOf_0 : cX4_xOf.data.toList.drop 0 = dktX4_xOf_0 := by decide +kernel
theorem dX4_xOf_0 : decode cX4_xOf 0 = .ok (.aload_n 0, 1) := dk_42 (dk_at dksX4_xOf_0 0 rfl rfl)
theorem dX4_xOf_1 : decode cX4_xOf 1 = .ok (.iload_n 1, 1) := dk_27 (dk_at dksX4_xOf_0 1 rfl rfl)
theorem dX4_xOf_2 : decode cX4_xOf 2 = .ok (.iload_n 2, 1) := dk_28 (dk_at dksX4_xOf_0 2 rfl rfl)
theorem dX4_xOf_3 : decode cX4_xOf 3 = .ok (.invokevirtual 144, 3) := dk_182 0 144 (dk_at dksX4_xOf_0 3 rfl rfl)
theorem dX4_xOf_6 : decode cX4_xOf 6 = .ok (.ifCond .eq 16, 3) := dk_153 0 16 (dk_at dksX4_xOf_0 6 rfl rfl)
theorem dX4_xOf_9 : decode cX4_xOf 9 = .ok (.aload_n 0, 1) := dk_42 (dk_at dksX4_xOf_0 9 rfl rfl)
theorem dX4_xOf_10 : decode cX4_xOf 10 = .ok (.aload_n 0, 1) := dk_42 (dk_at dksX4_xOf_0 10 rfl rfl)
theorem dX4_xOf_11 : decode cX4_xOf 11 = .ok (.iload_n 1, 1) := dk_27 (dk_at dksX4_xOf_0 11 rfl rfl)
theorem dX4_xOf_12 : decode cX4_xOf 12 = .ok (.invokevirtual 138, 3) := dk_182 0 138 (dk_at dksX4_xOf_0 12 rfl rfl)
theorem dX4_xOf_15 : decode cX4_xOf 15 = .ok (.iload_n 2, 1) := dk_28 (dk_at dksX4_xOf_0 15 rfl rfl)
theorem dX4_xOf_16 : decode cX4_xOf 16 = .ok (.invokevirtual 65, 3) := dk_182 0 65 (dk_at dksX4_xOf_0 16 rfl rfl)
theorem dX4_xOf_19 : decode cX4_xOf 19 = .ok (.goto 4, 3) := dk_167 0 4 (dk_at dksX4_xOf_0 19 rfl rfl)
theorem dX4_xOf_22 : decode cX4_xOf 22 = .ok (.iconst (-1), 1) := dk_2 (dk_at dksX4_xOf_0 22 rfl rfl)
theorem dX4_xOf_23 : decode cX4_xOf 23 = .ok (.ireturn, 1) := dk_172 (dk_at dksX4_xOf_0 23 rfl rfl)
abbrev cX4_yOf : ByteArray := prog_18_method_47_code
def yX4_yOf : MethodName := ⟨RX4, "yOf", "(II)I"⟩
def dkwX4_yOf_0 : List UInt8 := [42, 27, 28, 182, 0, 144, 153, 0, 16, 42, 42, 27, 182, 0, 138, 28, 182, 0, 68, 167, 0, 4, 2, 172]
abbrev dktX4_yOf_0 : List UInt8 := dkwX4_yOf_0 ++ []
theorem dksX4_yOf_0 : cX4_yOf.data.toList.drop 0 = dktX4_yOf_0 := by decide +kernel
theorem dX4_yOf_0 : decode cX4_yOf 0 = .ok (.aload_n 0, 1) := dk_42 (dk_at dksX4_yOf_0 0 rfl rfl)
theorem dX4_yOf_1 : decode cX4_yOf 1 = .ok (.iload_n 1, 1) := dk_27 (dk_at dksX4_yOf_0 1 rfl rfl)
theorem dX4_yOf_2 : decode cX4_yOf 2 = .ok (.iload_n 2, 1) := dk_28 (dk_at dksX4_yOf_0 2 rfl rfl)
theorem dX4_yOf_3 : decode cX4_yOf 3 = .ok (.invokevirtual 144, 3) := dk_182 0 144 (dk_at dksX4_yOf_0 3 rfl rfl)
theorem dX4_yOf_6 : decode cX4_yOf 6 = .ok (.ifCond .eq 16, 3) := dk_153 0 16 (dk_at dksX4_yOf_0 6 rfl rfl)
theorem dX4_yOf_9 : decode cX4_yOf 9 = .ok (.aload_n 0, 1) := dk_42 (dk_at dksX4_yOf_0 9 rfl rfl)
theorem dX4_yOf_10 : decode cX4_yOf 10 = .ok (.aload_n 0, 1) := dk_42 (dk_at dksX4_yOf_0 10 rfl rfl)
theorem dX4_yOf_11 : decode cX4_yOf 11 = .ok (.iload_n 1, 1) := dk_27 (dk_at dksX4_yOf_0 11 rfl rfl)
theorem dX4_yOf_12 : decode cX4_yOf 12 = .ok (.invokevirtual 138, 3) := dk_182 0 138 (dk_at dksX4_yOf_0 12 rfl rfl)
theorem dX4_yOf_15 : decode cX4_yOf 15 = .ok (.iload_n 2, 1) := dk_28 (dk_at dksX4_yOf_0 15 rfl rfl)
theorem dX4_yOf_16 : decode cX4_yOf 16 = .ok (.invokevirtual 68, 3) := dk_182 0 68 (dk_at dksX4_yOf_0 16 rfl rfl)
theorem dX4_yOf_19 : decode cX4_yOf 19 = .ok (.goto 4, 3) := dk_167 0 4 (dk_at dksX4_yOf_0 19 rfl rfl)
theorem dX4_yOf_22 : decode cX4_yOf 22 = .ok (.iconst (-1), 1) := dk_2 (dk_at dksX4_yOf_0 22 rfl rfl)
theorem dX4_yOf_23 : decode cX4_yOf 23 = .ok (.ireturn, 1) := dk_172 (dk_at dksX4_yOf_0 23 rfl rfl)
abbrev cX4_isKept : ByteArray := prog_18_method_48_code
def yX4_isKept : MethodName := ⟨RX4, "isKept", "(III)Z"⟩
def dkwX4_isKept_2 : List UInt8 := [4, 167, 0, 4, 3, 172]
abbrev dktX4_isKept_2 : List UInt8 := dkwX4_isKept_2 ++ []
def dkwX4_isKept_1 : List UInt8 := [180, 0, 35, 154, 0, 25, 42, 42, 27, 182, 0, 138, 28, 182, 0, 105, 29, 122, 4, 126, 4, 160, 0, 7]
abbrev dktX4_isKept_1 : List UInt8 := dkwX4_isKept_1 ++ dktX4_isKept_2
def dkwX4_isKept_0 : List UInt8 := [42, 27, 29, 182, 0, 144, 153, 0, 15, 28, 184, 0, 54, 154, 0, 8, 42, 6, 181, 0, 35, 42]
abbrev dktX4_isKept_0 : List UInt8 := dkwX4_isKept_0 ++ dktX4_isKept_1
theorem dksX4_isKept_0 : cX4_isKept.data.toList.drop 0 = dktX4_isKept_0 := by decide +kernel
theorem dksX4_isKept_1 : cX4_isKept.data.toList.drop 22 = dktX4_isKept_1 := dk_seg dksX4_isKept_0 22 rfl rfl
theorem dksX4_isKept_2 : cX4_isKept.data.toList.drop 46 = dktX4_isKept_2 := dk_seg dksX4_isKept_1 24 rfl rfl
theorem dX4_isKept_0 : decode cX4_isKept 0 = .ok (.aload_n 0, 1) := dk_42 (dk_at dksX4_isKept_0 0 rfl rfl)
theorem dX4_isKept_1 : decode cX4_isKept 1 = .ok (.iload_n 1, 1) := dk_27 (dk_at dksX4_isKept_0 1 rfl rfl)
theorem dX4_isKept_2 : decode cX4_isKept 2 = .ok (.iload_n 3, 1) := dk_29 (dk_at dksX4_isKept_0 2 rfl rfl)
theorem dX4_isKept_3 : decode cX4_isKept 3 = .ok (.invokevirtual 144, 3) := dk_182 0 144 (dk_at dksX4_isKept_0 3 rfl rfl)
theorem dX4_isKept_6 : decode cX4_isKept 6 = .ok (.ifCond .eq 15, 3) := dk_153 0 15 (dk_at dksX4_isKept_0 6 rfl rfl)
theorem dX4_isKept_9 : decode cX4_isKept 9 = .ok (.iload_n 2, 1) := dk_28 (dk_at dksX4_isKept_0 9 rfl rfl)
theorem dX4_isKept_10 : decode cX4_isKept 10 = .ok (.invokestatic 54, 3) := dk_184 0 54 (dk_at dksX4_isKept_0 10 rfl rfl)
theorem dX4_isKept_13 : decode cX4_isKept 13 = .ok (.ifCond .ne 8, 3) := dk_154 0 8 (dk_at dksX4_isKept_0 13 rfl rfl)
theorem dX4_isKept_16 : decode cX4_isKept 16 = .ok (.aload_n 0, 1) := dk_42 (dk_at dksX4_isKept_0 16 rfl rfl)
theorem dX4_isKept_17 : decode cX4_isKept 17 = .ok (.iconst 3, 1) := dk_6 (dk_at dksX4_isKept_0 17 rfl rfl)
theorem dX4_isKept_18 : decode cX4_isKept 18 = .ok (.putfield 35, 3) := dk_181 0 35 (dk_at dksX4_isKept_0 18 rfl rfl)
theorem dX4_isKept_21 : decode cX4_isKept 21 = .ok (.aload_n 0, 1) := dk_42 (dk_at dksX4_isKept_0 21 rfl rfl)
theorem dX4_isKept_22 : decode cX4_isKept 22 = .ok (.getfield 35, 3) := dk_180 0 35 (dk_at dksX4_isKept_1 0 rfl rfl)
theorem dX4_isKept_25 : decode cX4_isKept 25 = .ok (.ifCond .ne 25, 3) := dk_154 0 25 (dk_at dksX4_isKept_1 3 rfl rfl)
theorem dX4_isKept_28 : decode cX4_isKept 28 = .ok (.aload_n 0, 1) := dk_42 (dk_at dksX4_isKept_1 6 rfl rfl)
theorem dX4_isKept_29 : decode cX4_isKept 29 = .ok (.aload_n 0, 1) := dk_42 (dk_at dksX4_isKept_1 7 rfl rfl)
theorem dX4_isKept_30 : decode cX4_isKept 30 = .ok (.iload_n 1, 1) := dk_27 (dk_at dksX4_isKept_1 8 rfl rfl)
theorem dX4_isKept_31 : decode cX4_isKept 31 = .ok (.invokevirtual 138, 3) := dk_182 0 138 (dk_at dksX4_isKept_1 9 rfl rfl)
theorem dX4_isKept_34 : decode cX4_isKept 34 = .ok (.iload_n 2, 1) := dk_28 (dk_at dksX4_isKept_1 12 rfl rfl)
theorem dX4_isKept_35 : decode cX4_isKept 35 = .ok (.invokevirtual 105, 3) := dk_182 0 105 (dk_at dksX4_isKept_1 13 rfl rfl)
theorem dX4_isKept_38 : decode cX4_isKept 38 = .ok (.iload_n 3, 1) := dk_29 (dk_at dksX4_isKept_1 16 rfl rfl)
theorem dX4_isKept_39 : decode cX4_isKept 39 = .ok (.ishr, 1) := dk_122 (dk_at dksX4_isKept_1 17 rfl rfl)
theorem dX4_isKept_40 : decode cX4_isKept 40 = .ok (.iconst 1, 1) := dk_4 (dk_at dksX4_isKept_1 18 rfl rfl)
theorem dX4_isKept_41 : decode cX4_isKept 41 = .ok (.iand, 1) := dk_126 (dk_at dksX4_isKept_1 19 rfl rfl)
theorem dX4_isKept_42 : decode cX4_isKept 42 = .ok (.iconst 1, 1) := dk_4 (dk_at dksX4_isKept_1 20 rfl rfl)
theorem dX4_isKept_43 : decode cX4_isKept 43 = .ok (.if_icmp .ne 7, 3) := dk_160 0 7 (dk_at dksX4_isKept_1 21 rfl rfl)
theorem dX4_isKept_46 : decode cX4_isKept 46 = .ok (.iconst 1, 1) := dk_4 (dk_at dksX4_isKept_2 0 rfl rfl)
theorem dX4_isKept_47 : decode cX4_isKept 47 = .ok (.goto 4, 3) := dk_167 0 4 (dk_at dksX4_isKept_2 1 rfl rfl)
theorem dX4_isKept_50 : decode cX4_isKept 50 = .ok (.iconst 0, 1) := dk_3 (dk_at dksX4_isKept_2 4 rfl rfl)
theorem dX4_isKept_51 : decode cX4_isKept 51 = .ok (.ireturn, 1) := dk_172 (dk_at dksX4_isKept_2 5 rfl rfl)
abbrev cX4_kept : ByteArray := prog_18_method_21_code
def yX4_kept : MethodName := ⟨RX4, "kept", "(II)I"⟩
def dkwX4_kept_3 : List UInt8 := [120, 128, 54, 4, 167, 255, 201, 21, 4, 172]
abbrev dktX4_kept_3 : List UInt8 := dkwX4_kept_3 ++ []
def dkwX4_kept_2 : List UInt8 := [46, 182, 0, 101, 54, 7, 21, 7, 2, 160, 0, 10, 21, 6, 54, 5, 167, 0, 12, 21, 4, 4, 21, 7]
abbrev dktX4_kept_2 : List UInt8 := dkwX4_kept_2 ++ dktX4_kept_3
def dkwX4_kept_1 : List UInt8 := [162, 0, 55, 42, 21, 4, 21, 5, 182, 0, 98, 54, 6, 42, 27, 21, 5, 21, 6, 42, 180, 0, 19, 28]
abbrev dktX4_kept_1 : List UInt8 := dkwX4_kept_1 ++ dktX4_kept_2
def dkwX4_kept_0 : List UInt8 := [42, 27, 5, 182, 0, 42, 4, 100, 62, 4, 4, 29, 120, 128, 54, 4, 3, 54, 5, 21, 5, 29]
abbrev dktX4_kept_0 : List UInt8 := dkwX4_kept_0 ++ dktX4_kept_1
theorem dksX4_kept_0 : cX4_kept.data.toList.drop 0 = dktX4_kept_0 := by decide +kernel
theorem dksX4_kept_1 : cX4_kept.data.toList.drop 22 = dktX4_kept_1 := dk_seg dksX4_kept_0 22 rfl rfl
theorem dksX4_kept_2 : cX4_kept.data.toList.drop 46 = dktX4_kept_2 := dk_seg dksX4_kept_1 24 rfl rfl
theorem dksX4_kept_3 : cX4_kept.data.toList.drop 70 = dktX4_kept_3 := dk_seg dksX4_kept_2 24 rfl rfl
theorem dX4_kept_0 : decode cX4_kept 0 = .ok (.aload_n 0, 1) := dk_42 (dk_at dksX4_kept_0 0 rfl rfl)
theorem dX4_kept_1 : decode cX4_kept 1 = .ok (.iload_n 1, 1) := dk_27 (dk_at dksX4_kept_0 1 rfl rfl)
theorem dX4_kept_2 : decode cX4_kept 2 = .ok (.iconst 2, 1) := dk_5 (dk_at dksX4_kept_0 2 rfl rfl)
theorem dX4_kept_3 : decode cX4_kept 3 = .ok (.invokevirtual 42, 3) := dk_182 0 42 (dk_at dksX4_kept_0 3 rfl rfl)
theorem dX4_kept_6 : decode cX4_kept 6 = .ok (.iconst 1, 1) := dk_4 (dk_at dksX4_kept_0 6 rfl rfl)
theorem dX4_kept_7 : decode cX4_kept 7 = .ok (.isub, 1) := dk_100 (dk_at dksX4_kept_0 7 rfl rfl)
theorem dX4_kept_8 : decode cX4_kept 8 = .ok (.istore_n 3, 1) := dk_62 (dk_at dksX4_kept_0 8 rfl rfl)
theorem dX4_kept_9 : decode cX4_kept 9 = .ok (.iconst 1, 1) := dk_4 (dk_at dksX4_kept_0 9 rfl rfl)
theorem dX4_kept_10 : decode cX4_kept 10 = .ok (.iconst 1, 1) := dk_4 (dk_at dksX4_kept_0 10 rfl rfl)
theorem dX4_kept_11 : decode cX4_kept 11 = .ok (.iload_n 3, 1) := dk_29 (dk_at dksX4_kept_0 11 rfl rfl)
theorem dX4_kept_12 : decode cX4_kept 12 = .ok (.ishl, 1) := dk_120 (dk_at dksX4_kept_0 12 rfl rfl)
theorem dX4_kept_13 : decode cX4_kept 13 = .ok (.ior, 1) := dk_128 (dk_at dksX4_kept_0 13 rfl rfl)
theorem dX4_kept_14 : decode cX4_kept 14 = .ok (.istore 4, 2) := dk_54 4 (dk_at dksX4_kept_0 14 rfl rfl)
theorem dX4_kept_16 : decode cX4_kept 16 = .ok (.iconst 0, 1) := dk_3 (dk_at dksX4_kept_0 16 rfl rfl)
theorem dX4_kept_17 : decode cX4_kept 17 = .ok (.istore 5, 2) := dk_54 5 (dk_at dksX4_kept_0 17 rfl rfl)
theorem dX4_kept_19 : decode cX4_kept 19 = .ok (.iload 5, 2) := dk_21 5 (dk_at dksX4_kept_0 19 rfl rfl)
theorem dX4_kept_21 : decode cX4_kept 21 = .ok (.iload_n 3, 1) := dk_29 (dk_at dksX4_kept_0 21 rfl rfl)
theorem dX4_kept_22 : decode cX4_kept 22 = .ok (.if_icmp .ge 55, 3) := dk_162 0 55 (dk_at dksX4_kept_1 0 rfl rfl)
theorem dX4_kept_25 : decode cX4_kept 25 = .ok (.aload_n 0, 1) := dk_42 (dk_at dksX4_kept_1 3 rfl rfl)
theorem dX4_kept_26 : decode cX4_kept 26 = .ok (.iload 4, 2) := dk_21 4 (dk_at dksX4_kept_1 4 rfl rfl)
theorem dX4_kept_28 : decode cX4_kept 28 = .ok (.iload 5, 2) := dk_21 5 (dk_at dksX4_kept_1 6 rfl rfl)
theorem dX4_kept_30 : decode cX4_kept 30 = .ok (.invokevirtual 98, 3) := dk_182 0 98 (dk_at dksX4_kept_1 8 rfl rfl)
theorem dX4_kept_33 : decode cX4_kept 33 = .ok (.istore 6, 2) := dk_54 6 (dk_at dksX4_kept_1 11 rfl rfl)
theorem dX4_kept_35 : decode cX4_kept 35 = .ok (.aload_n 0, 1) := dk_42 (dk_at dksX4_kept_1 13 rfl rfl)
theorem dX4_kept_36 : decode cX4_kept 36 = .ok (.iload_n 1, 1) := dk_27 (dk_at dksX4_kept_1 14 rfl rfl)
theorem dX4_kept_37 : decode cX4_kept 37 = .ok (.iload 5, 2) := dk_21 5 (dk_at dksX4_kept_1 15 rfl rfl)
theorem dX4_kept_39 : decode cX4_kept 39 = .ok (.iload 6, 2) := dk_21 6 (dk_at dksX4_kept_1 17 rfl rfl)
theorem dX4_kept_41 : decode cX4_kept 41 = .ok (.aload_n 0, 1) := dk_42 (dk_at dksX4_kept_1 19 rfl rfl)
theorem dX4_kept_42 : decode cX4_kept 42 = .ok (.getfield 19, 3) := dk_180 0 19 (dk_at dksX4_kept_1 20 rfl rfl)
theorem dX4_kept_45 : decode cX4_kept 45 = .ok (.iload_n 2, 1) := dk_28 (dk_at dksX4_kept_1 23 rfl rfl)
theorem dX4_kept_46 : decode cX4_kept 46 = .ok (.iaload, 1) := dk_46 (dk_at dksX4_kept_2 0 rfl rfl)
theorem dX4_kept_47 : decode cX4_kept 47 = .ok (.invokevirtual 101, 3) := dk_182 0 101 (dk_at dksX4_kept_2 1 rfl rfl)
theorem dX4_kept_50 : decode cX4_kept 50 = .ok (.istore 7, 2) := dk_54 7 (dk_at dksX4_kept_2 4 rfl rfl)
theorem dX4_kept_52 : decode cX4_kept 52 = .ok (.iload 7, 2) := dk_21 7 (dk_at dksX4_kept_2 6 rfl rfl)
theorem dX4_kept_54 : decode cX4_kept 54 = .ok (.iconst (-1), 1) := dk_2 (dk_at dksX4_kept_2 8 rfl rfl)
theorem dX4_kept_55 : decode cX4_kept 55 = .ok (.if_icmp .ne 10, 3) := dk_160 0 10 (dk_at dksX4_kept_2 9 rfl rfl)
theorem dX4_kept_58 : decode cX4_kept 58 = .ok (.iload 6, 2) := dk_21 6 (dk_at dksX4_kept_2 12 rfl rfl)
theorem dX4_kept_60 : decode cX4_kept 60 = .ok (.istore 5, 2) := dk_54 5 (dk_at dksX4_kept_2 14 rfl rfl)
theorem dX4_kept_62 : decode cX4_kept 62 = .ok (.goto 12, 3) := dk_167 0 12 (dk_at dksX4_kept_2 16 rfl rfl)
theorem dX4_kept_65 : decode cX4_kept 65 = .ok (.iload 4, 2) := dk_21 4 (dk_at dksX4_kept_2 19 rfl rfl)
theorem dX4_kept_67 : decode cX4_kept 67 = .ok (.iconst 1, 1) := dk_4 (dk_at dksX4_kept_2 21 rfl rfl)
theorem dX4_kept_68 : decode cX4_kept 68 = .ok (.iload 7, 2) := dk_21 7 (dk_at dksX4_kept_2 22 rfl rfl)
theorem dX4_kept_70 : decode cX4_kept 70 = .ok (.ishl, 1) := dk_120 (dk_at dksX4_kept_3 0 rfl rfl)
theorem dX4_kept_71 : decode cX4_kept 71 = .ok (.ior, 1) := dk_128 (dk_at dksX4_kept_3 1 rfl rfl)
theorem dX4_kept_72 : decode cX4_kept 72 = .ok (.istore 4, 2) := dk_54 4 (dk_at dksX4_kept_3 2 rfl rfl)
theorem dX4_kept_74 : decode cX4_kept 74 = .ok (.goto (-55), 3) := dk_167 255 201 (dk_at dksX4_kept_3 4 rfl rfl)
theorem dX4_kept_77 : decode cX4_kept 77 = .ok (.iload 4, 2) := dk_21 4 (dk_at dksX4_kept_3 7 rfl rfl)
theorem dX4_kept_79 : decode cX4_kept 79 = .ok (.ireturn, 1) := dk_172 (dk_at dksX4_kept_3 9 rfl rfl)
abbrev cX4_nextKept : ByteArray := prog_18_method_20_code
def yX4_nextKept : MethodName := ⟨RX4, "nextKept", "(II)I"⟩
def dkwX4_nextKept_0 : List UInt8 := [28, 4, 96, 62, 27, 29, 122, 4, 126, 154, 0, 9, 132, 3, 1, 167, 255, 245, 29, 172]
abbrev dktX4_nextKept_0 : List UInt8 := dkwX4_nextKept_0 ++ []
theorem dksX4_nextKept_0 : cX4_nextKept.data.toList.drop 0 = dktX4_nextKept_0 := by decide +kernel
theorem dX4_nextKept_0 : decode cX4_nextKept 0 = .ok (.iload_n 2, 1) := dk_28 (dk_at dksX4_nextKept_0 0 rfl rfl)
theorem dX4_nextKept_1 : decode cX4_nextKept 1 = .ok (.iconst 1, 1) := dk_4 (dk_at dksX4_nextKept_0 1 rfl rfl)
theorem dX4_nextKept_2 : decode cX4_nextKept 2 = .ok (.iadd, 1) := dk_96 (dk_at dksX4_nextKept_0 2 rfl rfl)
theorem dX4_nextKept_3 : decode cX4_nextKept 3 = .ok (.istore_n 3, 1) := dk_62 (dk_at dksX4_nextKept_0 3 rfl rfl)
theorem dX4_nextKept_4 : decode cX4_nextKept 4 = .ok (.iload_n 1, 1) := dk_27 (dk_at dksX4_nextKept_0 4 rfl rfl)
theorem dX4_nextKept_5 : decode cX4_nextKept 5 = .ok (.iload_n 3, 1) := dk_29 (dk_at dksX4_nextKept_0 5 rfl rfl)
theorem dX4_nextKept_6 : decode cX4_nextKept 6 = .ok (.ishr, 1) := dk_122 (dk_at dksX4_nextKept_0 6 rfl rfl)
theorem dX4_nextKept_7 : decode cX4_nextKept 7 = .ok (.iconst 1, 1) := dk_4 (dk_at dksX4_nextKept_0 7 rfl rfl)
theorem dX4_nextKept_8 : decode cX4_nextKept 8 = .ok (.iand, 1) := dk_126 (dk_at dksX4_nextKept_0 8 rfl rfl)
theorem dX4_nextKept_9 : decode cX4_nextKept 9 = .ok (.ifCond .ne 9, 3) := dk_154 0 9 (dk_at dksX4_nextKept_0 9 rfl rfl)
theorem dX4_nextKept_12 : decode cX4_nextKept 12 = .ok (.iinc 3 1, 3) := dk_132 3 1 (dk_at dksX4_nextKept_0 12 rfl rfl)
theorem dX4_nextKept_15 : decode cX4_nextKept 15 = .ok (.goto (-11), 3) := dk_167 255 245 (dk_at dksX4_nextKept_0 15 rfl rfl)
theorem dX4_nextKept_18 : decode cX4_nextKept 18 = .ok (.iload_n 3, 1) := dk_29 (dk_at dksX4_nextKept_0 18 rfl rfl)
theorem dX4_nextKept_19 : decode cX4_nextKept 19 = .ok (.ireturn, 1) := dk_172 (dk_at dksX4_nextKept_0 19 rfl rfl)
abbrev cX4_farthest : ByteArray := prog_18_method_19_code
def yX4_farthest : MethodName := ⟨RX4, "farthest", "(IIII)I"⟩
def dkwX4_farthest_6 : List UInt8 := [167, 0, 4, 3, 54, 8, 21, 6, 2, 159, 0, 13, 21, 8, 153, 0, 8, 21, 6, 167, 0, 4, 2, 172]
abbrev dktX4_farthest_6 : List UInt8 := dkwX4_farthest_6 ++ []
def dkwX4_farthest_5 : List UInt8 := [167, 0, 28, 3, 167, 0, 24, 21, 7, 21, 7, 104, 21, 4, 21, 4, 104, 21, 5, 104, 164, 0, 7, 4]
abbrev dktX4_farthest_5 : List UInt8 := dkwX4_farthest_5 ++ dktX4_farthest_6
def dkwX4_farthest_4 : List UInt8 := [132, 8, 1, 167, 255, 180, 21, 5, 154, 0, 21, 21, 7, 21, 4, 21, 4, 104, 164, 0, 7, 4]
abbrev dktX4_farthest_4 : List UInt8 := dkwX4_farthest_4 ++ dktX4_farthest_5
def dkwX4_farthest_3 : List UInt8 := [21, 7, 164, 0, 8, 21, 8, 167, 0, 5, 21, 6, 54, 6, 21, 7, 21, 9, 184, 0, 76, 54, 7]
abbrev dktX4_farthest_3 : List UInt8 := dkwX4_farthest_3 ++ dktX4_farthest_4
def dkwX4_farthest_2 : List UInt8 := [27, 21, 8, 182, 0, 65, 42, 27, 21, 8, 182, 0, 68, 182, 0, 91, 184, 0, 95, 54, 9, 21, 9]
abbrev dktX4_farthest_2 : List UInt8 := dkwX4_farthest_2 ++ dktX4_farthest_3
def dkwX4_farthest_1 : List UInt8 := [162, 0, 76, 21, 5, 154, 0, 14, 42, 27, 21, 8, 28, 182, 0, 87, 167, 0, 27, 42, 27, 28, 29, 42]
abbrev dktX4_farthest_1 : List UInt8 := dkwX4_farthest_1 ++ dktX4_farthest_2
def dkwX4_farthest_0 : List UInt8 := [42, 27, 28, 29, 182, 0, 87, 54, 5, 2, 54, 6, 2, 54, 7, 28, 4, 96, 54, 8, 21, 8, 29]
abbrev dktX4_farthest_0 : List UInt8 := dkwX4_farthest_0 ++ dktX4_farthest_1
theorem dksX4_farthest_0 : cX4_farthest.data.toList.drop 0 = dktX4_farthest_0 := by decide +kernel
theorem dksX4_farthest_1 : cX4_farthest.data.toList.drop 23 = dktX4_farthest_1 := dk_seg dksX4_farthest_0 23 rfl rfl
theorem dksX4_farthest_2 : cX4_farthest.data.toList.drop 47 = dktX4_farthest_2 := dk_seg dksX4_farthest_1 24 rfl rfl
theorem dksX4_farthest_3 : cX4_farthest.data.toList.drop 70 = dktX4_farthest_3 := dk_seg dksX4_farthest_2 23 rfl rfl
theorem dksX4_farthest_4 : cX4_farthest.data.toList.drop 93 = dktX4_farthest_4 := dk_seg dksX4_farthest_3 23 rfl rfl
theorem dksX4_farthest_5 : cX4_farthest.data.toList.drop 115 = dktX4_farthest_5 := dk_seg dksX4_farthest_4 22 rfl rfl
theorem dksX4_farthest_6 : cX4_farthest.data.toList.drop 139 = dktX4_farthest_6 := dk_seg dksX4_farthest_5 24 rfl rfl
theorem dX4_farthest_0 : decode cX4_farthest 0 = .ok (.aload_n 0, 1) := dk_42 (dk_at dksX4_farthest_0 0 rfl rfl)
theorem dX4_farthest_1 : decode cX4_farthest 1 = .ok (.iload_n 1, 1) := dk_27 (dk_at dksX4_farthest_0 1 rfl rfl)
theorem dX4_farthest_2 : decode cX4_farthest 2 = .ok (.iload_n 2, 1) := dk_28 (dk_at dksX4_farthest_0 2 rfl rfl)
theorem dX4_farthest_3 : decode cX4_farthest 3 = .ok (.iload_n 3, 1) := dk_29 (dk_at dksX4_farthest_0 3 rfl rfl)
theorem dX4_farthest_4 : decode cX4_farthest 4 = .ok (.invokevirtual 87, 3) := dk_182 0 87 (dk_at dksX4_farthest_0 4 rfl rfl)
theorem dX4_farthest_7 : decode cX4_farthest 7 = .ok (.istore 5, 2) := dk_54 5 (dk_at dksX4_farthest_0 7 rfl rfl)
theorem dX4_farthest_9 : decode cX4_farthest 9 = .ok (.iconst (-1), 1) := dk_2 (dk_at dksX4_farthest_0 9 rfl rfl)
theorem dX4_farthest_10 : decode cX4_farthest 10 = .ok (.istore 6, 2) := dk_54 6 (dk_at dksX4_farthest_0 10 rfl rfl)
theorem dX4_farthest_12 : decode cX4_farthest 12 = .ok (.iconst (-1), 1) := dk_2 (dk_at dksX4_farthest_0 12 rfl rfl)
theorem dX4_farthest_13 : decode cX4_farthest 13 = .ok (.istore 7, 2) := dk_54 7 (dk_at dksX4_farthest_0 13 rfl rfl)
theorem dX4_farthest_15 : decode cX4_farthest 15 = .ok (.iload_n 2, 1) := dk_28 (dk_at dksX4_farthest_0 15 rfl rfl)
theorem dX4_farthest_16 : decode cX4_farthest 16 = .ok (.iconst 1, 1) := dk_4 (dk_at dksX4_farthest_0 16 rfl rfl)
theorem dX4_farthest_17 : decode cX4_farthest 17 = .ok (.iadd, 1) := dk_96 (dk_at dksX4_farthest_0 17 rfl rfl)
theorem dX4_farthest_18 : decode cX4_farthest 18 = .ok (.istore 8, 2) := dk_54 8 (dk_at dksX4_farthest_0 18 rfl rfl)
theorem dX4_farthest_20 : decode cX4_farthest 20 = .ok (.iload 8, 2) := dk_21 8 (dk_at dksX4_farthest_0 20 rfl rfl)
theorem dX4_farthest_22 : decode cX4_farthest 22 = .ok (.iload_n 3, 1) := dk_29 (dk_at dksX4_farthest_0 22 rfl rfl)
theorem dX4_farthest_23 : decode cX4_farthest 23 = .ok (.if_icmp .ge 76, 3) := dk_162 0 76 (dk_at dksX4_farthest_1 0 rfl rfl)
theorem dX4_farthest_26 : decode cX4_farthest 26 = .ok (.iload 5, 2) := dk_21 5 (dk_at dksX4_farthest_1 3 rfl rfl)
theorem dX4_farthest_28 : decode cX4_farthest 28 = .ok (.ifCond .ne 14, 3) := dk_154 0 14 (dk_at dksX4_farthest_1 5 rfl rfl)
theorem dX4_farthest_31 : decode cX4_farthest 31 = .ok (.aload_n 0, 1) := dk_42 (dk_at dksX4_farthest_1 8 rfl rfl)
theorem dX4_farthest_32 : decode cX4_farthest 32 = .ok (.iload_n 1, 1) := dk_27 (dk_at dksX4_farthest_1 9 rfl rfl)
theorem dX4_farthest_33 : decode cX4_farthest 33 = .ok (.iload 8, 2) := dk_21 8 (dk_at dksX4_farthest_1 10 rfl rfl)
theorem dX4_farthest_35 : decode cX4_farthest 35 = .ok (.iload_n 2, 1) := dk_28 (dk_at dksX4_farthest_1 12 rfl rfl)
theorem dX4_farthest_36 : decode cX4_farthest 36 = .ok (.invokevirtual 87, 3) := dk_182 0 87 (dk_at dksX4_farthest_1 13 rfl rfl)
theorem dX4_farthest_39 : decode cX4_farthest 39 = .ok (.goto 27, 3) := dk_167 0 27 (dk_at dksX4_farthest_1 16 rfl rfl)
theorem dX4_farthest_42 : decode cX4_farthest 42 = .ok (.aload_n 0, 1) := dk_42 (dk_at dksX4_farthest_1 19 rfl rfl)
theorem dX4_farthest_43 : decode cX4_farthest 43 = .ok (.iload_n 1, 1) := dk_27 (dk_at dksX4_farthest_1 20 rfl rfl)
theorem dX4_farthest_44 : decode cX4_farthest 44 = .ok (.iload_n 2, 1) := dk_28 (dk_at dksX4_farthest_1 21 rfl rfl)
theorem dX4_farthest_45 : decode cX4_farthest 45 = .ok (.iload_n 3, 1) := dk_29 (dk_at dksX4_farthest_1 22 rfl rfl)
theorem dX4_farthest_46 : decode cX4_farthest 46 = .ok (.aload_n 0, 1) := dk_42 (dk_at dksX4_farthest_1 23 rfl rfl)
theorem dX4_farthest_47 : decode cX4_farthest 47 = .ok (.iload_n 1, 1) := dk_27 (dk_at dksX4_farthest_2 0 rfl rfl)
theorem dX4_farthest_48 : decode cX4_farthest 48 = .ok (.iload 8, 2) := dk_21 8 (dk_at dksX4_farthest_2 1 rfl rfl)
theorem dX4_farthest_50 : decode cX4_farthest 50 = .ok (.invokevirtual 65, 3) := dk_182 0 65 (dk_at dksX4_farthest_2 3 rfl rfl)
theorem dX4_farthest_53 : decode cX4_farthest 53 = .ok (.aload_n 0, 1) := dk_42 (dk_at dksX4_farthest_2 6 rfl rfl)
theorem dX4_farthest_54 : decode cX4_farthest 54 = .ok (.iload_n 1, 1) := dk_27 (dk_at dksX4_farthest_2 7 rfl rfl)
theorem dX4_farthest_55 : decode cX4_farthest 55 = .ok (.iload 8, 2) := dk_21 8 (dk_at dksX4_farthest_2 8 rfl rfl)
theorem dX4_farthest_57 : decode cX4_farthest 57 = .ok (.invokevirtual 68, 3) := dk_182 0 68 (dk_at dksX4_farthest_2 10 rfl rfl)
theorem dX4_farthest_60 : decode cX4_farthest 60 = .ok (.invokevirtual 91, 3) := dk_182 0 91 (dk_at dksX4_farthest_2 13 rfl rfl)
theorem dX4_farthest_63 : decode cX4_farthest 63 = .ok (.invokestatic 95, 3) := dk_184 0 95 (dk_at dksX4_farthest_2 16 rfl rfl)
theorem dX4_farthest_66 : decode cX4_farthest 66 = .ok (.istore 9, 2) := dk_54 9 (dk_at dksX4_farthest_2 19 rfl rfl)
theorem dX4_farthest_68 : decode cX4_farthest 68 = .ok (.iload 9, 2) := dk_21 9 (dk_at dksX4_farthest_2 21 rfl rfl)
theorem dX4_farthest_70 : decode cX4_farthest 70 = .ok (.iload 7, 2) := dk_21 7 (dk_at dksX4_farthest_3 0 rfl rfl)
theorem dX4_farthest_72 : decode cX4_farthest 72 = .ok (.if_icmp .le 8, 3) := dk_164 0 8 (dk_at dksX4_farthest_3 2 rfl rfl)
theorem dX4_farthest_75 : decode cX4_farthest 75 = .ok (.iload 8, 2) := dk_21 8 (dk_at dksX4_farthest_3 5 rfl rfl)
theorem dX4_farthest_77 : decode cX4_farthest 77 = .ok (.goto 5, 3) := dk_167 0 5 (dk_at dksX4_farthest_3 7 rfl rfl)
theorem dX4_farthest_80 : decode cX4_farthest 80 = .ok (.iload 6, 2) := dk_21 6 (dk_at dksX4_farthest_3 10 rfl rfl)
theorem dX4_farthest_82 : decode cX4_farthest 82 = .ok (.istore 6, 2) := dk_54 6 (dk_at dksX4_farthest_3 12 rfl rfl)
theorem dX4_farthest_84 : decode cX4_farthest 84 = .ok (.iload 7, 2) := dk_21 7 (dk_at dksX4_farthest_3 14 rfl rfl)
theorem dX4_farthest_86 : decode cX4_farthest 86 = .ok (.iload 9, 2) := dk_21 9 (dk_at dksX4_farthest_3 16 rfl rfl)
theorem dX4_farthest_88 : decode cX4_farthest 88 = .ok (.invokestatic 76, 3) := dk_184 0 76 (dk_at dksX4_farthest_3 18 rfl rfl)
theorem dX4_farthest_91 : decode cX4_farthest 91 = .ok (.istore 7, 2) := dk_54 7 (dk_at dksX4_farthest_3 21 rfl rfl)
theorem dX4_farthest_93 : decode cX4_farthest 93 = .ok (.iinc 8 1, 3) := dk_132 8 1 (dk_at dksX4_farthest_4 0 rfl rfl)
theorem dX4_farthest_96 : decode cX4_farthest 96 = .ok (.goto (-76), 3) := dk_167 255 180 (dk_at dksX4_farthest_4 3 rfl rfl)
theorem dX4_farthest_99 : decode cX4_farthest 99 = .ok (.iload 5, 2) := dk_21 5 (dk_at dksX4_farthest_4 6 rfl rfl)
theorem dX4_farthest_101 : decode cX4_farthest 101 = .ok (.ifCond .ne 21, 3) := dk_154 0 21 (dk_at dksX4_farthest_4 8 rfl rfl)
theorem dX4_farthest_104 : decode cX4_farthest 104 = .ok (.iload 7, 2) := dk_21 7 (dk_at dksX4_farthest_4 11 rfl rfl)
theorem dX4_farthest_106 : decode cX4_farthest 106 = .ok (.iload 4, 2) := dk_21 4 (dk_at dksX4_farthest_4 13 rfl rfl)
theorem dX4_farthest_108 : decode cX4_farthest 108 = .ok (.iload 4, 2) := dk_21 4 (dk_at dksX4_farthest_4 15 rfl rfl)
theorem dX4_farthest_110 : decode cX4_farthest 110 = .ok (.imul, 1) := dk_104 (dk_at dksX4_farthest_4 17 rfl rfl)
theorem dX4_farthest_111 : decode cX4_farthest 111 = .ok (.if_icmp .le 7, 3) := dk_164 0 7 (dk_at dksX4_farthest_4 18 rfl rfl)
theorem dX4_farthest_114 : decode cX4_farthest 114 = .ok (.iconst 1, 1) := dk_4 (dk_at dksX4_farthest_4 21 rfl rfl)
theorem dX4_farthest_115 : decode cX4_farthest 115 = .ok (.goto 28, 3) := dk_167 0 28 (dk_at dksX4_farthest_5 0 rfl rfl)
theorem dX4_farthest_118 : decode cX4_farthest 118 = .ok (.iconst 0, 1) := dk_3 (dk_at dksX4_farthest_5 3 rfl rfl)
theorem dX4_farthest_119 : decode cX4_farthest 119 = .ok (.goto 24, 3) := dk_167 0 24 (dk_at dksX4_farthest_5 4 rfl rfl)
theorem dX4_farthest_122 : decode cX4_farthest 122 = .ok (.iload 7, 2) := dk_21 7 (dk_at dksX4_farthest_5 7 rfl rfl)
theorem dX4_farthest_124 : decode cX4_farthest 124 = .ok (.iload 7, 2) := dk_21 7 (dk_at dksX4_farthest_5 9 rfl rfl)
theorem dX4_farthest_126 : decode cX4_farthest 126 = .ok (.imul, 1) := dk_104 (dk_at dksX4_farthest_5 11 rfl rfl)
theorem dX4_farthest_127 : decode cX4_farthest 127 = .ok (.iload 4, 2) := dk_21 4 (dk_at dksX4_farthest_5 12 rfl rfl)
theorem dX4_farthest_129 : decode cX4_farthest 129 = .ok (.iload 4, 2) := dk_21 4 (dk_at dksX4_farthest_5 14 rfl rfl)
theorem dX4_farthest_131 : decode cX4_farthest 131 = .ok (.imul, 1) := dk_104 (dk_at dksX4_farthest_5 16 rfl rfl)
theorem dX4_farthest_132 : decode cX4_farthest 132 = .ok (.iload 5, 2) := dk_21 5 (dk_at dksX4_farthest_5 17 rfl rfl)
theorem dX4_farthest_134 : decode cX4_farthest 134 = .ok (.imul, 1) := dk_104 (dk_at dksX4_farthest_5 19 rfl rfl)
theorem dX4_farthest_135 : decode cX4_farthest 135 = .ok (.if_icmp .le 7, 3) := dk_164 0 7 (dk_at dksX4_farthest_5 20 rfl rfl)
theorem dX4_farthest_138 : decode cX4_farthest 138 = .ok (.iconst 1, 1) := dk_4 (dk_at dksX4_farthest_5 23 rfl rfl)
theorem dX4_farthest_139 : decode cX4_farthest 139 = .ok (.goto 4, 3) := dk_167 0 4 (dk_at dksX4_farthest_6 0 rfl rfl)
theorem dX4_farthest_142 : decode cX4_farthest 142 = .ok (.iconst 0, 1) := dk_3 (dk_at dksX4_farthest_6 3 rfl rfl)
theorem dX4_farthest_143 : decode cX4_farthest 143 = .ok (.istore 8, 2) := dk_54 8 (dk_at dksX4_farthest_6 4 rfl rfl)
theorem dX4_farthest_145 : decode cX4_farthest 145 = .ok (.iload 6, 2) := dk_21 6 (dk_at dksX4_farthest_6 6 rfl rfl)
theorem dX4_farthest_147 : decode cX4_farthest 147 = .ok (.iconst (-1), 1) := dk_2 (dk_at dksX4_farthest_6 8 rfl rfl)
theorem dX4_farthest_148 : decode cX4_farthest 148 = .ok (.if_icmp .eq 13, 3) := dk_159 0 13 (dk_at dksX4_farthest_6 9 rfl rfl)
theorem dX4_farthest_151 : decode cX4_farthest 151 = .ok (.iload 8, 2) := dk_21 8 (dk_at dksX4_farthest_6 12 rfl rfl)
theorem dX4_farthest_153 : decode cX4_farthest 153 = .ok (.ifCond .eq 8, 3) := dk_153 0 8 (dk_at dksX4_farthest_6 14 rfl rfl)
theorem dX4_farthest_156 : decode cX4_farthest 156 = .ok (.iload 6, 2) := dk_21 6 (dk_at dksX4_farthest_6 17 rfl rfl)
theorem dX4_farthest_158 : decode cX4_farthest 158 = .ok (.goto 4, 3) := dk_167 0 4 (dk_at dksX4_farthest_6 19 rfl rfl)
theorem dX4_farthest_161 : decode cX4_farthest 161 = .ok (.iconst (-1), 1) := dk_2 (dk_at dksX4_farthest_6 22 rfl rfl)
theorem dX4_farthest_162 : decode cX4_farthest 162 = .ok (.ireturn, 1) := dk_172 (dk_at dksX4_farthest_6 23 rfl rfl)
abbrev cX4_squared : ByteArray := prog_18_method_18_code
def yX4_squared : MethodName := ⟨RX4, "squared", "(III)I"⟩
def dkwX4_squared_1 : List UInt8 := [182, 0, 68, 100, 54, 5, 21, 4, 21, 4, 104, 21, 5, 21, 5, 104, 96, 172]
abbrev dktX4_squared_1 : List UInt8 := dkwX4_squared_1 ++ []
def dkwX4_squared_0 : List UInt8 := [42, 27, 28, 182, 0, 65, 42, 27, 29, 182, 0, 65, 100, 54, 4, 42, 27, 28, 182, 0, 68, 42, 27, 29]
abbrev dktX4_squared_0 : List UInt8 := dkwX4_squared_0 ++ dktX4_squared_1
theorem dksX4_squared_0 : cX4_squared.data.toList.drop 0 = dktX4_squared_0 := by decide +kernel
theorem dksX4_squared_1 : cX4_squared.data.toList.drop 24 = dktX4_squared_1 := dk_seg dksX4_squared_0 24 rfl rfl
theorem dX4_squared_0 : decode cX4_squared 0 = .ok (.aload_n 0, 1) := dk_42 (dk_at dksX4_squared_0 0 rfl rfl)
theorem dX4_squared_1 : decode cX4_squared 1 = .ok (.iload_n 1, 1) := dk_27 (dk_at dksX4_squared_0 1 rfl rfl)
theorem dX4_squared_2 : decode cX4_squared 2 = .ok (.iload_n 2, 1) := dk_28 (dk_at dksX4_squared_0 2 rfl rfl)
theorem dX4_squared_3 : decode cX4_squared 3 = .ok (.invokevirtual 65, 3) := dk_182 0 65 (dk_at dksX4_squared_0 3 rfl rfl)
theorem dX4_squared_6 : decode cX4_squared 6 = .ok (.aload_n 0, 1) := dk_42 (dk_at dksX4_squared_0 6 rfl rfl)
theorem dX4_squared_7 : decode cX4_squared 7 = .ok (.iload_n 1, 1) := dk_27 (dk_at dksX4_squared_0 7 rfl rfl)
theorem dX4_squared_8 : decode cX4_squared 8 = .ok (.iload_n 3, 1) := dk_29 (dk_at dksX4_squared_0 8 rfl rfl)
theorem dX4_squared_9 : decode cX4_squared 9 = .ok (.invokevirtual 65, 3) := dk_182 0 65 (dk_at dksX4_squared_0 9 rfl rfl)
theorem dX4_squared_12 : decode cX4_squared 12 = .ok (.isub, 1) := dk_100 (dk_at dksX4_squared_0 12 rfl rfl)
theorem dX4_squared_13 : decode cX4_squared 13 = .ok (.istore 4, 2) := dk_54 4 (dk_at dksX4_squared_0 13 rfl rfl)
theorem dX4_squared_15 : decode cX4_squared 15 = .ok (.aload_n 0, 1) := dk_42 (dk_at dksX4_squared_0 15 rfl rfl)
theorem dX4_squared_16 : decode cX4_squared 16 = .ok (.iload_n 1, 1) := dk_27 (dk_at dksX4_squared_0 16 rfl rfl)
theorem dX4_squared_17 : decode cX4_squared 17 = .ok (.iload_n 2, 1) := dk_28 (dk_at dksX4_squared_0 17 rfl rfl)
theorem dX4_squared_18 : decode cX4_squared 18 = .ok (.invokevirtual 68, 3) := dk_182 0 68 (dk_at dksX4_squared_0 18 rfl rfl)
theorem dX4_squared_21 : decode cX4_squared 21 = .ok (.aload_n 0, 1) := dk_42 (dk_at dksX4_squared_0 21 rfl rfl)
theorem dX4_squared_22 : decode cX4_squared 22 = .ok (.iload_n 1, 1) := dk_27 (dk_at dksX4_squared_0 22 rfl rfl)
theorem dX4_squared_23 : decode cX4_squared 23 = .ok (.iload_n 3, 1) := dk_29 (dk_at dksX4_squared_0 23 rfl rfl)
theorem dX4_squared_24 : decode cX4_squared 24 = .ok (.invokevirtual 68, 3) := dk_182 0 68 (dk_at dksX4_squared_1 0 rfl rfl)
theorem dX4_squared_27 : decode cX4_squared 27 = .ok (.isub, 1) := dk_100 (dk_at dksX4_squared_1 3 rfl rfl)
theorem dX4_squared_28 : decode cX4_squared 28 = .ok (.istore 5, 2) := dk_54 5 (dk_at dksX4_squared_1 4 rfl rfl)
theorem dX4_squared_30 : decode cX4_squared 30 = .ok (.iload 4, 2) := dk_21 4 (dk_at dksX4_squared_1 6 rfl rfl)
theorem dX4_squared_32 : decode cX4_squared 32 = .ok (.iload 4, 2) := dk_21 4 (dk_at dksX4_squared_1 8 rfl rfl)
theorem dX4_squared_34 : decode cX4_squared 34 = .ok (.imul, 1) := dk_104 (dk_at dksX4_squared_1 10 rfl rfl)
theorem dX4_squared_35 : decode cX4_squared 35 = .ok (.iload 5, 2) := dk_21 5 (dk_at dksX4_squared_1 11 rfl rfl)
theorem dX4_squared_37 : decode cX4_squared 37 = .ok (.iload 5, 2) := dk_21 5 (dk_at dksX4_squared_1 13 rfl rfl)
theorem dX4_squared_39 : decode cX4_squared 39 = .ok (.imul, 1) := dk_104 (dk_at dksX4_squared_1 15 rfl rfl)
theorem dX4_squared_40 : decode cX4_squared 40 = .ok (.iadd, 1) := dk_96 (dk_at dksX4_squared_1 16 rfl rfl)
theorem dX4_squared_41 : decode cX4_squared 41 = .ok (.ireturn, 1) := dk_172 (dk_at dksX4_squared_1 17 rfl rfl)
abbrev cX4_cross : ByteArray := prog_18_method_17_code
def yX4_cross : MethodName := ⟨RX4, "cross", "(IIIII)I"⟩
def dkwX4_cross_1 : List UInt8 := [27, 29, 182, 0, 68, 42, 27, 28, 182, 0, 68, 100, 21, 4, 42, 27, 28, 182, 0, 65, 100, 104, 100, 172]
abbrev dktX4_cross_1 : List UInt8 := dkwX4_cross_1 ++ []
def dkwX4_cross_0 : List UInt8 := [42, 27, 29, 182, 0, 65, 42, 27, 28, 182, 0, 65, 100, 21, 5, 42, 27, 28, 182, 0, 68, 100, 104, 42]
abbrev dktX4_cross_0 : List UInt8 := dkwX4_cross_0 ++ dktX4_cross_1
theorem dksX4_cross_0 : cX4_cross.data.toList.drop 0 = dktX4_cross_0 := by decide +kernel
theorem dksX4_cross_1 : cX4_cross.data.toList.drop 24 = dktX4_cross_1 := dk_seg dksX4_cross_0 24 rfl rfl
theorem dX4_cross_0 : decode cX4_cross 0 = .ok (.aload_n 0, 1) := dk_42 (dk_at dksX4_cross_0 0 rfl rfl)
theorem dX4_cross_1 : decode cX4_cross 1 = .ok (.iload_n 1, 1) := dk_27 (dk_at dksX4_cross_0 1 rfl rfl)
theorem dX4_cross_2 : decode cX4_cross 2 = .ok (.iload_n 3, 1) := dk_29 (dk_at dksX4_cross_0 2 rfl rfl)
theorem dX4_cross_3 : decode cX4_cross 3 = .ok (.invokevirtual 65, 3) := dk_182 0 65 (dk_at dksX4_cross_0 3 rfl rfl)
theorem dX4_cross_6 : decode cX4_cross 6 = .ok (.aload_n 0, 1) := dk_42 (dk_at dksX4_cross_0 6 rfl rfl)
theorem dX4_cross_7 : decode cX4_cross 7 = .ok (.iload_n 1, 1) := dk_27 (dk_at dksX4_cross_0 7 rfl rfl)
theorem dX4_cross_8 : decode cX4_cross 8 = .ok (.iload_n 2, 1) := dk_28 (dk_at dksX4_cross_0 8 rfl rfl)
theorem dX4_cross_9 : decode cX4_cross 9 = .ok (.invokevirtual 65, 3) := dk_182 0 65 (dk_at dksX4_cross_0 9 rfl rfl)
theorem dX4_cross_12 : decode cX4_cross 12 = .ok (.isub, 1) := dk_100 (dk_at dksX4_cross_0 12 rfl rfl)
theorem dX4_cross_13 : decode cX4_cross 13 = .ok (.iload 5, 2) := dk_21 5 (dk_at dksX4_cross_0 13 rfl rfl)
theorem dX4_cross_15 : decode cX4_cross 15 = .ok (.aload_n 0, 1) := dk_42 (dk_at dksX4_cross_0 15 rfl rfl)
theorem dX4_cross_16 : decode cX4_cross 16 = .ok (.iload_n 1, 1) := dk_27 (dk_at dksX4_cross_0 16 rfl rfl)
theorem dX4_cross_17 : decode cX4_cross 17 = .ok (.iload_n 2, 1) := dk_28 (dk_at dksX4_cross_0 17 rfl rfl)
theorem dX4_cross_18 : decode cX4_cross 18 = .ok (.invokevirtual 68, 3) := dk_182 0 68 (dk_at dksX4_cross_0 18 rfl rfl)
theorem dX4_cross_21 : decode cX4_cross 21 = .ok (.isub, 1) := dk_100 (dk_at dksX4_cross_0 21 rfl rfl)
theorem dX4_cross_22 : decode cX4_cross 22 = .ok (.imul, 1) := dk_104 (dk_at dksX4_cross_0 22 rfl rfl)
theorem dX4_cross_23 : decode cX4_cross 23 = .ok (.aload_n 0, 1) := dk_42 (dk_at dksX4_cross_0 23 rfl rfl)
theorem dX4_cross_24 : decode cX4_cross 24 = .ok (.iload_n 1, 1) := dk_27 (dk_at dksX4_cross_1 0 rfl rfl)
theorem dX4_cross_25 : decode cX4_cross 25 = .ok (.iload_n 3, 1) := dk_29 (dk_at dksX4_cross_1 1 rfl rfl)
theorem dX4_cross_26 : decode cX4_cross 26 = .ok (.invokevirtual 68, 3) := dk_182 0 68 (dk_at dksX4_cross_1 2 rfl rfl)
theorem dX4_cross_29 : decode cX4_cross 29 = .ok (.aload_n 0, 1) := dk_42 (dk_at dksX4_cross_1 5 rfl rfl)
theorem dX4_cross_30 : decode cX4_cross 30 = .ok (.iload_n 1, 1) := dk_27 (dk_at dksX4_cross_1 6 rfl rfl)
theorem dX4_cross_31 : decode cX4_cross 31 = .ok (.iload_n 2, 1) := dk_28 (dk_at dksX4_cross_1 7 rfl rfl)
theorem dX4_cross_32 : decode cX4_cross 32 = .ok (.invokevirtual 68, 3) := dk_182 0 68 (dk_at dksX4_cross_1 8 rfl rfl)
theorem dX4_cross_35 : decode cX4_cross 35 = .ok (.isub, 1) := dk_100 (dk_at dksX4_cross_1 11 rfl rfl)
theorem dX4_cross_36 : decode cX4_cross 36 = .ok (.iload 4, 2) := dk_21 4 (dk_at dksX4_cross_1 12 rfl rfl)
theorem dX4_cross_38 : decode cX4_cross 38 = .ok (.aload_n 0, 1) := dk_42 (dk_at dksX4_cross_1 14 rfl rfl)
theorem dX4_cross_39 : decode cX4_cross 39 = .ok (.iload_n 1, 1) := dk_27 (dk_at dksX4_cross_1 15 rfl rfl)
theorem dX4_cross_40 : decode cX4_cross 40 = .ok (.iload_n 2, 1) := dk_28 (dk_at dksX4_cross_1 16 rfl rfl)
theorem dX4_cross_41 : decode cX4_cross 41 = .ok (.invokevirtual 65, 3) := dk_182 0 65 (dk_at dksX4_cross_1 17 rfl rfl)
theorem dX4_cross_44 : decode cX4_cross 44 = .ok (.isub, 1) := dk_100 (dk_at dksX4_cross_1 20 rfl rfl)
theorem dX4_cross_45 : decode cX4_cross 45 = .ok (.imul, 1) := dk_104 (dk_at dksX4_cross_1 21 rfl rfl)
theorem dX4_cross_46 : decode cX4_cross 46 = .ok (.isub, 1) := dk_100 (dk_at dksX4_cross_1 22 rfl rfl)
theorem dX4_cross_47 : decode cX4_cross 47 = .ok (.ireturn, 1) := dk_172 (dk_at dksX4_cross_1 23 rfl rfl)
abbrev cX4_isKeptByMarks : ByteArray := prog_18_method_49_code
def yX4_isKeptByMarks : MethodName := ⟨RX4, "isKeptByMarks", "(III)Z"⟩
def dkwX4_isKeptByMarks_0 : List UInt8 := [42, 27, 28, 29, 182, 0, 164, 172]
abbrev dktX4_isKeptByMarks_0 : List UInt8 := dkwX4_isKeptByMarks_0 ++ []
theorem dksX4_isKeptByMarks_0 : cX4_isKeptByMarks.data.toList.drop 0 = dktX4_isKeptByMarks_0 := by decide +kernel
theorem dX4_isKeptByMarks_0 : decode cX4_isKeptByMarks 0 = .ok (.aload_n 0, 1) := dk_42 (dk_at dksX4_isKeptByMarks_0 0 rfl rfl)
theorem dX4_isKeptByMarks_1 : decode cX4_isKeptByMarks 1 = .ok (.iload_n 1, 1) := dk_27 (dk_at dksX4_isKeptByMarks_0 1 rfl rfl)
theorem dX4_isKeptByMarks_2 : decode cX4_isKeptByMarks 2 = .ok (.iload_n 2, 1) := dk_28 (dk_at dksX4_isKeptByMarks_0 2 rfl rfl)
theorem dX4_isKeptByMarks_3 : decode cX4_isKeptByMarks 3 = .ok (.iload_n 3, 1) := dk_29 (dk_at dksX4_isKeptByMarks_0 3 rfl rfl)
theorem dX4_isKeptByMarks_4 : decode cX4_isKeptByMarks 4 = .ok (.invokevirtual 164, 3) := dk_182 0 164 (dk_at dksX4_isKeptByMarks_0 4 rfl rfl)
theorem dX4_isKeptByMarks_7 : decode cX4_isKeptByMarks 7 = .ok (.ireturn, 1) := dk_172 (dk_at dksX4_isKeptByMarks_0 7 rfl rfl)
abbrev cX4_keptPoints : ByteArray := prog_18_method_51_code
def yX4_keptPoints : MethodName := ⟨RX4, "keptPoints", "(II)I"⟩
def dkwX4_keptPoints_1 : List UInt8 := [154, 0, 16, 42, 42, 27, 182, 0, 138, 28, 182, 0, 173, 167, 0, 4, 2, 172]
abbrev dktX4_keptPoints_1 : List UInt8 := dkwX4_keptPoints_1 ++ []
def dkwX4_keptPoints_0 : List UInt8 := [42, 27, 182, 0, 141, 153, 0, 15, 28, 184, 0, 54, 154, 0, 8, 42, 6, 181, 0, 35, 42, 180, 0, 35]
abbrev dktX4_keptPoints_0 : List UInt8 := dkwX4_keptPoints_0 ++ dktX4_keptPoints_1
theorem dksX4_keptPoints_0 : cX4_keptPoints.data.toList.drop 0 = dktX4_keptPoints_0 := by decide +kernel
theorem dksX4_keptPoints_1 : cX4_keptPoints.data.toList.drop 24 = dktX4_keptPoints_1 := dk_seg dksX4_keptPoints_0 24 rfl rfl
theorem dX4_keptPoints_0 : decode cX4_keptPoints 0 = .ok (.aload_n 0, 1) := dk_42 (dk_at dksX4_keptPoints_0 0 rfl rfl)
theorem dX4_keptPoints_1 : decode cX4_keptPoints 1 = .ok (.iload_n 1, 1) := dk_27 (dk_at dksX4_keptPoints_0 1 rfl rfl)
theorem dX4_keptPoints_2 : decode cX4_keptPoints 2 = .ok (.invokevirtual 141, 3) := dk_182 0 141 (dk_at dksX4_keptPoints_0 2 rfl rfl)
theorem dX4_keptPoints_5 : decode cX4_keptPoints 5 = .ok (.ifCond .eq 15, 3) := dk_153 0 15 (dk_at dksX4_keptPoints_0 5 rfl rfl)
theorem dX4_keptPoints_8 : decode cX4_keptPoints 8 = .ok (.iload_n 2, 1) := dk_28 (dk_at dksX4_keptPoints_0 8 rfl rfl)
theorem dX4_keptPoints_9 : decode cX4_keptPoints 9 = .ok (.invokestatic 54, 3) := dk_184 0 54 (dk_at dksX4_keptPoints_0 9 rfl rfl)
theorem dX4_keptPoints_12 : decode cX4_keptPoints 12 = .ok (.ifCond .ne 8, 3) := dk_154 0 8 (dk_at dksX4_keptPoints_0 12 rfl rfl)
theorem dX4_keptPoints_15 : decode cX4_keptPoints 15 = .ok (.aload_n 0, 1) := dk_42 (dk_at dksX4_keptPoints_0 15 rfl rfl)
theorem dX4_keptPoints_16 : decode cX4_keptPoints 16 = .ok (.iconst 3, 1) := dk_6 (dk_at dksX4_keptPoints_0 16 rfl rfl)
theorem dX4_keptPoints_17 : decode cX4_keptPoints 17 = .ok (.putfield 35, 3) := dk_181 0 35 (dk_at dksX4_keptPoints_0 17 rfl rfl)
theorem dX4_keptPoints_20 : decode cX4_keptPoints 20 = .ok (.aload_n 0, 1) := dk_42 (dk_at dksX4_keptPoints_0 20 rfl rfl)
theorem dX4_keptPoints_21 : decode cX4_keptPoints 21 = .ok (.getfield 35, 3) := dk_180 0 35 (dk_at dksX4_keptPoints_0 21 rfl rfl)
theorem dX4_keptPoints_24 : decode cX4_keptPoints 24 = .ok (.ifCond .ne 16, 3) := dk_154 0 16 (dk_at dksX4_keptPoints_1 0 rfl rfl)
theorem dX4_keptPoints_27 : decode cX4_keptPoints 27 = .ok (.aload_n 0, 1) := dk_42 (dk_at dksX4_keptPoints_1 3 rfl rfl)
theorem dX4_keptPoints_28 : decode cX4_keptPoints 28 = .ok (.aload_n 0, 1) := dk_42 (dk_at dksX4_keptPoints_1 4 rfl rfl)
theorem dX4_keptPoints_29 : decode cX4_keptPoints 29 = .ok (.iload_n 1, 1) := dk_27 (dk_at dksX4_keptPoints_1 5 rfl rfl)
theorem dX4_keptPoints_30 : decode cX4_keptPoints 30 = .ok (.invokevirtual 138, 3) := dk_182 0 138 (dk_at dksX4_keptPoints_1 6 rfl rfl)
theorem dX4_keptPoints_33 : decode cX4_keptPoints 33 = .ok (.iload_n 2, 1) := dk_28 (dk_at dksX4_keptPoints_1 9 rfl rfl)
theorem dX4_keptPoints_34 : decode cX4_keptPoints 34 = .ok (.invokevirtual 173, 3) := dk_182 0 173 (dk_at dksX4_keptPoints_1 10 rfl rfl)
theorem dX4_keptPoints_37 : decode cX4_keptPoints 37 = .ok (.goto 4, 3) := dk_167 0 4 (dk_at dksX4_keptPoints_1 13 rfl rfl)
theorem dX4_keptPoints_40 : decode cX4_keptPoints 40 = .ok (.iconst (-1), 1) := dk_2 (dk_at dksX4_keptPoints_1 16 rfl rfl)
theorem dX4_keptPoints_41 : decode cX4_keptPoints 41 = .ok (.ireturn, 1) := dk_172 (dk_at dksX4_keptPoints_1 17 rfl rfl)
abbrev cX4_keptMany : ByteArray := prog_18_method_50_code
def yX4_keptMany : MethodName := ⟨RX4, "keptMany", "(II)I"⟩
def dkwX4_keptMany_0 : List UInt8 := [42, 27, 28, 182, 0, 105, 184, 0, 168, 172]
abbrev dktX4_keptMany_0 : List UInt8 := dkwX4_keptMany_0 ++ []
theorem dksX4_keptMany_0 : cX4_keptMany.data.toList.drop 0 = dktX4_keptMany_0 := by decide +kernel
theorem dX4_keptMany_0 : decode cX4_keptMany 0 = .ok (.aload_n 0, 1) := dk_42 (dk_at dksX4_keptMany_0 0 rfl rfl)
theorem dX4_keptMany_1 : decode cX4_keptMany 1 = .ok (.iload_n 1, 1) := dk_27 (dk_at dksX4_keptMany_0 1 rfl rfl)
theorem dX4_keptMany_2 : decode cX4_keptMany 2 = .ok (.iload_n 2, 1) := dk_28 (dk_at dksX4_keptMany_0 2 rfl rfl)
theorem dX4_keptMany_3 : decode cX4_keptMany 3 = .ok (.invokevirtual 105, 3) := dk_182 0 105 (dk_at dksX4_keptMany_0 3 rfl rfl)
theorem dX4_keptMany_6 : decode cX4_keptMany 6 = .ok (.invokestatic 168, 3) := dk_184 0 168 (dk_at dksX4_keptMany_0 6 rfl rfl)
theorem dX4_keptMany_9 : decode cX4_keptMany 9 = .ok (.ireturn, 1) := dk_172 (dk_at dksX4_keptMany_0 9 rfl rfl)
abbrev cX4_cellAt : ByteArray := prog_18_method_53_code
def yX4_cellAt : MethodName := ⟨RX4, "cellAt", "(IIIII)I"⟩
def dkwX4_cellAt_7 : List UInt8 := [28, 29, 21, 4, 21, 5, 182, 0, 194, 172]
abbrev dktX4_cellAt_7 : List UInt8 := dkwX4_cellAt_7 ++ []
def dkwX4_cellAt_6 : List UInt8 := [160, 0, 13, 42, 3, 21, 6, 184, 0, 76, 182, 0, 83, 42, 27, 28, 29, 21, 7, 182, 0, 200, 42, 27]
abbrev dktX4_cellAt_6 : List UInt8 := dkwX4_cellAt_6 ++ dktX4_cellAt_7
def dkwX4_cellAt_5 : List UInt8 := [167, 0, 13, 42, 89, 180, 0, 197, 4, 96, 181, 0, 197, 21, 6, 2, 160, 0, 11, 42, 180, 0, 58, 8]
abbrev dktX4_cellAt_5 : List UInt8 := dkwX4_cellAt_5 ++ dktX4_cellAt_6
def dkwX4_cellAt_4 : List UInt8 := [16, 8, 108, 182, 0, 194, 158, 0, 7, 10, 167, 0, 4, 9, 97, 181, 0, 190, 132, 8, 1, 167, 255, 212]
abbrev dktX4_cellAt_4 : List UInt8 := dkwX4_cellAt_4 ++ dktX4_cellAt_5
def dkwX4_cellAt_3 : List UInt8 := [21, 8, 16, 64, 162, 0, 43, 42, 89, 180, 0, 190, 42, 27, 28, 29, 21, 8, 16, 8, 112, 21, 8]
abbrev dktX4_cellAt_3 : List UInt8 := dkwX4_cellAt_3 ++ dktX4_cellAt_4
def dkwX4_cellAt_2 : List UInt8 := [96, 46, 54, 7, 21, 6, 2, 160, 0, 66, 42, 89, 180, 0, 187, 4, 96, 181, 0, 187, 3, 54, 8]
abbrev dktX4_cellAt_2 : List UInt8 := dkwX4_cellAt_2 ++ dktX4_cellAt_3
def dkwX4_cellAt_1 : List UInt8 := [54, 6, 21, 6, 2, 160, 0, 10, 42, 180, 0, 161, 167, 0, 14, 42, 180, 0, 22, 7, 21, 6, 104, 6]
abbrev dktX4_cellAt_1 : List UInt8 := dkwX4_cellAt_1 ++ dktX4_cellAt_2
def dkwX4_cellAt_0 : List UInt8 := [42, 27, 28, 29, 21, 4, 21, 5, 182, 0, 181, 154, 0, 5, 2, 172, 42, 27, 28, 29, 182, 0, 184]
abbrev dktX4_cellAt_0 : List UInt8 := dkwX4_cellAt_0 ++ dktX4_cellAt_1
theorem dksX4_cellAt_0 : cX4_cellAt.data.toList.drop 0 = dktX4_cellAt_0 := by decide +kernel
theorem dksX4_cellAt_1 : cX4_cellAt.data.toList.drop 23 = dktX4_cellAt_1 := dk_seg dksX4_cellAt_0 23 rfl rfl
theorem dksX4_cellAt_2 : cX4_cellAt.data.toList.drop 47 = dktX4_cellAt_2 := dk_seg dksX4_cellAt_1 24 rfl rfl
theorem dksX4_cellAt_3 : cX4_cellAt.data.toList.drop 70 = dktX4_cellAt_3 := dk_seg dksX4_cellAt_2 23 rfl rfl
theorem dksX4_cellAt_4 : cX4_cellAt.data.toList.drop 93 = dktX4_cellAt_4 := dk_seg dksX4_cellAt_3 23 rfl rfl
theorem dksX4_cellAt_5 : cX4_cellAt.data.toList.drop 117 = dktX4_cellAt_5 := dk_seg dksX4_cellAt_4 24 rfl rfl
theorem dksX4_cellAt_6 : cX4_cellAt.data.toList.drop 141 = dktX4_cellAt_6 := dk_seg dksX4_cellAt_5 24 rfl rfl
theorem dksX4_cellAt_7 : cX4_cellAt.data.toList.drop 165 = dktX4_cellAt_7 := dk_seg dksX4_cellAt_6 24 rfl rfl
theorem dX4_cellAt_0 : decode cX4_cellAt 0 = .ok (.aload_n 0, 1) := dk_42 (dk_at dksX4_cellAt_0 0 rfl rfl)
theorem dX4_cellAt_1 : decode cX4_cellAt 1 = .ok (.iload_n 1, 1) := dk_27 (dk_at dksX4_cellAt_0 1 rfl rfl)
theorem dX4_cellAt_2 : decode cX4_cellAt 2 = .ok (.iload_n 2, 1) := dk_28 (dk_at dksX4_cellAt_0 2 rfl rfl)
theorem dX4_cellAt_3 : decode cX4_cellAt 3 = .ok (.iload_n 3, 1) := dk_29 (dk_at dksX4_cellAt_0 3 rfl rfl)
theorem dX4_cellAt_4 : decode cX4_cellAt 4 = .ok (.iload 4, 2) := dk_21 4 (dk_at dksX4_cellAt_0 4 rfl rfl)
theorem dX4_cellAt_6 : decode cX4_cellAt 6 = .ok (.iload 5, 2) := dk_21 5 (dk_at dksX4_cellAt_0 6 rfl rfl)
theorem dX4_cellAt_8 : decode cX4_cellAt 8 = .ok (.invokevirtual 181, 3) := dk_182 0 181 (dk_at dksX4_cellAt_0 8 rfl rfl)
theorem dX4_cellAt_11 : decode cX4_cellAt 11 = .ok (.ifCond .ne 5, 3) := dk_154 0 5 (dk_at dksX4_cellAt_0 11 rfl rfl)
theorem dX4_cellAt_14 : decode cX4_cellAt 14 = .ok (.iconst (-1), 1) := dk_2 (dk_at dksX4_cellAt_0 14 rfl rfl)
theorem dX4_cellAt_15 : decode cX4_cellAt 15 = .ok (.ireturn, 1) := dk_172 (dk_at dksX4_cellAt_0 15 rfl rfl)
theorem dX4_cellAt_16 : decode cX4_cellAt 16 = .ok (.aload_n 0, 1) := dk_42 (dk_at dksX4_cellAt_0 16 rfl rfl)
theorem dX4_cellAt_17 : decode cX4_cellAt 17 = .ok (.iload_n 1, 1) := dk_27 (dk_at dksX4_cellAt_0 17 rfl rfl)
theorem dX4_cellAt_18 : decode cX4_cellAt 18 = .ok (.iload_n 2, 1) := dk_28 (dk_at dksX4_cellAt_0 18 rfl rfl)
theorem dX4_cellAt_19 : decode cX4_cellAt 19 = .ok (.iload_n 3, 1) := dk_29 (dk_at dksX4_cellAt_0 19 rfl rfl)
theorem dX4_cellAt_20 : decode cX4_cellAt 20 = .ok (.invokevirtual 184, 3) := dk_182 0 184 (dk_at dksX4_cellAt_0 20 rfl rfl)
theorem dX4_cellAt_23 : decode cX4_cellAt 23 = .ok (.istore 6, 2) := dk_54 6 (dk_at dksX4_cellAt_1 0 rfl rfl)
theorem dX4_cellAt_25 : decode cX4_cellAt 25 = .ok (.iload 6, 2) := dk_21 6 (dk_at dksX4_cellAt_1 2 rfl rfl)
theorem dX4_cellAt_27 : decode cX4_cellAt 27 = .ok (.iconst (-1), 1) := dk_2 (dk_at dksX4_cellAt_1 4 rfl rfl)
theorem dX4_cellAt_28 : decode cX4_cellAt 28 = .ok (.if_icmp .ne 10, 3) := dk_160 0 10 (dk_at dksX4_cellAt_1 5 rfl rfl)
theorem dX4_cellAt_31 : decode cX4_cellAt 31 = .ok (.aload_n 0, 1) := dk_42 (dk_at dksX4_cellAt_1 8 rfl rfl)
theorem dX4_cellAt_32 : decode cX4_cellAt 32 = .ok (.getfield 161, 3) := dk_180 0 161 (dk_at dksX4_cellAt_1 9 rfl rfl)
theorem dX4_cellAt_35 : decode cX4_cellAt 35 = .ok (.goto 14, 3) := dk_167 0 14 (dk_at dksX4_cellAt_1 12 rfl rfl)
theorem dX4_cellAt_38 : decode cX4_cellAt 38 = .ok (.aload_n 0, 1) := dk_42 (dk_at dksX4_cellAt_1 15 rfl rfl)
theorem dX4_cellAt_39 : decode cX4_cellAt 39 = .ok (.getfield 22, 3) := dk_180 0 22 (dk_at dksX4_cellAt_1 16 rfl rfl)
theorem dX4_cellAt_42 : decode cX4_cellAt 42 = .ok (.iconst 4, 1) := dk_7 (dk_at dksX4_cellAt_1 19 rfl rfl)
theorem dX4_cellAt_43 : decode cX4_cellAt 43 = .ok (.iload 6, 2) := dk_21 6 (dk_at dksX4_cellAt_1 20 rfl rfl)
theorem dX4_cellAt_45 : decode cX4_cellAt 45 = .ok (.imul, 1) := dk_104 (dk_at dksX4_cellAt_1 22 rfl rfl)
theorem dX4_cellAt_46 : decode cX4_cellAt 46 = .ok (.iconst 3, 1) := dk_6 (dk_at dksX4_cellAt_1 23 rfl rfl)
theorem dX4_cellAt_47 : decode cX4_cellAt 47 = .ok (.iadd, 1) := dk_96 (dk_at dksX4_cellAt_2 0 rfl rfl)
theorem dX4_cellAt_48 : decode cX4_cellAt 48 = .ok (.iaload, 1) := dk_46 (dk_at dksX4_cellAt_2 1 rfl rfl)
theorem dX4_cellAt_49 : decode cX4_cellAt 49 = .ok (.istore 7, 2) := dk_54 7 (dk_at dksX4_cellAt_2 2 rfl rfl)
theorem dX4_cellAt_51 : decode cX4_cellAt 51 = .ok (.iload 6, 2) := dk_21 6 (dk_at dksX4_cellAt_2 4 rfl rfl)
theorem dX4_cellAt_53 : decode cX4_cellAt 53 = .ok (.iconst (-1), 1) := dk_2 (dk_at dksX4_cellAt_2 6 rfl rfl)
theorem dX4_cellAt_54 : decode cX4_cellAt 54 = .ok (.if_icmp .ne 66, 3) := dk_160 0 66 (dk_at dksX4_cellAt_2 7 rfl rfl)
theorem dX4_cellAt_57 : decode cX4_cellAt 57 = .ok (.aload_n 0, 1) := dk_42 (dk_at dksX4_cellAt_2 10 rfl rfl)
theorem dX4_cellAt_58 : decode cX4_cellAt 58 = .ok (.dup, 1) := dk_89 (dk_at dksX4_cellAt_2 11 rfl rfl)
theorem dX4_cellAt_59 : decode cX4_cellAt 59 = .ok (.getfield 187, 3) := dk_180 0 187 (dk_at dksX4_cellAt_2 12 rfl rfl)
theorem dX4_cellAt_62 : decode cX4_cellAt 62 = .ok (.iconst 1, 1) := dk_4 (dk_at dksX4_cellAt_2 15 rfl rfl)
theorem dX4_cellAt_63 : decode cX4_cellAt 63 = .ok (.iadd, 1) := dk_96 (dk_at dksX4_cellAt_2 16 rfl rfl)
theorem dX4_cellAt_64 : decode cX4_cellAt 64 = .ok (.putfield 187, 3) := dk_181 0 187 (dk_at dksX4_cellAt_2 17 rfl rfl)
theorem dX4_cellAt_67 : decode cX4_cellAt 67 = .ok (.iconst 0, 1) := dk_3 (dk_at dksX4_cellAt_2 20 rfl rfl)
theorem dX4_cellAt_68 : decode cX4_cellAt 68 = .ok (.istore 8, 2) := dk_54 8 (dk_at dksX4_cellAt_2 21 rfl rfl)
theorem dX4_cellAt_70 : decode cX4_cellAt 70 = .ok (.iload 8, 2) := dk_21 8 (dk_at dksX4_cellAt_3 0 rfl rfl)
theorem dX4_cellAt_72 : decode cX4_cellAt 72 = .ok (.bipush 64, 2) := dk_16 64 (dk_at dksX4_cellAt_3 2 rfl rfl)
theorem dX4_cellAt_74 : decode cX4_cellAt 74 = .ok (.if_icmp .ge 43, 3) := dk_162 0 43 (dk_at dksX4_cellAt_3 4 rfl rfl)
theorem dX4_cellAt_77 : decode cX4_cellAt 77 = .ok (.aload_n 0, 1) := dk_42 (dk_at dksX4_cellAt_3 7 rfl rfl)
theorem dX4_cellAt_78 : decode cX4_cellAt 78 = .ok (.dup, 1) := dk_89 (dk_at dksX4_cellAt_3 8 rfl rfl)
theorem dX4_cellAt_79 : decode cX4_cellAt 79 = .ok (.getfield 190, 3) := dk_180 0 190 (dk_at dksX4_cellAt_3 9 rfl rfl)
theorem dX4_cellAt_82 : decode cX4_cellAt 82 = .ok (.aload_n 0, 1) := dk_42 (dk_at dksX4_cellAt_3 12 rfl rfl)
theorem dX4_cellAt_83 : decode cX4_cellAt 83 = .ok (.iload_n 1, 1) := dk_27 (dk_at dksX4_cellAt_3 13 rfl rfl)
theorem dX4_cellAt_84 : decode cX4_cellAt 84 = .ok (.iload_n 2, 1) := dk_28 (dk_at dksX4_cellAt_3 14 rfl rfl)
theorem dX4_cellAt_85 : decode cX4_cellAt 85 = .ok (.iload_n 3, 1) := dk_29 (dk_at dksX4_cellAt_3 15 rfl rfl)
theorem dX4_cellAt_86 : decode cX4_cellAt 86 = .ok (.iload 8, 2) := dk_21 8 (dk_at dksX4_cellAt_3 16 rfl rfl)
theorem dX4_cellAt_88 : decode cX4_cellAt 88 = .ok (.bipush 8, 2) := dk_16 8 (dk_at dksX4_cellAt_3 18 rfl rfl)
theorem dX4_cellAt_90 : decode cX4_cellAt 90 = .ok (.irem, 1) := dk_112 (dk_at dksX4_cellAt_3 20 rfl rfl)
theorem dX4_cellAt_91 : decode cX4_cellAt 91 = .ok (.iload 8, 2) := dk_21 8 (dk_at dksX4_cellAt_3 21 rfl rfl)
theorem dX4_cellAt_93 : decode cX4_cellAt 93 = .ok (.bipush 8, 2) := dk_16 8 (dk_at dksX4_cellAt_4 0 rfl rfl)
theorem dX4_cellAt_95 : decode cX4_cellAt 95 = .ok (.idiv, 1) := dk_108 (dk_at dksX4_cellAt_4 2 rfl rfl)
theorem dX4_cellAt_96 : decode cX4_cellAt 96 = .ok (.invokevirtual 194, 3) := dk_182 0 194 (dk_at dksX4_cellAt_4 3 rfl rfl)
theorem dX4_cellAt_99 : decode cX4_cellAt 99 = .ok (.ifCond .le 7, 3) := dk_158 0 7 (dk_at dksX4_cellAt_4 6 rfl rfl)
theorem dX4_cellAt_102 : decode cX4_cellAt 102 = .ok (.lconst 1, 1) := dk_10 (dk_at dksX4_cellAt_4 9 rfl rfl)
theorem dX4_cellAt_103 : decode cX4_cellAt 103 = .ok (.goto 4, 3) := dk_167 0 4 (dk_at dksX4_cellAt_4 10 rfl rfl)
theorem dX4_cellAt_106 : decode cX4_cellAt 106 = .ok (.lconst 0, 1) := dk_9 (dk_at dksX4_cellAt_4 13 rfl rfl)
theorem dX4_cellAt_107 : decode cX4_cellAt 107 = .ok (.ladd, 1) := dk_97 (dk_at dksX4_cellAt_4 14 rfl rfl)
theorem dX4_cellAt_108 : decode cX4_cellAt 108 = .ok (.putfield 190, 3) := dk_181 0 190 (dk_at dksX4_cellAt_4 15 rfl rfl)
theorem dX4_cellAt_111 : decode cX4_cellAt 111 = .ok (.iinc 8 1, 3) := dk_132 8 1 (dk_at dksX4_cellAt_4 18 rfl rfl)
theorem dX4_cellAt_114 : decode cX4_cellAt 114 = .ok (.goto (-44), 3) := dk_167 255 212 (dk_at dksX4_cellAt_4 21 rfl rfl)
theorem dX4_cellAt_117 : decode cX4_cellAt 117 = .ok (.goto 13, 3) := dk_167 0 13 (dk_at dksX4_cellAt_5 0 rfl rfl)
theorem dX4_cellAt_120 : decode cX4_cellAt 120 = .ok (.aload_n 0, 1) := dk_42 (dk_at dksX4_cellAt_5 3 rfl rfl)
theorem dX4_cellAt_121 : decode cX4_cellAt 121 = .ok (.dup, 1) := dk_89 (dk_at dksX4_cellAt_5 4 rfl rfl)
theorem dX4_cellAt_122 : decode cX4_cellAt 122 = .ok (.getfield 197, 3) := dk_180 0 197 (dk_at dksX4_cellAt_5 5 rfl rfl)
theorem dX4_cellAt_125 : decode cX4_cellAt 125 = .ok (.iconst 1, 1) := dk_4 (dk_at dksX4_cellAt_5 8 rfl rfl)
theorem dX4_cellAt_126 : decode cX4_cellAt 126 = .ok (.iadd, 1) := dk_96 (dk_at dksX4_cellAt_5 9 rfl rfl)
theorem dX4_cellAt_127 : decode cX4_cellAt 127 = .ok (.putfield 197, 3) := dk_181 0 197 (dk_at dksX4_cellAt_5 10 rfl rfl)
theorem dX4_cellAt_130 : decode cX4_cellAt 130 = .ok (.iload 6, 2) := dk_21 6 (dk_at dksX4_cellAt_5 13 rfl rfl)
theorem dX4_cellAt_132 : decode cX4_cellAt 132 = .ok (.iconst (-1), 1) := dk_2 (dk_at dksX4_cellAt_5 15 rfl rfl)
theorem dX4_cellAt_133 : decode cX4_cellAt 133 = .ok (.if_icmp .ne 11, 3) := dk_160 0 11 (dk_at dksX4_cellAt_5 16 rfl rfl)
theorem dX4_cellAt_136 : decode cX4_cellAt 136 = .ok (.aload_n 0, 1) := dk_42 (dk_at dksX4_cellAt_5 19 rfl rfl)
theorem dX4_cellAt_137 : decode cX4_cellAt 137 = .ok (.getfield 58, 3) := dk_180 0 58 (dk_at dksX4_cellAt_5 20 rfl rfl)
theorem dX4_cellAt_140 : decode cX4_cellAt 140 = .ok (.iconst 5, 1) := dk_8 (dk_at dksX4_cellAt_5 23 rfl rfl)
theorem dX4_cellAt_141 : decode cX4_cellAt 141 = .ok (.if_icmp .ne 13, 3) := dk_160 0 13 (dk_at dksX4_cellAt_6 0 rfl rfl)
theorem dX4_cellAt_144 : decode cX4_cellAt 144 = .ok (.aload_n 0, 1) := dk_42 (dk_at dksX4_cellAt_6 3 rfl rfl)
theorem dX4_cellAt_145 : decode cX4_cellAt 145 = .ok (.iconst 0, 1) := dk_3 (dk_at dksX4_cellAt_6 4 rfl rfl)
theorem dX4_cellAt_146 : decode cX4_cellAt 146 = .ok (.iload 6, 2) := dk_21 6 (dk_at dksX4_cellAt_6 5 rfl rfl)
theorem dX4_cellAt_148 : decode cX4_cellAt 148 = .ok (.invokestatic 76, 3) := dk_184 0 76 (dk_at dksX4_cellAt_6 7 rfl rfl)
theorem dX4_cellAt_151 : decode cX4_cellAt 151 = .ok (.invokevirtual 83, 3) := dk_182 0 83 (dk_at dksX4_cellAt_6 10 rfl rfl)
theorem dX4_cellAt_154 : decode cX4_cellAt 154 = .ok (.aload_n 0, 1) := dk_42 (dk_at dksX4_cellAt_6 13 rfl rfl)
theorem dX4_cellAt_155 : decode cX4_cellAt 155 = .ok (.iload_n 1, 1) := dk_27 (dk_at dksX4_cellAt_6 14 rfl rfl)
theorem dX4_cellAt_156 : decode cX4_cellAt 156 = .ok (.iload_n 2, 1) := dk_28 (dk_at dksX4_cellAt_6 15 rfl rfl)
theorem dX4_cellAt_157 : decode cX4_cellAt 157 = .ok (.iload_n 3, 1) := dk_29 (dk_at dksX4_cellAt_6 16 rfl rfl)
theorem dX4_cellAt_158 : decode cX4_cellAt 158 = .ok (.iload 7, 2) := dk_21 7 (dk_at dksX4_cellAt_6 17 rfl rfl)
theorem dX4_cellAt_160 : decode cX4_cellAt 160 = .ok (.invokevirtual 200, 3) := dk_182 0 200 (dk_at dksX4_cellAt_6 19 rfl rfl)
theorem dX4_cellAt_163 : decode cX4_cellAt 163 = .ok (.aload_n 0, 1) := dk_42 (dk_at dksX4_cellAt_6 22 rfl rfl)
theorem dX4_cellAt_164 : decode cX4_cellAt 164 = .ok (.iload_n 1, 1) := dk_27 (dk_at dksX4_cellAt_6 23 rfl rfl)
theorem dX4_cellAt_165 : decode cX4_cellAt 165 = .ok (.iload_n 2, 1) := dk_28 (dk_at dksX4_cellAt_7 0 rfl rfl)
theorem dX4_cellAt_166 : decode cX4_cellAt 166 = .ok (.iload_n 3, 1) := dk_29 (dk_at dksX4_cellAt_7 1 rfl rfl)
theorem dX4_cellAt_167 : decode cX4_cellAt 167 = .ok (.iload 4, 2) := dk_21 4 (dk_at dksX4_cellAt_7 2 rfl rfl)
theorem dX4_cellAt_169 : decode cX4_cellAt 169 = .ok (.iload 5, 2) := dk_21 5 (dk_at dksX4_cellAt_7 4 rfl rfl)
theorem dX4_cellAt_171 : decode cX4_cellAt 171 = .ok (.invokevirtual 194, 3) := dk_182 0 194 (dk_at dksX4_cellAt_7 6 rfl rfl)
theorem dX4_cellAt_174 : decode cX4_cellAt 174 = .ok (.ireturn, 1) := dk_172 (dk_at dksX4_cellAt_7 9 rfl rfl)
abbrev cX4_isCell : ByteArray := prog_18_method_52_code
def yX4_isCell : MethodName := ⟨RX4, "isCell", "(IIIII)Z"⟩
def dkwX4_isCell_2 : List UInt8 := [180, 0, 35, 154, 0, 7, 4, 167, 0, 4, 3, 172]
abbrev dktX4_isCell_2 : List UInt8 := dkwX4_isCell_2 ++ []
def dkwX4_isCell_1 : List UInt8 := [21, 5, 133, 9, 20, 0, 179, 184, 0, 48, 153, 0, 7, 3, 167, 0, 4, 4, 181, 0, 35, 42]
abbrev dktX4_isCell_1 : List UInt8 := dkwX4_isCell_1 ++ dktX4_isCell_2
def dkwX4_isCell_0 : List UInt8 := [42, 27, 28, 29, 184, 0, 176, 153, 0, 33, 21, 4, 133, 9, 20, 0, 179, 184, 0, 48, 153, 0, 20]
abbrev dktX4_isCell_0 : List UInt8 := dkwX4_isCell_0 ++ dktX4_isCell_1
theorem dksX4_isCell_0 : cX4_isCell.data.toList.drop 0 = dktX4_isCell_0 := by decide +kernel
theorem dksX4_isCell_1 : cX4_isCell.data.toList.drop 23 = dktX4_isCell_1 := dk_seg dksX4_isCell_0 23 rfl rfl
theorem dksX4_isCell_2 : cX4_isCell.data.toList.drop 45 = dktX4_isCell_2 := dk_seg dksX4_isCell_1 22 rfl rfl
theorem dX4_isCell_0 : decode cX4_isCell 0 = .ok (.aload_n 0, 1) := dk_42 (dk_at dksX4_isCell_0 0 rfl rfl)
theorem dX4_isCell_1 : decode cX4_isCell 1 = .ok (.iload_n 1, 1) := dk_27 (dk_at dksX4_isCell_0 1 rfl rfl)
theorem dX4_isCell_2 : decode cX4_isCell 2 = .ok (.iload_n 2, 1) := dk_28 (dk_at dksX4_isCell_0 2 rfl rfl)
theorem dX4_isCell_3 : decode cX4_isCell 3 = .ok (.iload_n 3, 1) := dk_29 (dk_at dksX4_isCell_0 3 rfl rfl)
theorem dX4_isCell_4 : decode cX4_isCell 4 = .ok (.invokestatic 176, 3) := dk_184 0 176 (dk_at dksX4_isCell_0 4 rfl rfl)
theorem dX4_isCell_7 : decode cX4_isCell 7 = .ok (.ifCond .eq 33, 3) := dk_153 0 33 (dk_at dksX4_isCell_0 7 rfl rfl)
theorem dX4_isCell_10 : decode cX4_isCell 10 = .ok (.iload 4, 2) := dk_21 4 (dk_at dksX4_isCell_0 10 rfl rfl)
theorem dX4_isCell_12 : decode cX4_isCell 12 = .ok (.i2l, 1) := dk_133 (dk_at dksX4_isCell_0 12 rfl rfl)
theorem dX4_isCell_13 : decode cX4_isCell 13 = .ok (.lconst 0, 1) := dk_9 (dk_at dksX4_isCell_0 13 rfl rfl)
theorem dX4_isCell_14 : decode cX4_isCell 14 = .ok (.ldc2_w 179, 3) := dk_20 0 179 (dk_at dksX4_isCell_0 14 rfl rfl)
theorem dX4_isCell_17 : decode cX4_isCell 17 = .ok (.invokestatic 48, 3) := dk_184 0 48 (dk_at dksX4_isCell_0 17 rfl rfl)
theorem dX4_isCell_20 : decode cX4_isCell 20 = .ok (.ifCond .eq 20, 3) := dk_153 0 20 (dk_at dksX4_isCell_0 20 rfl rfl)
theorem dX4_isCell_23 : decode cX4_isCell 23 = .ok (.iload 5, 2) := dk_21 5 (dk_at dksX4_isCell_1 0 rfl rfl)
theorem dX4_isCell_25 : decode cX4_isCell 25 = .ok (.i2l, 1) := dk_133 (dk_at dksX4_isCell_1 2 rfl rfl)
theorem dX4_isCell_26 : decode cX4_isCell 26 = .ok (.lconst 0, 1) := dk_9 (dk_at dksX4_isCell_1 3 rfl rfl)
theorem dX4_isCell_27 : decode cX4_isCell 27 = .ok (.ldc2_w 179, 3) := dk_20 0 179 (dk_at dksX4_isCell_1 4 rfl rfl)
theorem dX4_isCell_30 : decode cX4_isCell 30 = .ok (.invokestatic 48, 3) := dk_184 0 48 (dk_at dksX4_isCell_1 7 rfl rfl)
theorem dX4_isCell_33 : decode cX4_isCell 33 = .ok (.ifCond .eq 7, 3) := dk_153 0 7 (dk_at dksX4_isCell_1 10 rfl rfl)
theorem dX4_isCell_36 : decode cX4_isCell 36 = .ok (.iconst 0, 1) := dk_3 (dk_at dksX4_isCell_1 13 rfl rfl)
theorem dX4_isCell_37 : decode cX4_isCell 37 = .ok (.goto 4, 3) := dk_167 0 4 (dk_at dksX4_isCell_1 14 rfl rfl)
theorem dX4_isCell_40 : decode cX4_isCell 40 = .ok (.iconst 1, 1) := dk_4 (dk_at dksX4_isCell_1 17 rfl rfl)
theorem dX4_isCell_41 : decode cX4_isCell 41 = .ok (.putfield 35, 3) := dk_181 0 35 (dk_at dksX4_isCell_1 18 rfl rfl)
theorem dX4_isCell_44 : decode cX4_isCell 44 = .ok (.aload_n 0, 1) := dk_42 (dk_at dksX4_isCell_1 21 rfl rfl)
theorem dX4_isCell_45 : decode cX4_isCell 45 = .ok (.getfield 35, 3) := dk_180 0 35 (dk_at dksX4_isCell_2 0 rfl rfl)
theorem dX4_isCell_48 : decode cX4_isCell 48 = .ok (.ifCond .ne 7, 3) := dk_154 0 7 (dk_at dksX4_isCell_2 3 rfl rfl)
theorem dX4_isCell_51 : decode cX4_isCell 51 = .ok (.iconst 1, 1) := dk_4 (dk_at dksX4_isCell_2 6 rfl rfl)
theorem dX4_isCell_52 : decode cX4_isCell 52 = .ok (.goto 4, 3) := dk_167 0 4 (dk_at dksX4_isCell_2 7 rfl rfl)
theorem dX4_isCell_55 : decode cX4_isCell 55 = .ok (.iconst 0, 1) := dk_3 (dk_at dksX4_isCell_2 10 rfl rfl)
theorem dX4_isCell_56 : decode cX4_isCell 56 = .ok (.ireturn, 1) := dk_172 (dk_at dksX4_isCell_2 11 rfl rfl)
abbrev cX4_isTile : ByteArray := prog_18_method_10_code
def yX4_isTile : MethodName := ⟨RX4, "isTile", "(III)Z"⟩
def dkwX4_isTile_1 : List UInt8 := [9, 4, 26, 120, 4, 100, 133, 184, 0, 48, 153, 0, 7, 4, 167, 0, 4, 3, 172]
abbrev dktX4_isTile_1 : List UInt8 := dkwX4_isTile_1 ++ []
def dkwX4_isTile_0 : List UInt8 := [26, 184, 0, 54, 153, 0, 37, 27, 133, 9, 4, 26, 120, 4, 100, 133, 184, 0, 48, 153, 0, 22, 28, 133]
abbrev dktX4_isTile_0 : List UInt8 := dkwX4_isTile_0 ++ dktX4_isTile_1
theorem dksX4_isTile_0 : cX4_isTile.data.toList.drop 0 = dktX4_isTile_0 := by decide +kernel
theorem dksX4_isTile_1 : cX4_isTile.data.toList.drop 24 = dktX4_isTile_1 := dk_seg dksX4_isTile_0 24 rfl rfl
theorem dX4_isTile_0 : decode cX4_isTile 0 = .ok (.iload_n 0, 1) := dk_26 (dk_at dksX4_isTile_0 0 rfl rfl)
theorem dX4_isTile_1 : decode cX4_isTile 1 = .ok (.invokestatic 54, 3) := dk_184 0 54 (dk_at dksX4_isTile_0 1 rfl rfl)
theorem dX4_isTile_4 : decode cX4_isTile 4 = .ok (.ifCond .eq 37, 3) := dk_153 0 37 (dk_at dksX4_isTile_0 4 rfl rfl)
theorem dX4_isTile_7 : decode cX4_isTile 7 = .ok (.iload_n 1, 1) := dk_27 (dk_at dksX4_isTile_0 7 rfl rfl)
theorem dX4_isTile_8 : decode cX4_isTile 8 = .ok (.i2l, 1) := dk_133 (dk_at dksX4_isTile_0 8 rfl rfl)
theorem dX4_isTile_9 : decode cX4_isTile 9 = .ok (.lconst 0, 1) := dk_9 (dk_at dksX4_isTile_0 9 rfl rfl)
theorem dX4_isTile_10 : decode cX4_isTile 10 = .ok (.iconst 1, 1) := dk_4 (dk_at dksX4_isTile_0 10 rfl rfl)
theorem dX4_isTile_11 : decode cX4_isTile 11 = .ok (.iload_n 0, 1) := dk_26 (dk_at dksX4_isTile_0 11 rfl rfl)
theorem dX4_isTile_12 : decode cX4_isTile 12 = .ok (.ishl, 1) := dk_120 (dk_at dksX4_isTile_0 12 rfl rfl)
theorem dX4_isTile_13 : decode cX4_isTile 13 = .ok (.iconst 1, 1) := dk_4 (dk_at dksX4_isTile_0 13 rfl rfl)
theorem dX4_isTile_14 : decode cX4_isTile 14 = .ok (.isub, 1) := dk_100 (dk_at dksX4_isTile_0 14 rfl rfl)
theorem dX4_isTile_15 : decode cX4_isTile 15 = .ok (.i2l, 1) := dk_133 (dk_at dksX4_isTile_0 15 rfl rfl)
theorem dX4_isTile_16 : decode cX4_isTile 16 = .ok (.invokestatic 48, 3) := dk_184 0 48 (dk_at dksX4_isTile_0 16 rfl rfl)
theorem dX4_isTile_19 : decode cX4_isTile 19 = .ok (.ifCond .eq 22, 3) := dk_153 0 22 (dk_at dksX4_isTile_0 19 rfl rfl)
theorem dX4_isTile_22 : decode cX4_isTile 22 = .ok (.iload_n 2, 1) := dk_28 (dk_at dksX4_isTile_0 22 rfl rfl)
theorem dX4_isTile_23 : decode cX4_isTile 23 = .ok (.i2l, 1) := dk_133 (dk_at dksX4_isTile_0 23 rfl rfl)
theorem dX4_isTile_24 : decode cX4_isTile 24 = .ok (.lconst 0, 1) := dk_9 (dk_at dksX4_isTile_1 0 rfl rfl)
theorem dX4_isTile_25 : decode cX4_isTile 25 = .ok (.iconst 1, 1) := dk_4 (dk_at dksX4_isTile_1 1 rfl rfl)
theorem dX4_isTile_26 : decode cX4_isTile 26 = .ok (.iload_n 0, 1) := dk_26 (dk_at dksX4_isTile_1 2 rfl rfl)
theorem dX4_isTile_27 : decode cX4_isTile 27 = .ok (.ishl, 1) := dk_120 (dk_at dksX4_isTile_1 3 rfl rfl)
theorem dX4_isTile_28 : decode cX4_isTile 28 = .ok (.iconst 1, 1) := dk_4 (dk_at dksX4_isTile_1 4 rfl rfl)
theorem dX4_isTile_29 : decode cX4_isTile 29 = .ok (.isub, 1) := dk_100 (dk_at dksX4_isTile_1 5 rfl rfl)
theorem dX4_isTile_30 : decode cX4_isTile 30 = .ok (.i2l, 1) := dk_133 (dk_at dksX4_isTile_1 6 rfl rfl)
theorem dX4_isTile_31 : decode cX4_isTile 31 = .ok (.invokestatic 48, 3) := dk_184 0 48 (dk_at dksX4_isTile_1 7 rfl rfl)
theorem dX4_isTile_34 : decode cX4_isTile 34 = .ok (.ifCond .eq 7, 3) := dk_153 0 7 (dk_at dksX4_isTile_1 10 rfl rfl)
theorem dX4_isTile_37 : decode cX4_isTile 37 = .ok (.iconst 1, 1) := dk_4 (dk_at dksX4_isTile_1 13 rfl rfl)
theorem dX4_isTile_38 : decode cX4_isTile 38 = .ok (.goto 4, 3) := dk_167 0 4 (dk_at dksX4_isTile_1 14 rfl rfl)
theorem dX4_isTile_41 : decode cX4_isTile 41 = .ok (.iconst 0, 1) := dk_3 (dk_at dksX4_isTile_1 17 rfl rfl)
theorem dX4_isTile_42 : decode cX4_isTile 42 = .ok (.ireturn, 1) := dk_172 (dk_at dksX4_isTile_1 18 rfl rfl)
abbrev cX4_heldAt : ByteArray := prog_18_method_12_code
def yX4_heldAt : MethodName := ⟨RX4, "heldAt", "(III)I"⟩
def dkwX4_heldAt_2 : List UInt8 := [21, 4, 104, 5, 96, 46, 29, 160, 0, 6, 21, 4, 172, 132, 4, 1, 167, 255, 198, 2, 172]
abbrev dktX4_heldAt_2 : List UInt8 := dkwX4_heldAt_2 ++ []
def dkwX4_heldAt_1 : List UInt8 := [160, 0, 36, 42, 180, 0, 22, 7, 21, 4, 104, 4, 96, 46, 28, 160, 0, 21, 42, 180, 0, 22, 7]
abbrev dktX4_heldAt_1 : List UInt8 := dkwX4_heldAt_1 ++ dktX4_heldAt_2
def dkwX4_heldAt_0 : List UInt8 := [3, 54, 4, 21, 4, 42, 180, 0, 58, 162, 0, 55, 42, 180, 0, 22, 7, 21, 4, 104, 46, 27]
abbrev dktX4_heldAt_0 : List UInt8 := dkwX4_heldAt_0 ++ dktX4_heldAt_1
theorem dksX4_heldAt_0 : cX4_heldAt.data.toList.drop 0 = dktX4_heldAt_0 := by decide +kernel
theorem dksX4_heldAt_1 : cX4_heldAt.data.toList.drop 22 = dktX4_heldAt_1 := dk_seg dksX4_heldAt_0 22 rfl rfl
theorem dksX4_heldAt_2 : cX4_heldAt.data.toList.drop 45 = dktX4_heldAt_2 := dk_seg dksX4_heldAt_1 23 rfl rfl
theorem dX4_heldAt_0 : decode cX4_heldAt 0 = .ok (.iconst 0, 1) := dk_3 (dk_at dksX4_heldAt_0 0 rfl rfl)
theorem dX4_heldAt_1 : decode cX4_heldAt 1 = .ok (.istore 4, 2) := dk_54 4 (dk_at dksX4_heldAt_0 1 rfl rfl)
theorem dX4_heldAt_3 : decode cX4_heldAt 3 = .ok (.iload 4, 2) := dk_21 4 (dk_at dksX4_heldAt_0 3 rfl rfl)
theorem dX4_heldAt_5 : decode cX4_heldAt 5 = .ok (.aload_n 0, 1) := dk_42 (dk_at dksX4_heldAt_0 5 rfl rfl)
theorem dX4_heldAt_6 : decode cX4_heldAt 6 = .ok (.getfield 58, 3) := dk_180 0 58 (dk_at dksX4_heldAt_0 6 rfl rfl)
theorem dX4_heldAt_9 : decode cX4_heldAt 9 = .ok (.if_icmp .ge 55, 3) := dk_162 0 55 (dk_at dksX4_heldAt_0 9 rfl rfl)
theorem dX4_heldAt_12 : decode cX4_heldAt 12 = .ok (.aload_n 0, 1) := dk_42 (dk_at dksX4_heldAt_0 12 rfl rfl)
theorem dX4_heldAt_13 : decode cX4_heldAt 13 = .ok (.getfield 22, 3) := dk_180 0 22 (dk_at dksX4_heldAt_0 13 rfl rfl)
theorem dX4_heldAt_16 : decode cX4_heldAt 16 = .ok (.iconst 4, 1) := dk_7 (dk_at dksX4_heldAt_0 16 rfl rfl)
theorem dX4_heldAt_17 : decode cX4_heldAt 17 = .ok (.iload 4, 2) := dk_21 4 (dk_at dksX4_heldAt_0 17 rfl rfl)
theorem dX4_heldAt_19 : decode cX4_heldAt 19 = .ok (.imul, 1) := dk_104 (dk_at dksX4_heldAt_0 19 rfl rfl)
theorem dX4_heldAt_20 : decode cX4_heldAt 20 = .ok (.iaload, 1) := dk_46 (dk_at dksX4_heldAt_0 20 rfl rfl)
theorem dX4_heldAt_21 : decode cX4_heldAt 21 = .ok (.iload_n 1, 1) := dk_27 (dk_at dksX4_heldAt_0 21 rfl rfl)
theorem dX4_heldAt_22 : decode cX4_heldAt 22 = .ok (.if_icmp .ne 36, 3) := dk_160 0 36 (dk_at dksX4_heldAt_1 0 rfl rfl)
theorem dX4_heldAt_25 : decode cX4_heldAt 25 = .ok (.aload_n 0, 1) := dk_42 (dk_at dksX4_heldAt_1 3 rfl rfl)
theorem dX4_heldAt_26 : decode cX4_heldAt 26 = .ok (.getfield 22, 3) := dk_180 0 22 (dk_at dksX4_heldAt_1 4 rfl rfl)
theorem dX4_heldAt_29 : decode cX4_heldAt 29 = .ok (.iconst 4, 1) := dk_7 (dk_at dksX4_heldAt_1 7 rfl rfl)
theorem dX4_heldAt_30 : decode cX4_heldAt 30 = .ok (.iload 4, 2) := dk_21 4 (dk_at dksX4_heldAt_1 8 rfl rfl)
theorem dX4_heldAt_32 : decode cX4_heldAt 32 = .ok (.imul, 1) := dk_104 (dk_at dksX4_heldAt_1 10 rfl rfl)
theorem dX4_heldAt_33 : decode cX4_heldAt 33 = .ok (.iconst 1, 1) := dk_4 (dk_at dksX4_heldAt_1 11 rfl rfl)
theorem dX4_heldAt_34 : decode cX4_heldAt 34 = .ok (.iadd, 1) := dk_96 (dk_at dksX4_heldAt_1 12 rfl rfl)
theorem dX4_heldAt_35 : decode cX4_heldAt 35 = .ok (.iaload, 1) := dk_46 (dk_at dksX4_heldAt_1 13 rfl rfl)
theorem dX4_heldAt_36 : decode cX4_heldAt 36 = .ok (.iload_n 2, 1) := dk_28 (dk_at dksX4_heldAt_1 14 rfl rfl)
theorem dX4_heldAt_37 : decode cX4_heldAt 37 = .ok (.if_icmp .ne 21, 3) := dk_160 0 21 (dk_at dksX4_heldAt_1 15 rfl rfl)
theorem dX4_heldAt_40 : decode cX4_heldAt 40 = .ok (.aload_n 0, 1) := dk_42 (dk_at dksX4_heldAt_1 18 rfl rfl)
theorem dX4_heldAt_41 : decode cX4_heldAt 41 = .ok (.getfield 22, 3) := dk_180 0 22 (dk_at dksX4_heldAt_1 19 rfl rfl)
theorem dX4_heldAt_44 : decode cX4_heldAt 44 = .ok (.iconst 4, 1) := dk_7 (dk_at dksX4_heldAt_1 22 rfl rfl)
theorem dX4_heldAt_45 : decode cX4_heldAt 45 = .ok (.iload 4, 2) := dk_21 4 (dk_at dksX4_heldAt_2 0 rfl rfl)
theorem dX4_heldAt_47 : decode cX4_heldAt 47 = .ok (.imul, 1) := dk_104 (dk_at dksX4_heldAt_2 2 rfl rfl)
theorem dX4_heldAt_48 : decode cX4_heldAt 48 = .ok (.iconst 2, 1) := dk_5 (dk_at dksX4_heldAt_2 3 rfl rfl)
theorem dX4_heldAt_49 : decode cX4_heldAt 49 = .ok (.iadd, 1) := dk_96 (dk_at dksX4_heldAt_2 4 rfl rfl)
theorem dX4_heldAt_50 : decode cX4_heldAt 50 = .ok (.iaload, 1) := dk_46 (dk_at dksX4_heldAt_2 5 rfl rfl)
theorem dX4_heldAt_51 : decode cX4_heldAt 51 = .ok (.iload_n 3, 1) := dk_29 (dk_at dksX4_heldAt_2 6 rfl rfl)
theorem dX4_heldAt_52 : decode cX4_heldAt 52 = .ok (.if_icmp .ne 6, 3) := dk_160 0 6 (dk_at dksX4_heldAt_2 7 rfl rfl)
theorem dX4_heldAt_55 : decode cX4_heldAt 55 = .ok (.iload 4, 2) := dk_21 4 (dk_at dksX4_heldAt_2 10 rfl rfl)
theorem dX4_heldAt_57 : decode cX4_heldAt 57 = .ok (.ireturn, 1) := dk_172 (dk_at dksX4_heldAt_2 12 rfl rfl)
theorem dX4_heldAt_58 : decode cX4_heldAt 58 = .ok (.iinc 4 1, 3) := dk_132 4 1 (dk_at dksX4_heldAt_2 13 rfl rfl)
theorem dX4_heldAt_61 : decode cX4_heldAt 61 = .ok (.goto (-58), 3) := dk_167 255 198 (dk_at dksX4_heldAt_2 16 rfl rfl)
theorem dX4_heldAt_64 : decode cX4_heldAt 64 = .ok (.iconst (-1), 1) := dk_2 (dk_at dksX4_heldAt_2 19 rfl rfl)
theorem dX4_heldAt_65 : decode cX4_heldAt 65 = .ok (.ireturn, 1) := dk_172 (dk_at dksX4_heldAt_2 20 rfl rfl)
abbrev cX4_drawing : ByteArray := prog_18_method_26_code
def yX4_drawing : MethodName := ⟨RX4, "drawing", "(IIIII)I"⟩
def dkwX4_drawing_3 : List UInt8 := [3, 182, 0, 42, 167, 0, 5, 21, 9, 54, 9, 132, 10, 1, 167, 255, 206, 21, 9, 172]
abbrev dktX4_drawing_3 : List UInt8 := dkwX4_drawing_3 ++ []
def dkwX4_drawing_2 : List UInt8 := [27, 21, 7, 21, 8, 21, 7, 21, 6, 96, 21, 8, 21, 6, 96, 182, 0, 119, 153, 0, 13, 42, 21, 10]
abbrev dktX4_drawing_2 : List UInt8 := dkwX4_drawing_2 ++ dktX4_drawing_3
def dkwX4_drawing_1 : List UInt8 := [96, 21, 6, 104, 54, 8, 3, 54, 9, 3, 54, 10, 21, 10, 42, 180, 0, 39, 162, 0, 47, 42, 21, 10]
abbrev dktX4_drawing_1 : List UInt8 := dkwX4_drawing_1 ++ dktX4_drawing_2
def dkwX4_drawing_0 : List UInt8 := [16, 8, 27, 122, 54, 6, 16, 8, 28, 104, 21, 4, 96, 21, 6, 104, 54, 7, 16, 8, 29, 104, 21, 5]
abbrev dktX4_drawing_0 : List UInt8 := dkwX4_drawing_0 ++ dktX4_drawing_1
theorem dksX4_drawing_0 : cX4_drawing.data.toList.drop 0 = dktX4_drawing_0 := by decide +kernel
theorem dksX4_drawing_1 : cX4_drawing.data.toList.drop 24 = dktX4_drawing_1 := dk_seg dksX4_drawing_0 24 rfl rfl
theorem dksX4_drawing_2 : cX4_drawing.data.toList.drop 48 = dktX4_drawing_2 := dk_seg dksX4_drawing_1 24 rfl rfl
theorem dksX4_drawing_3 : cX4_drawing.data.toList.drop 72 = dktX4_drawing_3 := dk_seg dksX4_drawing_2 24 rfl rfl
theorem dX4_drawing_0 : decode cX4_drawing 0 = .ok (.bipush 8, 2) := dk_16 8 (dk_at dksX4_drawing_0 0 rfl rfl)
theorem dX4_drawing_2 : decode cX4_drawing 2 = .ok (.iload_n 1, 1) := dk_27 (dk_at dksX4_drawing_0 2 rfl rfl)
theorem dX4_drawing_3 : decode cX4_drawing 3 = .ok (.ishr, 1) := dk_122 (dk_at dksX4_drawing_0 3 rfl rfl)
theorem dX4_drawing_4 : decode cX4_drawing 4 = .ok (.istore 6, 2) := dk_54 6 (dk_at dksX4_drawing_0 4 rfl rfl)
theorem dX4_drawing_6 : decode cX4_drawing 6 = .ok (.bipush 8, 2) := dk_16 8 (dk_at dksX4_drawing_0 6 rfl rfl)
theorem dX4_drawing_8 : decode cX4_drawing 8 = .ok (.iload_n 2, 1) := dk_28 (dk_at dksX4_drawing_0 8 rfl rfl)
theorem dX4_drawing_9 : decode cX4_drawing 9 = .ok (.imul, 1) := dk_104 (dk_at dksX4_drawing_0 9 rfl rfl)
theorem dX4_drawing_10 : decode cX4_drawing 10 = .ok (.iload 4, 2) := dk_21 4 (dk_at dksX4_drawing_0 10 rfl rfl)
theorem dX4_drawing_12 : decode cX4_drawing 12 = .ok (.iadd, 1) := dk_96 (dk_at dksX4_drawing_0 12 rfl rfl)
theorem dX4_drawing_13 : decode cX4_drawing 13 = .ok (.iload 6, 2) := dk_21 6 (dk_at dksX4_drawing_0 13 rfl rfl)
theorem dX4_drawing_15 : decode cX4_drawing 15 = .ok (.imul, 1) := dk_104 (dk_at dksX4_drawing_0 15 rfl rfl)
theorem dX4_drawing_16 : decode cX4_drawing 16 = .ok (.istore 7, 2) := dk_54 7 (dk_at dksX4_drawing_0 16 rfl rfl)
theorem dX4_drawing_18 : decode cX4_drawing 18 = .ok (.bipush 8, 2) := dk_16 8 (dk_at dksX4_drawing_0 18 rfl rfl)
theorem dX4_drawing_20 : decode cX4_drawing 20 = .ok (.iload_n 3, 1) := dk_29 (dk_at dksX4_drawing_0 20 rfl rfl)
theorem dX4_drawing_21 : decode cX4_drawing 21 = .ok (.imul, 1) := dk_104 (dk_at dksX4_drawing_0 21 rfl rfl)
theorem dX4_drawing_22 : decode cX4_drawing 22 = .ok (.iload 5, 2) := dk_21 5 (dk_at dksX4_drawing_0 22 rfl rfl)
theorem dX4_drawing_24 : decode cX4_drawing 24 = .ok (.iadd, 1) := dk_96 (dk_at dksX4_drawing_1 0 rfl rfl)
theorem dX4_drawing_25 : decode cX4_drawing 25 = .ok (.iload 6, 2) := dk_21 6 (dk_at dksX4_drawing_1 1 rfl rfl)
theorem dX4_drawing_27 : decode cX4_drawing 27 = .ok (.imul, 1) := dk_104 (dk_at dksX4_drawing_1 3 rfl rfl)
theorem dX4_drawing_28 : decode cX4_drawing 28 = .ok (.istore 8, 2) := dk_54 8 (dk_at dksX4_drawing_1 4 rfl rfl)
theorem dX4_drawing_30 : decode cX4_drawing 30 = .ok (.iconst 0, 1) := dk_3 (dk_at dksX4_drawing_1 6 rfl rfl)
theorem dX4_drawing_31 : decode cX4_drawing 31 = .ok (.istore 9, 2) := dk_54 9 (dk_at dksX4_drawing_1 7 rfl rfl)
theorem dX4_drawing_33 : decode cX4_drawing 33 = .ok (.iconst 0, 1) := dk_3 (dk_at dksX4_drawing_1 9 rfl rfl)
theorem dX4_drawing_34 : decode cX4_drawing 34 = .ok (.istore 10, 2) := dk_54 10 (dk_at dksX4_drawing_1 10 rfl rfl)
theorem dX4_drawing_36 : decode cX4_drawing 36 = .ok (.iload 10, 2) := dk_21 10 (dk_at dksX4_drawing_1 12 rfl rfl)
theorem dX4_drawing_38 : decode cX4_drawing 38 = .ok (.aload_n 0, 1) := dk_42 (dk_at dksX4_drawing_1 14 rfl rfl)
theorem dX4_drawing_39 : decode cX4_drawing 39 = .ok (.getfield 39, 3) := dk_180 0 39 (dk_at dksX4_drawing_1 15 rfl rfl)
theorem dX4_drawing_42 : decode cX4_drawing 42 = .ok (.if_icmp .ge 47, 3) := dk_162 0 47 (dk_at dksX4_drawing_1 18 rfl rfl)
theorem dX4_drawing_45 : decode cX4_drawing 45 = .ok (.aload_n 0, 1) := dk_42 (dk_at dksX4_drawing_1 21 rfl rfl)
theorem dX4_drawing_46 : decode cX4_drawing 46 = .ok (.iload 10, 2) := dk_21 10 (dk_at dksX4_drawing_1 22 rfl rfl)
theorem dX4_drawing_48 : decode cX4_drawing 48 = .ok (.iload_n 1, 1) := dk_27 (dk_at dksX4_drawing_2 0 rfl rfl)
theorem dX4_drawing_49 : decode cX4_drawing 49 = .ok (.iload 7, 2) := dk_21 7 (dk_at dksX4_drawing_2 1 rfl rfl)
theorem dX4_drawing_51 : decode cX4_drawing 51 = .ok (.iload 8, 2) := dk_21 8 (dk_at dksX4_drawing_2 3 rfl rfl)
theorem dX4_drawing_53 : decode cX4_drawing 53 = .ok (.iload 7, 2) := dk_21 7 (dk_at dksX4_drawing_2 5 rfl rfl)
theorem dX4_drawing_55 : decode cX4_drawing 55 = .ok (.iload 6, 2) := dk_21 6 (dk_at dksX4_drawing_2 7 rfl rfl)
theorem dX4_drawing_57 : decode cX4_drawing 57 = .ok (.iadd, 1) := dk_96 (dk_at dksX4_drawing_2 9 rfl rfl)
theorem dX4_drawing_58 : decode cX4_drawing 58 = .ok (.iload 8, 2) := dk_21 8 (dk_at dksX4_drawing_2 10 rfl rfl)
theorem dX4_drawing_60 : decode cX4_drawing 60 = .ok (.iload 6, 2) := dk_21 6 (dk_at dksX4_drawing_2 12 rfl rfl)
theorem dX4_drawing_62 : decode cX4_drawing 62 = .ok (.iadd, 1) := dk_96 (dk_at dksX4_drawing_2 14 rfl rfl)
theorem dX4_drawing_63 : decode cX4_drawing 63 = .ok (.invokevirtual 119, 3) := dk_182 0 119 (dk_at dksX4_drawing_2 15 rfl rfl)
theorem dX4_drawing_66 : decode cX4_drawing 66 = .ok (.ifCond .eq 13, 3) := dk_153 0 13 (dk_at dksX4_drawing_2 18 rfl rfl)
theorem dX4_drawing_69 : decode cX4_drawing 69 = .ok (.aload_n 0, 1) := dk_42 (dk_at dksX4_drawing_2 21 rfl rfl)
theorem dX4_drawing_70 : decode cX4_drawing 70 = .ok (.iload 10, 2) := dk_21 10 (dk_at dksX4_drawing_2 22 rfl rfl)
theorem dX4_drawing_72 : decode cX4_drawing 72 = .ok (.iconst 0, 1) := dk_3 (dk_at dksX4_drawing_3 0 rfl rfl)
theorem dX4_drawing_73 : decode cX4_drawing 73 = .ok (.invokevirtual 42, 3) := dk_182 0 42 (dk_at dksX4_drawing_3 1 rfl rfl)
theorem dX4_drawing_76 : decode cX4_drawing 76 = .ok (.goto 5, 3) := dk_167 0 5 (dk_at dksX4_drawing_3 4 rfl rfl)
theorem dX4_drawing_79 : decode cX4_drawing 79 = .ok (.iload 9, 2) := dk_21 9 (dk_at dksX4_drawing_3 7 rfl rfl)
theorem dX4_drawing_81 : decode cX4_drawing 81 = .ok (.istore 9, 2) := dk_54 9 (dk_at dksX4_drawing_3 9 rfl rfl)
theorem dX4_drawing_83 : decode cX4_drawing 83 = .ok (.iinc 10 1, 3) := dk_132 10 1 (dk_at dksX4_drawing_3 11 rfl rfl)
theorem dX4_drawing_86 : decode cX4_drawing 86 = .ok (.goto (-50), 3) := dk_167 255 206 (dk_at dksX4_drawing_3 14 rfl rfl)
theorem dX4_drawing_89 : decode cX4_drawing 89 = .ok (.iload 9, 2) := dk_21 9 (dk_at dksX4_drawing_3 17 rfl rfl)
theorem dX4_drawing_91 : decode cX4_drawing 91 = .ok (.ireturn, 1) := dk_172 (dk_at dksX4_drawing_3 19 rfl rfl)
abbrev cX4_shows : ByteArray := prog_18_method_25_code
def yX4_shows : MethodName := ⟨RX4, "shows", "(IIIIII)Z"⟩
def dkwX4_shows_4 : List UInt8 := [182, 0, 42, 162, 0, 7, 4, 167, 0, 4, 3, 172]
abbrev dktX4_shows_4 : List UInt8 := dkwX4_shows_4 ++ []
def dkwX4_shows_3 : List UInt8 := [162, 0, 32, 21, 8, 42, 27, 6, 182, 0, 42, 162, 0, 21, 21, 7, 21, 8, 96, 42, 27, 7]
abbrev dktX4_shows_3 : List UInt8 := dkwX4_shows_3 ++ dktX4_shows_4
def dkwX4_shows_2 : List UInt8 := [27, 3, 182, 0, 68, 21, 4, 21, 6, 184, 0, 116, 54, 8, 21, 7, 42, 27, 6, 182, 0, 42]
abbrev dktX4_shows_2 : List UInt8 := dkwX4_shows_2 ++ dktX4_shows_3
def dkwX4_shows_1 : List UInt8 := [158, 0, 7, 4, 167, 0, 4, 3, 172, 42, 27, 3, 182, 0, 65, 29, 21, 5, 184, 0, 116, 54, 7, 42]
abbrev dktX4_shows_1 : List UInt8 := dkwX4_shows_1 ++ dktX4_shows_2
def dkwX4_shows_0 : List UInt8 := [42, 27, 4, 182, 0, 42, 154, 0, 25, 42, 27, 28, 29, 21, 4, 21, 5, 21, 6, 182, 0, 112]
abbrev dktX4_shows_0 : List UInt8 := dkwX4_shows_0 ++ dktX4_shows_1
theorem dksX4_shows_0 : cX4_shows.data.toList.drop 0 = dktX4_shows_0 := by decide +kernel
theorem dksX4_shows_1 : cX4_shows.data.toList.drop 22 = dktX4_shows_1 := dk_seg dksX4_shows_0 22 rfl rfl
theorem dksX4_shows_2 : cX4_shows.data.toList.drop 46 = dktX4_shows_2 := dk_seg dksX4_shows_1 24 rfl rfl
theorem dksX4_shows_3 : cX4_shows.data.toList.drop 68 = dktX4_shows_3 := dk_seg dksX4_shows_2 22 rfl rfl
theorem dksX4_shows_4 : cX4_shows.data.toList.drop 90 = dktX4_shows_4 := dk_seg dksX4_shows_3 22 rfl rfl
theorem dX4_shows_0 : decode cX4_shows 0 = .ok (.aload_n 0, 1) := dk_42 (dk_at dksX4_shows_0 0 rfl rfl)
theorem dX4_shows_1 : decode cX4_shows 1 = .ok (.iload_n 1, 1) := dk_27 (dk_at dksX4_shows_0 1 rfl rfl)
theorem dX4_shows_2 : decode cX4_shows 2 = .ok (.iconst 1, 1) := dk_4 (dk_at dksX4_shows_0 2 rfl rfl)
theorem dX4_shows_3 : decode cX4_shows 3 = .ok (.invokevirtual 42, 3) := dk_182 0 42 (dk_at dksX4_shows_0 3 rfl rfl)
theorem dX4_shows_6 : decode cX4_shows 6 = .ok (.ifCond .ne 25, 3) := dk_154 0 25 (dk_at dksX4_shows_0 6 rfl rfl)
theorem dX4_shows_9 : decode cX4_shows 9 = .ok (.aload_n 0, 1) := dk_42 (dk_at dksX4_shows_0 9 rfl rfl)
theorem dX4_shows_10 : decode cX4_shows 10 = .ok (.iload_n 1, 1) := dk_27 (dk_at dksX4_shows_0 10 rfl rfl)
theorem dX4_shows_11 : decode cX4_shows 11 = .ok (.iload_n 2, 1) := dk_28 (dk_at dksX4_shows_0 11 rfl rfl)
theorem dX4_shows_12 : decode cX4_shows 12 = .ok (.iload_n 3, 1) := dk_29 (dk_at dksX4_shows_0 12 rfl rfl)
theorem dX4_shows_13 : decode cX4_shows 13 = .ok (.iload 4, 2) := dk_21 4 (dk_at dksX4_shows_0 13 rfl rfl)
theorem dX4_shows_15 : decode cX4_shows 15 = .ok (.iload 5, 2) := dk_21 5 (dk_at dksX4_shows_0 15 rfl rfl)
theorem dX4_shows_17 : decode cX4_shows 17 = .ok (.iload 6, 2) := dk_21 6 (dk_at dksX4_shows_0 17 rfl rfl)
theorem dX4_shows_19 : decode cX4_shows 19 = .ok (.invokevirtual 112, 3) := dk_182 0 112 (dk_at dksX4_shows_0 19 rfl rfl)
theorem dX4_shows_22 : decode cX4_shows 22 = .ok (.ifCond .le 7, 3) := dk_158 0 7 (dk_at dksX4_shows_1 0 rfl rfl)
theorem dX4_shows_25 : decode cX4_shows 25 = .ok (.iconst 1, 1) := dk_4 (dk_at dksX4_shows_1 3 rfl rfl)
theorem dX4_shows_26 : decode cX4_shows 26 = .ok (.goto 4, 3) := dk_167 0 4 (dk_at dksX4_shows_1 4 rfl rfl)
theorem dX4_shows_29 : decode cX4_shows 29 = .ok (.iconst 0, 1) := dk_3 (dk_at dksX4_shows_1 7 rfl rfl)
theorem dX4_shows_30 : decode cX4_shows 30 = .ok (.ireturn, 1) := dk_172 (dk_at dksX4_shows_1 8 rfl rfl)
theorem dX4_shows_31 : decode cX4_shows 31 = .ok (.aload_n 0, 1) := dk_42 (dk_at dksX4_shows_1 9 rfl rfl)
theorem dX4_shows_32 : decode cX4_shows 32 = .ok (.iload_n 1, 1) := dk_27 (dk_at dksX4_shows_1 10 rfl rfl)
theorem dX4_shows_33 : decode cX4_shows 33 = .ok (.iconst 0, 1) := dk_3 (dk_at dksX4_shows_1 11 rfl rfl)
theorem dX4_shows_34 : decode cX4_shows 34 = .ok (.invokevirtual 65, 3) := dk_182 0 65 (dk_at dksX4_shows_1 12 rfl rfl)
theorem dX4_shows_37 : decode cX4_shows 37 = .ok (.iload_n 3, 1) := dk_29 (dk_at dksX4_shows_1 15 rfl rfl)
theorem dX4_shows_38 : decode cX4_shows 38 = .ok (.iload 5, 2) := dk_21 5 (dk_at dksX4_shows_1 16 rfl rfl)
theorem dX4_shows_40 : decode cX4_shows 40 = .ok (.invokestatic 116, 3) := dk_184 0 116 (dk_at dksX4_shows_1 18 rfl rfl)
theorem dX4_shows_43 : decode cX4_shows 43 = .ok (.istore 7, 2) := dk_54 7 (dk_at dksX4_shows_1 21 rfl rfl)
theorem dX4_shows_45 : decode cX4_shows 45 = .ok (.aload_n 0, 1) := dk_42 (dk_at dksX4_shows_1 23 rfl rfl)
theorem dX4_shows_46 : decode cX4_shows 46 = .ok (.iload_n 1, 1) := dk_27 (dk_at dksX4_shows_2 0 rfl rfl)
theorem dX4_shows_47 : decode cX4_shows 47 = .ok (.iconst 0, 1) := dk_3 (dk_at dksX4_shows_2 1 rfl rfl)
theorem dX4_shows_48 : decode cX4_shows 48 = .ok (.invokevirtual 68, 3) := dk_182 0 68 (dk_at dksX4_shows_2 2 rfl rfl)
theorem dX4_shows_51 : decode cX4_shows 51 = .ok (.iload 4, 2) := dk_21 4 (dk_at dksX4_shows_2 5 rfl rfl)
theorem dX4_shows_53 : decode cX4_shows 53 = .ok (.iload 6, 2) := dk_21 6 (dk_at dksX4_shows_2 7 rfl rfl)
theorem dX4_shows_55 : decode cX4_shows 55 = .ok (.invokestatic 116, 3) := dk_184 0 116 (dk_at dksX4_shows_2 9 rfl rfl)
theorem dX4_shows_58 : decode cX4_shows 58 = .ok (.istore 8, 2) := dk_54 8 (dk_at dksX4_shows_2 12 rfl rfl)
theorem dX4_shows_60 : decode cX4_shows 60 = .ok (.iload 7, 2) := dk_21 7 (dk_at dksX4_shows_2 14 rfl rfl)
theorem dX4_shows_62 : decode cX4_shows 62 = .ok (.aload_n 0, 1) := dk_42 (dk_at dksX4_shows_2 16 rfl rfl)
theorem dX4_shows_63 : decode cX4_shows 63 = .ok (.iload_n 1, 1) := dk_27 (dk_at dksX4_shows_2 17 rfl rfl)
theorem dX4_shows_64 : decode cX4_shows 64 = .ok (.iconst 3, 1) := dk_6 (dk_at dksX4_shows_2 18 rfl rfl)
theorem dX4_shows_65 : decode cX4_shows 65 = .ok (.invokevirtual 42, 3) := dk_182 0 42 (dk_at dksX4_shows_2 19 rfl rfl)
theorem dX4_shows_68 : decode cX4_shows 68 = .ok (.if_icmp .ge 32, 3) := dk_162 0 32 (dk_at dksX4_shows_3 0 rfl rfl)
theorem dX4_shows_71 : decode cX4_shows 71 = .ok (.iload 8, 2) := dk_21 8 (dk_at dksX4_shows_3 3 rfl rfl)
theorem dX4_shows_73 : decode cX4_shows 73 = .ok (.aload_n 0, 1) := dk_42 (dk_at dksX4_shows_3 5 rfl rfl)
theorem dX4_shows_74 : decode cX4_shows 74 = .ok (.iload_n 1, 1) := dk_27 (dk_at dksX4_shows_3 6 rfl rfl)
theorem dX4_shows_75 : decode cX4_shows 75 = .ok (.iconst 3, 1) := dk_6 (dk_at dksX4_shows_3 7 rfl rfl)
theorem dX4_shows_76 : decode cX4_shows 76 = .ok (.invokevirtual 42, 3) := dk_182 0 42 (dk_at dksX4_shows_3 8 rfl rfl)
theorem dX4_shows_79 : decode cX4_shows 79 = .ok (.if_icmp .ge 21, 3) := dk_162 0 21 (dk_at dksX4_shows_3 11 rfl rfl)
theorem dX4_shows_82 : decode cX4_shows 82 = .ok (.iload 7, 2) := dk_21 7 (dk_at dksX4_shows_3 14 rfl rfl)
theorem dX4_shows_84 : decode cX4_shows 84 = .ok (.iload 8, 2) := dk_21 8 (dk_at dksX4_shows_3 16 rfl rfl)
theorem dX4_shows_86 : decode cX4_shows 86 = .ok (.iadd, 1) := dk_96 (dk_at dksX4_shows_3 18 rfl rfl)
theorem dX4_shows_87 : decode cX4_shows 87 = .ok (.aload_n 0, 1) := dk_42 (dk_at dksX4_shows_3 19 rfl rfl)
theorem dX4_shows_88 : decode cX4_shows 88 = .ok (.iload_n 1, 1) := dk_27 (dk_at dksX4_shows_3 20 rfl rfl)
theorem dX4_shows_89 : decode cX4_shows 89 = .ok (.iconst 4, 1) := dk_7 (dk_at dksX4_shows_3 21 rfl rfl)
theorem dX4_shows_90 : decode cX4_shows 90 = .ok (.invokevirtual 42, 3) := dk_182 0 42 (dk_at dksX4_shows_4 0 rfl rfl)
theorem dX4_shows_93 : decode cX4_shows 93 = .ok (.if_icmp .ge 7, 3) := dk_162 0 7 (dk_at dksX4_shows_4 3 rfl rfl)
theorem dX4_shows_96 : decode cX4_shows 96 = .ok (.iconst 1, 1) := dk_4 (dk_at dksX4_shows_4 6 rfl rfl)
theorem dX4_shows_97 : decode cX4_shows 97 = .ok (.goto 4, 3) := dk_167 0 4 (dk_at dksX4_shows_4 7 rfl rfl)
theorem dX4_shows_100 : decode cX4_shows 100 = .ok (.iconst 0, 1) := dk_3 (dk_at dksX4_shows_4 10 rfl rfl)
theorem dX4_shows_101 : decode cX4_shows 101 = .ok (.ireturn, 1) := dk_172 (dk_at dksX4_shows_4 11 rfl rfl)
abbrev cX4_met : ByteArray := prog_18_method_23_code
def yX4_met : MethodName := ⟨RX4, "met", "(IIIIII)I"⟩
def dkwX4_met_3 : List UInt8 := [182, 0, 98, 54, 10, 167, 255, 204, 21, 9, 172]
abbrev dktX4_met_3 : List UInt8 := dkwX4_met_3 ++ []
def dkwX4_met_2 : List UInt8 := [21, 5, 21, 6, 182, 0, 108, 153, 0, 7, 4, 167, 0, 4, 3, 96, 54, 9, 42, 21, 7, 21, 10]
abbrev dktX4_met_2 : List UInt8 := dkwX4_met_2 ++ dktX4_met_3
def dkwX4_met_1 : List UInt8 := [21, 10, 21, 8, 162, 0, 51, 21, 9, 42, 27, 21, 10, 42, 21, 7, 21, 10, 182, 0, 98, 29, 21, 4]
abbrev dktX4_met_1 : List UInt8 := dkwX4_met_1 ++ dktX4_met_2
def dkwX4_met_0 : List UInt8 := [42, 27, 28, 182, 0, 105, 54, 7, 42, 27, 5, 182, 0, 42, 4, 100, 54, 8, 3, 54, 9, 3, 54, 10]
abbrev dktX4_met_0 : List UInt8 := dkwX4_met_0 ++ dktX4_met_1
theorem dksX4_met_0 : cX4_met.data.toList.drop 0 = dktX4_met_0 := by decide +kernel
theorem dksX4_met_1 : cX4_met.data.toList.drop 24 = dktX4_met_1 := dk_seg dksX4_met_0 24 rfl rfl
theorem dksX4_met_2 : cX4_met.data.toList.drop 48 = dktX4_met_2 := dk_seg dksX4_met_1 24 rfl rfl
theorem dksX4_met_3 : cX4_met.data.toList.drop 71 = dktX4_met_3 := dk_seg dksX4_met_2 23 rfl rfl
theorem dX4_met_0 : decode cX4_met 0 = .ok (.aload_n 0, 1) := dk_42 (dk_at dksX4_met_0 0 rfl rfl)
theorem dX4_met_1 : decode cX4_met 1 = .ok (.iload_n 1, 1) := dk_27 (dk_at dksX4_met_0 1 rfl rfl)
theorem dX4_met_2 : decode cX4_met 2 = .ok (.iload_n 2, 1) := dk_28 (dk_at dksX4_met_0 2 rfl rfl)
theorem dX4_met_3 : decode cX4_met 3 = .ok (.invokevirtual 105, 3) := dk_182 0 105 (dk_at dksX4_met_0 3 rfl rfl)
theorem dX4_met_6 : decode cX4_met 6 = .ok (.istore 7, 2) := dk_54 7 (dk_at dksX4_met_0 6 rfl rfl)
theorem dX4_met_8 : decode cX4_met 8 = .ok (.aload_n 0, 1) := dk_42 (dk_at dksX4_met_0 8 rfl rfl)
theorem dX4_met_9 : decode cX4_met 9 = .ok (.iload_n 1, 1) := dk_27 (dk_at dksX4_met_0 9 rfl rfl)
theorem dX4_met_10 : decode cX4_met 10 = .ok (.iconst 2, 1) := dk_5 (dk_at dksX4_met_0 10 rfl rfl)
theorem dX4_met_11 : decode cX4_met 11 = .ok (.invokevirtual 42, 3) := dk_182 0 42 (dk_at dksX4_met_0 11 rfl rfl)
theorem dX4_met_14 : decode cX4_met 14 = .ok (.iconst 1, 1) := dk_4 (dk_at dksX4_met_0 14 rfl rfl)
theorem dX4_met_15 : decode cX4_met 15 = .ok (.isub, 1) := dk_100 (dk_at dksX4_met_0 15 rfl rfl)
theorem dX4_met_16 : decode cX4_met 16 = .ok (.istore 8, 2) := dk_54 8 (dk_at dksX4_met_0 16 rfl rfl)
theorem dX4_met_18 : decode cX4_met 18 = .ok (.iconst 0, 1) := dk_3 (dk_at dksX4_met_0 18 rfl rfl)
theorem dX4_met_19 : decode cX4_met 19 = .ok (.istore 9, 2) := dk_54 9 (dk_at dksX4_met_0 19 rfl rfl)
theorem dX4_met_21 : decode cX4_met 21 = .ok (.iconst 0, 1) := dk_3 (dk_at dksX4_met_0 21 rfl rfl)
theorem dX4_met_22 : decode cX4_met 22 = .ok (.istore 10, 2) := dk_54 10 (dk_at dksX4_met_0 22 rfl rfl)
theorem dX4_met_24 : decode cX4_met 24 = .ok (.iload 10, 2) := dk_21 10 (dk_at dksX4_met_1 0 rfl rfl)
theorem dX4_met_26 : decode cX4_met 26 = .ok (.iload 8, 2) := dk_21 8 (dk_at dksX4_met_1 2 rfl rfl)
theorem dX4_met_28 : decode cX4_met 28 = .ok (.if_icmp .ge 51, 3) := dk_162 0 51 (dk_at dksX4_met_1 4 rfl rfl)
theorem dX4_met_31 : decode cX4_met 31 = .ok (.iload 9, 2) := dk_21 9 (dk_at dksX4_met_1 7 rfl rfl)
theorem dX4_met_33 : decode cX4_met 33 = .ok (.aload_n 0, 1) := dk_42 (dk_at dksX4_met_1 9 rfl rfl)
theorem dX4_met_34 : decode cX4_met 34 = .ok (.iload_n 1, 1) := dk_27 (dk_at dksX4_met_1 10 rfl rfl)
theorem dX4_met_35 : decode cX4_met 35 = .ok (.iload 10, 2) := dk_21 10 (dk_at dksX4_met_1 11 rfl rfl)
theorem dX4_met_37 : decode cX4_met 37 = .ok (.aload_n 0, 1) := dk_42 (dk_at dksX4_met_1 13 rfl rfl)
theorem dX4_met_38 : decode cX4_met 38 = .ok (.iload 7, 2) := dk_21 7 (dk_at dksX4_met_1 14 rfl rfl)
theorem dX4_met_40 : decode cX4_met 40 = .ok (.iload 10, 2) := dk_21 10 (dk_at dksX4_met_1 16 rfl rfl)
theorem dX4_met_42 : decode cX4_met 42 = .ok (.invokevirtual 98, 3) := dk_182 0 98 (dk_at dksX4_met_1 18 rfl rfl)
theorem dX4_met_45 : decode cX4_met 45 = .ok (.iload_n 3, 1) := dk_29 (dk_at dksX4_met_1 21 rfl rfl)
theorem dX4_met_46 : decode cX4_met 46 = .ok (.iload 4, 2) := dk_21 4 (dk_at dksX4_met_1 22 rfl rfl)
theorem dX4_met_48 : decode cX4_met 48 = .ok (.iload 5, 2) := dk_21 5 (dk_at dksX4_met_2 0 rfl rfl)
theorem dX4_met_50 : decode cX4_met 50 = .ok (.iload 6, 2) := dk_21 6 (dk_at dksX4_met_2 2 rfl rfl)
theorem dX4_met_52 : decode cX4_met 52 = .ok (.invokevirtual 108, 3) := dk_182 0 108 (dk_at dksX4_met_2 4 rfl rfl)
theorem dX4_met_55 : decode cX4_met 55 = .ok (.ifCond .eq 7, 3) := dk_153 0 7 (dk_at dksX4_met_2 7 rfl rfl)
theorem dX4_met_58 : decode cX4_met 58 = .ok (.iconst 1, 1) := dk_4 (dk_at dksX4_met_2 10 rfl rfl)
theorem dX4_met_59 : decode cX4_met 59 = .ok (.goto 4, 3) := dk_167 0 4 (dk_at dksX4_met_2 11 rfl rfl)
theorem dX4_met_62 : decode cX4_met 62 = .ok (.iconst 0, 1) := dk_3 (dk_at dksX4_met_2 14 rfl rfl)
theorem dX4_met_63 : decode cX4_met 63 = .ok (.iadd, 1) := dk_96 (dk_at dksX4_met_2 15 rfl rfl)
theorem dX4_met_64 : decode cX4_met 64 = .ok (.istore 9, 2) := dk_54 9 (dk_at dksX4_met_2 16 rfl rfl)
theorem dX4_met_66 : decode cX4_met 66 = .ok (.aload_n 0, 1) := dk_42 (dk_at dksX4_met_2 18 rfl rfl)
theorem dX4_met_67 : decode cX4_met 67 = .ok (.iload 7, 2) := dk_21 7 (dk_at dksX4_met_2 19 rfl rfl)
theorem dX4_met_69 : decode cX4_met 69 = .ok (.iload 10, 2) := dk_21 10 (dk_at dksX4_met_2 21 rfl rfl)
theorem dX4_met_71 : decode cX4_met 71 = .ok (.invokevirtual 98, 3) := dk_182 0 98 (dk_at dksX4_met_3 0 rfl rfl)
theorem dX4_met_74 : decode cX4_met 74 = .ok (.istore 10, 2) := dk_54 10 (dk_at dksX4_met_3 3 rfl rfl)
theorem dX4_met_76 : decode cX4_met 76 = .ok (.goto (-52), 3) := dk_167 255 204 (dk_at dksX4_met_3 5 rfl rfl)
theorem dX4_met_79 : decode cX4_met 79 = .ok (.iload 9, 2) := dk_21 9 (dk_at dksX4_met_3 8 rfl rfl)
theorem dX4_met_81 : decode cX4_met 81 = .ok (.ireturn, 1) := dk_172 (dk_at dksX4_met_3 10 rfl rfl)
abbrev cX4_meets : ByteArray := prog_18_method_22_code
def yX4_meets : MethodName := ⟨RX4, "meets", "(IIIIIII)Z"⟩
def dkwX4_meets_8 : List UInt8 := [21, 8, 153, 0, 19, 21, 9, 7, 162, 0, 13, 21, 10, 7, 162, 0, 7, 4, 167, 0, 4, 3, 172]
abbrev dktX4_meets_8 : List UInt8 := dkwX4_meets_8 ++ []
def dkwX4_meets_7 : List UInt8 := [54, 9, 21, 10, 21, 12, 156, 0, 7, 4, 167, 0, 4, 3, 96, 54, 10, 132, 11, 1, 167, 255, 181]
abbrev dktX4_meets_7 : List UInt8 := dkwX4_meets_7 ++ dktX4_meets_8
def dkwX4_meets_6 : List UInt8 := [167, 0, 5, 21, 7, 182, 0, 91, 54, 12, 21, 9, 21, 12, 158, 0, 7, 4, 167, 0, 4, 3, 96]
abbrev dktX4_meets_6 : List UInt8 := dkwX4_meets_6 ++ dktX4_meets_7
def dkwX4_meets_5 : List UInt8 := [29, 21, 11, 5, 112, 154, 0, 8, 21, 4, 167, 0, 5, 21, 6, 21, 11, 5, 162, 0, 8, 21, 5]
abbrev dktX4_meets_5 : List UInt8 := dkwX4_meets_5 ++ dktX4_meets_6
def dkwX4_meets_4 : List UInt8 := [167, 0, 4, 3, 54, 8, 3, 54, 9, 3, 54, 10, 3, 54, 11, 21, 11, 7, 162, 0, 75, 42, 27, 28]
abbrev dktX4_meets_4 : List UInt8 := dkwX4_meets_4 ++ dktX4_meets_5
def dkwX4_meets_3 : List UInt8 := [163, 0, 27, 42, 27, 28, 182, 0, 68, 42, 27, 29, 182, 0, 68, 184, 0, 76, 21, 5, 161, 0, 7, 4]
abbrev dktX4_meets_3 : List UInt8 := dkwX4_meets_3 ++ dktX4_meets_4
def dkwX4_meets_2 : List UInt8 := [21, 8, 153, 0, 47, 42, 27, 28, 182, 0, 68, 42, 27, 29, 182, 0, 68, 184, 0, 71, 21, 7]
abbrev dktX4_meets_2 : List UInt8 := dkwX4_meets_2 ++ dktX4_meets_3
def dkwX4_meets_1 : List UInt8 := [182, 0, 65, 42, 27, 29, 182, 0, 65, 184, 0, 76, 21, 4, 161, 0, 7, 4, 167, 0, 4, 3, 54, 8]
abbrev dktX4_meets_1 : List UInt8 := dkwX4_meets_1 ++ dktX4_meets_2
def dkwX4_meets_0 : List UInt8 := [42, 27, 28, 182, 0, 65, 42, 27, 29, 182, 0, 65, 184, 0, 71, 21, 6, 163, 0, 27, 42, 27, 28]
abbrev dktX4_meets_0 : List UInt8 := dkwX4_meets_0 ++ dktX4_meets_1
theorem dksX4_meets_0 : cX4_meets.data.toList.drop 0 = dktX4_meets_0 := by decide +kernel
theorem dksX4_meets_1 : cX4_meets.data.toList.drop 23 = dktX4_meets_1 := dk_seg dksX4_meets_0 23 rfl rfl
theorem dksX4_meets_2 : cX4_meets.data.toList.drop 47 = dktX4_meets_2 := dk_seg dksX4_meets_1 24 rfl rfl
theorem dksX4_meets_3 : cX4_meets.data.toList.drop 69 = dktX4_meets_3 := dk_seg dksX4_meets_2 22 rfl rfl
theorem dksX4_meets_4 : cX4_meets.data.toList.drop 93 = dktX4_meets_4 := dk_seg dksX4_meets_3 24 rfl rfl
theorem dksX4_meets_5 : cX4_meets.data.toList.drop 117 = dktX4_meets_5 := dk_seg dksX4_meets_4 24 rfl rfl
theorem dksX4_meets_6 : cX4_meets.data.toList.drop 140 = dktX4_meets_6 := dk_seg dksX4_meets_5 23 rfl rfl
theorem dksX4_meets_7 : cX4_meets.data.toList.drop 163 = dktX4_meets_7 := dk_seg dksX4_meets_6 23 rfl rfl
theorem dksX4_meets_8 : cX4_meets.data.toList.drop 186 = dktX4_meets_8 := dk_seg dksX4_meets_7 23 rfl rfl
theorem dX4_meets_0 : decode cX4_meets 0 = .ok (.aload_n 0, 1) := dk_42 (dk_at dksX4_meets_0 0 rfl rfl)
theorem dX4_meets_1 : decode cX4_meets 1 = .ok (.iload_n 1, 1) := dk_27 (dk_at dksX4_meets_0 1 rfl rfl)
theorem dX4_meets_2 : decode cX4_meets 2 = .ok (.iload_n 2, 1) := dk_28 (dk_at dksX4_meets_0 2 rfl rfl)
theorem dX4_meets_3 : decode cX4_meets 3 = .ok (.invokevirtual 65, 3) := dk_182 0 65 (dk_at dksX4_meets_0 3 rfl rfl)
theorem dX4_meets_6 : decode cX4_meets 6 = .ok (.aload_n 0, 1) := dk_42 (dk_at dksX4_meets_0 6 rfl rfl)
theorem dX4_meets_7 : decode cX4_meets 7 = .ok (.iload_n 1, 1) := dk_27 (dk_at dksX4_meets_0 7 rfl rfl)
theorem dX4_meets_8 : decode cX4_meets 8 = .ok (.iload_n 3, 1) := dk_29 (dk_at dksX4_meets_0 8 rfl rfl)
theorem dX4_meets_9 : decode cX4_meets 9 = .ok (.invokevirtual 65, 3) := dk_182 0 65 (dk_at dksX4_meets_0 9 rfl rfl)
theorem dX4_meets_12 : decode cX4_meets 12 = .ok (.invokestatic 71, 3) := dk_184 0 71 (dk_at dksX4_meets_0 12 rfl rfl)
theorem dX4_meets_15 : decode cX4_meets 15 = .ok (.iload 6, 2) := dk_21 6 (dk_at dksX4_meets_0 15 rfl rfl)
theorem dX4_meets_17 : decode cX4_meets 17 = .ok (.if_icmp .gt 27, 3) := dk_163 0 27 (dk_at dksX4_meets_0 17 rfl rfl)
theorem dX4_meets_20 : decode cX4_meets 20 = .ok (.aload_n 0, 1) := dk_42 (dk_at dksX4_meets_0 20 rfl rfl)
theorem dX4_meets_21 : decode cX4_meets 21 = .ok (.iload_n 1, 1) := dk_27 (dk_at dksX4_meets_0 21 rfl rfl)
theorem dX4_meets_22 : decode cX4_meets 22 = .ok (.iload_n 2, 1) := dk_28 (dk_at dksX4_meets_0 22 rfl rfl)
theorem dX4_meets_23 : decode cX4_meets 23 = .ok (.invokevirtual 65, 3) := dk_182 0 65 (dk_at dksX4_meets_1 0 rfl rfl)
theorem dX4_meets_26 : decode cX4_meets 26 = .ok (.aload_n 0, 1) := dk_42 (dk_at dksX4_meets_1 3 rfl rfl)
theorem dX4_meets_27 : decode cX4_meets 27 = .ok (.iload_n 1, 1) := dk_27 (dk_at dksX4_meets_1 4 rfl rfl)
theorem dX4_meets_28 : decode cX4_meets 28 = .ok (.iload_n 3, 1) := dk_29 (dk_at dksX4_meets_1 5 rfl rfl)
theorem dX4_meets_29 : decode cX4_meets 29 = .ok (.invokevirtual 65, 3) := dk_182 0 65 (dk_at dksX4_meets_1 6 rfl rfl)
theorem dX4_meets_32 : decode cX4_meets 32 = .ok (.invokestatic 76, 3) := dk_184 0 76 (dk_at dksX4_meets_1 9 rfl rfl)
theorem dX4_meets_35 : decode cX4_meets 35 = .ok (.iload 4, 2) := dk_21 4 (dk_at dksX4_meets_1 12 rfl rfl)
theorem dX4_meets_37 : decode cX4_meets 37 = .ok (.if_icmp .lt 7, 3) := dk_161 0 7 (dk_at dksX4_meets_1 14 rfl rfl)
theorem dX4_meets_40 : decode cX4_meets 40 = .ok (.iconst 1, 1) := dk_4 (dk_at dksX4_meets_1 17 rfl rfl)
theorem dX4_meets_41 : decode cX4_meets 41 = .ok (.goto 4, 3) := dk_167 0 4 (dk_at dksX4_meets_1 18 rfl rfl)
theorem dX4_meets_44 : decode cX4_meets 44 = .ok (.iconst 0, 1) := dk_3 (dk_at dksX4_meets_1 21 rfl rfl)
theorem dX4_meets_45 : decode cX4_meets 45 = .ok (.istore 8, 2) := dk_54 8 (dk_at dksX4_meets_1 22 rfl rfl)
theorem dX4_meets_47 : decode cX4_meets 47 = .ok (.iload 8, 2) := dk_21 8 (dk_at dksX4_meets_2 0 rfl rfl)
theorem dX4_meets_49 : decode cX4_meets 49 = .ok (.ifCond .eq 47, 3) := dk_153 0 47 (dk_at dksX4_meets_2 2 rfl rfl)
theorem dX4_meets_52 : decode cX4_meets 52 = .ok (.aload_n 0, 1) := dk_42 (dk_at dksX4_meets_2 5 rfl rfl)
theorem dX4_meets_53 : decode cX4_meets 53 = .ok (.iload_n 1, 1) := dk_27 (dk_at dksX4_meets_2 6 rfl rfl)
theorem dX4_meets_54 : decode cX4_meets 54 = .ok (.iload_n 2, 1) := dk_28 (dk_at dksX4_meets_2 7 rfl rfl)
theorem dX4_meets_55 : decode cX4_meets 55 = .ok (.invokevirtual 68, 3) := dk_182 0 68 (dk_at dksX4_meets_2 8 rfl rfl)
theorem dX4_meets_58 : decode cX4_meets 58 = .ok (.aload_n 0, 1) := dk_42 (dk_at dksX4_meets_2 11 rfl rfl)
theorem dX4_meets_59 : decode cX4_meets 59 = .ok (.iload_n 1, 1) := dk_27 (dk_at dksX4_meets_2 12 rfl rfl)
theorem dX4_meets_60 : decode cX4_meets 60 = .ok (.iload_n 3, 1) := dk_29 (dk_at dksX4_meets_2 13 rfl rfl)
theorem dX4_meets_61 : decode cX4_meets 61 = .ok (.invokevirtual 68, 3) := dk_182 0 68 (dk_at dksX4_meets_2 14 rfl rfl)
theorem dX4_meets_64 : decode cX4_meets 64 = .ok (.invokestatic 71, 3) := dk_184 0 71 (dk_at dksX4_meets_2 17 rfl rfl)
theorem dX4_meets_67 : decode cX4_meets 67 = .ok (.iload 7, 2) := dk_21 7 (dk_at dksX4_meets_2 20 rfl rfl)
theorem dX4_meets_69 : decode cX4_meets 69 = .ok (.if_icmp .gt 27, 3) := dk_163 0 27 (dk_at dksX4_meets_3 0 rfl rfl)
theorem dX4_meets_72 : decode cX4_meets 72 = .ok (.aload_n 0, 1) := dk_42 (dk_at dksX4_meets_3 3 rfl rfl)
theorem dX4_meets_73 : decode cX4_meets 73 = .ok (.iload_n 1, 1) := dk_27 (dk_at dksX4_meets_3 4 rfl rfl)
theorem dX4_meets_74 : decode cX4_meets 74 = .ok (.iload_n 2, 1) := dk_28 (dk_at dksX4_meets_3 5 rfl rfl)
theorem dX4_meets_75 : decode cX4_meets 75 = .ok (.invokevirtual 68, 3) := dk_182 0 68 (dk_at dksX4_meets_3 6 rfl rfl)
theorem dX4_meets_78 : decode cX4_meets 78 = .ok (.aload_n 0, 1) := dk_42 (dk_at dksX4_meets_3 9 rfl rfl)
theorem dX4_meets_79 : decode cX4_meets 79 = .ok (.iload_n 1, 1) := dk_27 (dk_at dksX4_meets_3 10 rfl rfl)
theorem dX4_meets_80 : decode cX4_meets 80 = .ok (.iload_n 3, 1) := dk_29 (dk_at dksX4_meets_3 11 rfl rfl)
theorem dX4_meets_81 : decode cX4_meets 81 = .ok (.invokevirtual 68, 3) := dk_182 0 68 (dk_at dksX4_meets_3 12 rfl rfl)
theorem dX4_meets_84 : decode cX4_meets 84 = .ok (.invokestatic 76, 3) := dk_184 0 76 (dk_at dksX4_meets_3 15 rfl rfl)
theorem dX4_meets_87 : decode cX4_meets 87 = .ok (.iload 5, 2) := dk_21 5 (dk_at dksX4_meets_3 18 rfl rfl)
theorem dX4_meets_89 : decode cX4_meets 89 = .ok (.if_icmp .lt 7, 3) := dk_161 0 7 (dk_at dksX4_meets_3 20 rfl rfl)
theorem dX4_meets_92 : decode cX4_meets 92 = .ok (.iconst 1, 1) := dk_4 (dk_at dksX4_meets_3 23 rfl rfl)
theorem dX4_meets_93 : decode cX4_meets 93 = .ok (.goto 4, 3) := dk_167 0 4 (dk_at dksX4_meets_4 0 rfl rfl)
theorem dX4_meets_96 : decode cX4_meets 96 = .ok (.iconst 0, 1) := dk_3 (dk_at dksX4_meets_4 3 rfl rfl)
theorem dX4_meets_97 : decode cX4_meets 97 = .ok (.istore 8, 2) := dk_54 8 (dk_at dksX4_meets_4 4 rfl rfl)
theorem dX4_meets_99 : decode cX4_meets 99 = .ok (.iconst 0, 1) := dk_3 (dk_at dksX4_meets_4 6 rfl rfl)
theorem dX4_meets_100 : decode cX4_meets 100 = .ok (.istore 9, 2) := dk_54 9 (dk_at dksX4_meets_4 7 rfl rfl)
theorem dX4_meets_102 : decode cX4_meets 102 = .ok (.iconst 0, 1) := dk_3 (dk_at dksX4_meets_4 9 rfl rfl)
theorem dX4_meets_103 : decode cX4_meets 103 = .ok (.istore 10, 2) := dk_54 10 (dk_at dksX4_meets_4 10 rfl rfl)
theorem dX4_meets_105 : decode cX4_meets 105 = .ok (.iconst 0, 1) := dk_3 (dk_at dksX4_meets_4 12 rfl rfl)
theorem dX4_meets_106 : decode cX4_meets 106 = .ok (.istore 11, 2) := dk_54 11 (dk_at dksX4_meets_4 13 rfl rfl)
theorem dX4_meets_108 : decode cX4_meets 108 = .ok (.iload 11, 2) := dk_21 11 (dk_at dksX4_meets_4 15 rfl rfl)
theorem dX4_meets_110 : decode cX4_meets 110 = .ok (.iconst 4, 1) := dk_7 (dk_at dksX4_meets_4 17 rfl rfl)
theorem dX4_meets_111 : decode cX4_meets 111 = .ok (.if_icmp .ge 75, 3) := dk_162 0 75 (dk_at dksX4_meets_4 18 rfl rfl)
theorem dX4_meets_114 : decode cX4_meets 114 = .ok (.aload_n 0, 1) := dk_42 (dk_at dksX4_meets_4 21 rfl rfl)
theorem dX4_meets_115 : decode cX4_meets 115 = .ok (.iload_n 1, 1) := dk_27 (dk_at dksX4_meets_4 22 rfl rfl)
theorem dX4_meets_116 : decode cX4_meets 116 = .ok (.iload_n 2, 1) := dk_28 (dk_at dksX4_meets_4 23 rfl rfl)
theorem dX4_meets_117 : decode cX4_meets 117 = .ok (.iload_n 3, 1) := dk_29 (dk_at dksX4_meets_5 0 rfl rfl)
theorem dX4_meets_118 : decode cX4_meets 118 = .ok (.iload 11, 2) := dk_21 11 (dk_at dksX4_meets_5 1 rfl rfl)
theorem dX4_meets_120 : decode cX4_meets 120 = .ok (.iconst 2, 1) := dk_5 (dk_at dksX4_meets_5 3 rfl rfl)
theorem dX4_meets_121 : decode cX4_meets 121 = .ok (.irem, 1) := dk_112 (dk_at dksX4_meets_5 4 rfl rfl)
theorem dX4_meets_122 : decode cX4_meets 122 = .ok (.ifCond .ne 8, 3) := dk_154 0 8 (dk_at dksX4_meets_5 5 rfl rfl)
theorem dX4_meets_125 : decode cX4_meets 125 = .ok (.iload 4, 2) := dk_21 4 (dk_at dksX4_meets_5 8 rfl rfl)
theorem dX4_meets_127 : decode cX4_meets 127 = .ok (.goto 5, 3) := dk_167 0 5 (dk_at dksX4_meets_5 10 rfl rfl)
theorem dX4_meets_130 : decode cX4_meets 130 = .ok (.iload 6, 2) := dk_21 6 (dk_at dksX4_meets_5 13 rfl rfl)
theorem dX4_meets_132 : decode cX4_meets 132 = .ok (.iload 11, 2) := dk_21 11 (dk_at dksX4_meets_5 15 rfl rfl)
theorem dX4_meets_134 : decode cX4_meets 134 = .ok (.iconst 2, 1) := dk_5 (dk_at dksX4_meets_5 17 rfl rfl)
theorem dX4_meets_135 : decode cX4_meets 135 = .ok (.if_icmp .ge 8, 3) := dk_162 0 8 (dk_at dksX4_meets_5 18 rfl rfl)
theorem dX4_meets_138 : decode cX4_meets 138 = .ok (.iload 5, 2) := dk_21 5 (dk_at dksX4_meets_5 21 rfl rfl)
theorem dX4_meets_140 : decode cX4_meets 140 = .ok (.goto 5, 3) := dk_167 0 5 (dk_at dksX4_meets_6 0 rfl rfl)
theorem dX4_meets_143 : decode cX4_meets 143 = .ok (.iload 7, 2) := dk_21 7 (dk_at dksX4_meets_6 3 rfl rfl)
theorem dX4_meets_145 : decode cX4_meets 145 = .ok (.invokevirtual 91, 3) := dk_182 0 91 (dk_at dksX4_meets_6 5 rfl rfl)
theorem dX4_meets_148 : decode cX4_meets 148 = .ok (.istore 12, 2) := dk_54 12 (dk_at dksX4_meets_6 8 rfl rfl)
theorem dX4_meets_150 : decode cX4_meets 150 = .ok (.iload 9, 2) := dk_21 9 (dk_at dksX4_meets_6 10 rfl rfl)
theorem dX4_meets_152 : decode cX4_meets 152 = .ok (.iload 12, 2) := dk_21 12 (dk_at dksX4_meets_6 12 rfl rfl)
theorem dX4_meets_154 : decode cX4_meets 154 = .ok (.ifCond .le 7, 3) := dk_158 0 7 (dk_at dksX4_meets_6 14 rfl rfl)
theorem dX4_meets_157 : decode cX4_meets 157 = .ok (.iconst 1, 1) := dk_4 (dk_at dksX4_meets_6 17 rfl rfl)
theorem dX4_meets_158 : decode cX4_meets 158 = .ok (.goto 4, 3) := dk_167 0 4 (dk_at dksX4_meets_6 18 rfl rfl)
theorem dX4_meets_161 : decode cX4_meets 161 = .ok (.iconst 0, 1) := dk_3 (dk_at dksX4_meets_6 21 rfl rfl)
theorem dX4_meets_162 : decode cX4_meets 162 = .ok (.iadd, 1) := dk_96 (dk_at dksX4_meets_6 22 rfl rfl)
theorem dX4_meets_163 : decode cX4_meets 163 = .ok (.istore 9, 2) := dk_54 9 (dk_at dksX4_meets_7 0 rfl rfl)
theorem dX4_meets_165 : decode cX4_meets 165 = .ok (.iload 10, 2) := dk_21 10 (dk_at dksX4_meets_7 2 rfl rfl)
theorem dX4_meets_167 : decode cX4_meets 167 = .ok (.iload 12, 2) := dk_21 12 (dk_at dksX4_meets_7 4 rfl rfl)
theorem dX4_meets_169 : decode cX4_meets 169 = .ok (.ifCond .ge 7, 3) := dk_156 0 7 (dk_at dksX4_meets_7 6 rfl rfl)
theorem dX4_meets_172 : decode cX4_meets 172 = .ok (.iconst 1, 1) := dk_4 (dk_at dksX4_meets_7 9 rfl rfl)
theorem dX4_meets_173 : decode cX4_meets 173 = .ok (.goto 4, 3) := dk_167 0 4 (dk_at dksX4_meets_7 10 rfl rfl)
theorem dX4_meets_176 : decode cX4_meets 176 = .ok (.iconst 0, 1) := dk_3 (dk_at dksX4_meets_7 13 rfl rfl)
theorem dX4_meets_177 : decode cX4_meets 177 = .ok (.iadd, 1) := dk_96 (dk_at dksX4_meets_7 14 rfl rfl)
theorem dX4_meets_178 : decode cX4_meets 178 = .ok (.istore 10, 2) := dk_54 10 (dk_at dksX4_meets_7 15 rfl rfl)
theorem dX4_meets_180 : decode cX4_meets 180 = .ok (.iinc 11 1, 3) := dk_132 11 1 (dk_at dksX4_meets_7 17 rfl rfl)
theorem dX4_meets_183 : decode cX4_meets 183 = .ok (.goto (-75), 3) := dk_167 255 181 (dk_at dksX4_meets_7 20 rfl rfl)
theorem dX4_meets_186 : decode cX4_meets 186 = .ok (.iload 8, 2) := dk_21 8 (dk_at dksX4_meets_8 0 rfl rfl)
theorem dX4_meets_188 : decode cX4_meets 188 = .ok (.ifCond .eq 19, 3) := dk_153 0 19 (dk_at dksX4_meets_8 2 rfl rfl)
theorem dX4_meets_191 : decode cX4_meets 191 = .ok (.iload 9, 2) := dk_21 9 (dk_at dksX4_meets_8 5 rfl rfl)
theorem dX4_meets_193 : decode cX4_meets 193 = .ok (.iconst 4, 1) := dk_7 (dk_at dksX4_meets_8 7 rfl rfl)
theorem dX4_meets_194 : decode cX4_meets 194 = .ok (.if_icmp .ge 13, 3) := dk_162 0 13 (dk_at dksX4_meets_8 8 rfl rfl)
theorem dX4_meets_197 : decode cX4_meets 197 = .ok (.iload 10, 2) := dk_21 10 (dk_at dksX4_meets_8 11 rfl rfl)
theorem dX4_meets_199 : decode cX4_meets 199 = .ok (.iconst 4, 1) := dk_7 (dk_at dksX4_meets_8 13 rfl rfl)
theorem dX4_meets_200 : decode cX4_meets 200 = .ok (.if_icmp .ge 7, 3) := dk_162 0 7 (dk_at dksX4_meets_8 14 rfl rfl)
theorem dX4_meets_203 : decode cX4_meets 203 = .ok (.iconst 1, 1) := dk_4 (dk_at dksX4_meets_8 17 rfl rfl)
theorem dX4_meets_204 : decode cX4_meets 204 = .ok (.goto 4, 3) := dk_167 0 4 (dk_at dksX4_meets_8 18 rfl rfl)
theorem dX4_meets_207 : decode cX4_meets 207 = .ok (.iconst 0, 1) := dk_3 (dk_at dksX4_meets_8 21 rfl rfl)
theorem dX4_meets_208 : decode cX4_meets 208 = .ok (.ireturn, 1) := dk_172 (dk_at dksX4_meets_8 22 rfl rfl)
abbrev cX4_between : ByteArray := prog_18_method_24_code
def yX4_between : MethodName := ⟨RX4, "between", "(III)I"⟩
def dkwX4_between_0 : List UInt8 := [3, 27, 26, 100, 26, 28, 100, 184, 0, 76, 184, 0, 76, 172]
abbrev dktX4_between_0 : List UInt8 := dkwX4_between_0 ++ []
theorem dksX4_between_0 : cX4_between.data.toList.drop 0 = dktX4_between_0 := by decide +kernel
theorem dX4_between_0 : decode cX4_between 0 = .ok (.iconst 0, 1) := dk_3 (dk_at dksX4_between_0 0 rfl rfl)
theorem dX4_between_1 : decode cX4_between 1 = .ok (.iload_n 1, 1) := dk_27 (dk_at dksX4_between_0 1 rfl rfl)
theorem dX4_between_2 : decode cX4_between 2 = .ok (.iload_n 0, 1) := dk_26 (dk_at dksX4_between_0 2 rfl rfl)
theorem dX4_between_3 : decode cX4_between 3 = .ok (.isub, 1) := dk_100 (dk_at dksX4_between_0 3 rfl rfl)
theorem dX4_between_4 : decode cX4_between 4 = .ok (.iload_n 0, 1) := dk_26 (dk_at dksX4_between_0 4 rfl rfl)
theorem dX4_between_5 : decode cX4_between 5 = .ok (.iload_n 2, 1) := dk_28 (dk_at dksX4_between_0 5 rfl rfl)
theorem dX4_between_6 : decode cX4_between 6 = .ok (.isub, 1) := dk_100 (dk_at dksX4_between_0 6 rfl rfl)
theorem dX4_between_7 : decode cX4_between 7 = .ok (.invokestatic 76, 3) := dk_184 0 76 (dk_at dksX4_between_0 7 rfl rfl)
theorem dX4_between_10 : decode cX4_between 10 = .ok (.invokestatic 76, 3) := dk_184 0 76 (dk_at dksX4_between_0 10 rfl rfl)
theorem dX4_between_13 : decode cX4_between 13 = .ok (.ireturn, 1) := dk_172 (dk_at dksX4_between_0 13 rfl rfl)
abbrev cX4_holds : ByteArray := prog_18_method_14_code
def yX4_holds : MethodName := ⟨RX4, "holds", "(IIII)V"⟩
def dkwX4_holds_2 : List UInt8 := [180, 0, 58, 104, 6, 96, 21, 4, 79, 42, 89, 180, 0, 58, 4, 96, 181, 0, 58, 177]
abbrev dktX4_holds_2 : List UInt8 := dkwX4_holds_2 ++ []
def dkwX4_holds_1 : List UInt8 := [28, 79, 42, 180, 0, 22, 7, 42, 180, 0, 58, 104, 5, 96, 29, 79, 42, 180, 0, 22, 7, 42]
abbrev dktX4_holds_1 : List UInt8 := dkwX4_holds_1 ++ dktX4_holds_2
def dkwX4_holds_0 : List UInt8 := [42, 180, 0, 22, 7, 42, 180, 0, 58, 104, 27, 79, 42, 180, 0, 22, 7, 42, 180, 0, 58, 104, 4, 96]
abbrev dktX4_holds_0 : List UInt8 := dkwX4_holds_0 ++ dktX4_holds_1
theorem dksX4_holds_0 : cX4_holds.data.toList.drop 0 = dktX4_holds_0 := by decide +kernel
theorem dksX4_holds_1 : cX4_holds.data.toList.drop 24 = dktX4_holds_1 := dk_seg dksX4_holds_0 24 rfl rfl
theorem dksX4_holds_2 : cX4_holds.data.toList.drop 46 = dktX4_holds_2 := dk_seg dksX4_holds_1 22 rfl rfl
theorem dX4_holds_0 : decode cX4_holds 0 = .ok (.aload_n 0, 1) := dk_42 (dk_at dksX4_holds_0 0 rfl rfl)
theorem dX4_holds_1 : decode cX4_holds 1 = .ok (.getfield 22, 3) := dk_180 0 22 (dk_at dksX4_holds_0 1 rfl rfl)
theorem dX4_holds_4 : decode cX4_holds 4 = .ok (.iconst 4, 1) := dk_7 (dk_at dksX4_holds_0 4 rfl rfl)
theorem dX4_holds_5 : decode cX4_holds 5 = .ok (.aload_n 0, 1) := dk_42 (dk_at dksX4_holds_0 5 rfl rfl)
theorem dX4_holds_6 : decode cX4_holds 6 = .ok (.getfield 58, 3) := dk_180 0 58 (dk_at dksX4_holds_0 6 rfl rfl)
theorem dX4_holds_9 : decode cX4_holds 9 = .ok (.imul, 1) := dk_104 (dk_at dksX4_holds_0 9 rfl rfl)
theorem dX4_holds_10 : decode cX4_holds 10 = .ok (.iload_n 1, 1) := dk_27 (dk_at dksX4_holds_0 10 rfl rfl)
theorem dX4_holds_11 : decode cX4_holds 11 = .ok (.iastore, 1) := dk_79 (dk_at dksX4_holds_0 11 rfl rfl)
theorem dX4_holds_12 : decode cX4_holds 12 = .ok (.aload_n 0, 1) := dk_42 (dk_at dksX4_holds_0 12 rfl rfl)
theorem dX4_holds_13 : decode cX4_holds 13 = .ok (.getfield 22, 3) := dk_180 0 22 (dk_at dksX4_holds_0 13 rfl rfl)
theorem dX4_holds_16 : decode cX4_holds 16 = .ok (.iconst 4, 1) := dk_7 (dk_at dksX4_holds_0 16 rfl rfl)
theorem dX4_holds_17 : decode cX4_holds 17 = .ok (.aload_n 0, 1) := dk_42 (dk_at dksX4_holds_0 17 rfl rfl)
theorem dX4_holds_18 : decode cX4_holds 18 = .ok (.getfield 58, 3) := dk_180 0 58 (dk_at dksX4_holds_0 18 rfl rfl)
theorem dX4_holds_21 : decode cX4_holds 21 = .ok (.imul, 1) := dk_104 (dk_at dksX4_holds_0 21 rfl rfl)
theorem dX4_holds_22 : decode cX4_holds 22 = .ok (.iconst 1, 1) := dk_4 (dk_at dksX4_holds_0 22 rfl rfl)
theorem dX4_holds_23 : decode cX4_holds 23 = .ok (.iadd, 1) := dk_96 (dk_at dksX4_holds_0 23 rfl rfl)
theorem dX4_holds_24 : decode cX4_holds 24 = .ok (.iload_n 2, 1) := dk_28 (dk_at dksX4_holds_1 0 rfl rfl)
theorem dX4_holds_25 : decode cX4_holds 25 = .ok (.iastore, 1) := dk_79 (dk_at dksX4_holds_1 1 rfl rfl)
theorem dX4_holds_26 : decode cX4_holds 26 = .ok (.aload_n 0, 1) := dk_42 (dk_at dksX4_holds_1 2 rfl rfl)
theorem dX4_holds_27 : decode cX4_holds 27 = .ok (.getfield 22, 3) := dk_180 0 22 (dk_at dksX4_holds_1 3 rfl rfl)
theorem dX4_holds_30 : decode cX4_holds 30 = .ok (.iconst 4, 1) := dk_7 (dk_at dksX4_holds_1 6 rfl rfl)
theorem dX4_holds_31 : decode cX4_holds 31 = .ok (.aload_n 0, 1) := dk_42 (dk_at dksX4_holds_1 7 rfl rfl)
theorem dX4_holds_32 : decode cX4_holds 32 = .ok (.getfield 58, 3) := dk_180 0 58 (dk_at dksX4_holds_1 8 rfl rfl)
theorem dX4_holds_35 : decode cX4_holds 35 = .ok (.imul, 1) := dk_104 (dk_at dksX4_holds_1 11 rfl rfl)
theorem dX4_holds_36 : decode cX4_holds 36 = .ok (.iconst 2, 1) := dk_5 (dk_at dksX4_holds_1 12 rfl rfl)
theorem dX4_holds_37 : decode cX4_holds 37 = .ok (.iadd, 1) := dk_96 (dk_at dksX4_holds_1 13 rfl rfl)
theorem dX4_holds_38 : decode cX4_holds 38 = .ok (.iload_n 3, 1) := dk_29 (dk_at dksX4_holds_1 14 rfl rfl)
theorem dX4_holds_39 : decode cX4_holds 39 = .ok (.iastore, 1) := dk_79 (dk_at dksX4_holds_1 15 rfl rfl)
theorem dX4_holds_40 : decode cX4_holds 40 = .ok (.aload_n 0, 1) := dk_42 (dk_at dksX4_holds_1 16 rfl rfl)
theorem dX4_holds_41 : decode cX4_holds 41 = .ok (.getfield 22, 3) := dk_180 0 22 (dk_at dksX4_holds_1 17 rfl rfl)
theorem dX4_holds_44 : decode cX4_holds 44 = .ok (.iconst 4, 1) := dk_7 (dk_at dksX4_holds_1 20 rfl rfl)
theorem dX4_holds_45 : decode cX4_holds 45 = .ok (.aload_n 0, 1) := dk_42 (dk_at dksX4_holds_1 21 rfl rfl)
theorem dX4_holds_46 : decode cX4_holds 46 = .ok (.getfield 58, 3) := dk_180 0 58 (dk_at dksX4_holds_2 0 rfl rfl)
theorem dX4_holds_49 : decode cX4_holds 49 = .ok (.imul, 1) := dk_104 (dk_at dksX4_holds_2 3 rfl rfl)
theorem dX4_holds_50 : decode cX4_holds 50 = .ok (.iconst 3, 1) := dk_6 (dk_at dksX4_holds_2 4 rfl rfl)
theorem dX4_holds_51 : decode cX4_holds 51 = .ok (.iadd, 1) := dk_96 (dk_at dksX4_holds_2 5 rfl rfl)
theorem dX4_holds_52 : decode cX4_holds 52 = .ok (.iload 4, 2) := dk_21 4 (dk_at dksX4_holds_2 6 rfl rfl)
theorem dX4_holds_54 : decode cX4_holds 54 = .ok (.iastore, 1) := dk_79 (dk_at dksX4_holds_2 8 rfl rfl)
theorem dX4_holds_55 : decode cX4_holds 55 = .ok (.aload_n 0, 1) := dk_42 (dk_at dksX4_holds_2 9 rfl rfl)
theorem dX4_holds_56 : decode cX4_holds 56 = .ok (.dup, 1) := dk_89 (dk_at dksX4_holds_2 10 rfl rfl)
theorem dX4_holds_57 : decode cX4_holds 57 = .ok (.getfield 58, 3) := dk_180 0 58 (dk_at dksX4_holds_2 11 rfl rfl)
theorem dX4_holds_60 : decode cX4_holds 60 = .ok (.iconst 1, 1) := dk_4 (dk_at dksX4_holds_2 14 rfl rfl)
theorem dX4_holds_61 : decode cX4_holds 61 = .ok (.iadd, 1) := dk_96 (dk_at dksX4_holds_2 15 rfl rfl)
theorem dX4_holds_62 : decode cX4_holds 62 = .ok (.putfield 58, 3) := dk_181 0 58 (dk_at dksX4_holds_2 16 rfl rfl)
theorem dX4_holds_65 : decode cX4_holds 65 = .ok (.return_, 1) := dk_177 (dk_at dksX4_holds_2 19 rfl rfl)
abbrev cX4_cellByDrawing : ByteArray := prog_18_method_54_code
def yX4_cellByDrawing : MethodName := ⟨RX4, "cellByDrawing", "(IIIII)I"⟩
def dkwX4_cellByDrawing_1 : List UInt8 := [182, 0, 194, 167, 0, 4, 2, 172]
abbrev dktX4_cellByDrawing_1 : List UInt8 := dkwX4_cellByDrawing_1 ++ []
def dkwX4_cellByDrawing_0 : List UInt8 := [42, 27, 28, 29, 21, 4, 21, 5, 182, 0, 181, 153, 0, 17, 42, 27, 28, 29, 21, 4, 21, 5]
abbrev dktX4_cellByDrawing_0 : List UInt8 := dkwX4_cellByDrawing_0 ++ dktX4_cellByDrawing_1
theorem dksX4_cellByDrawing_0 : cX4_cellByDrawing.data.toList.drop 0 = dktX4_cellByDrawing_0 := by decide +kernel
theorem dksX4_cellByDrawing_1 : cX4_cellByDrawing.data.toList.drop 22 = dktX4_cellByDrawing_1 := dk_seg dksX4_cellByDrawing_0 22 rfl rfl
theorem dX4_cellByDrawing_0 : decode cX4_cellByDrawing 0 = .ok (.aload_n 0, 1) := dk_42 (dk_at dksX4_cellByDrawing_0 0 rfl rfl)
theorem dX4_cellByDrawing_1 : decode cX4_cellByDrawing 1 = .ok (.iload_n 1, 1) := dk_27 (dk_at dksX4_cellByDrawing_0 1 rfl rfl)
theorem dX4_cellByDrawing_2 : decode cX4_cellByDrawing 2 = .ok (.iload_n 2, 1) := dk_28 (dk_at dksX4_cellByDrawing_0 2 rfl rfl)
theorem dX4_cellByDrawing_3 : decode cX4_cellByDrawing 3 = .ok (.iload_n 3, 1) := dk_29 (dk_at dksX4_cellByDrawing_0 3 rfl rfl)
theorem dX4_cellByDrawing_4 : decode cX4_cellByDrawing 4 = .ok (.iload 4, 2) := dk_21 4 (dk_at dksX4_cellByDrawing_0 4 rfl rfl)
theorem dX4_cellByDrawing_6 : decode cX4_cellByDrawing 6 = .ok (.iload 5, 2) := dk_21 5 (dk_at dksX4_cellByDrawing_0 6 rfl rfl)
theorem dX4_cellByDrawing_8 : decode cX4_cellByDrawing 8 = .ok (.invokevirtual 181, 3) := dk_182 0 181 (dk_at dksX4_cellByDrawing_0 8 rfl rfl)
theorem dX4_cellByDrawing_11 : decode cX4_cellByDrawing 11 = .ok (.ifCond .eq 17, 3) := dk_153 0 17 (dk_at dksX4_cellByDrawing_0 11 rfl rfl)
theorem dX4_cellByDrawing_14 : decode cX4_cellByDrawing 14 = .ok (.aload_n 0, 1) := dk_42 (dk_at dksX4_cellByDrawing_0 14 rfl rfl)
theorem dX4_cellByDrawing_15 : decode cX4_cellByDrawing 15 = .ok (.iload_n 1, 1) := dk_27 (dk_at dksX4_cellByDrawing_0 15 rfl rfl)
theorem dX4_cellByDrawing_16 : decode cX4_cellByDrawing 16 = .ok (.iload_n 2, 1) := dk_28 (dk_at dksX4_cellByDrawing_0 16 rfl rfl)
theorem dX4_cellByDrawing_17 : decode cX4_cellByDrawing 17 = .ok (.iload_n 3, 1) := dk_29 (dk_at dksX4_cellByDrawing_0 17 rfl rfl)
theorem dX4_cellByDrawing_18 : decode cX4_cellByDrawing 18 = .ok (.iload 4, 2) := dk_21 4 (dk_at dksX4_cellByDrawing_0 18 rfl rfl)
theorem dX4_cellByDrawing_20 : decode cX4_cellByDrawing 20 = .ok (.iload 5, 2) := dk_21 5 (dk_at dksX4_cellByDrawing_0 20 rfl rfl)
theorem dX4_cellByDrawing_22 : decode cX4_cellByDrawing 22 = .ok (.invokevirtual 194, 3) := dk_182 0 194 (dk_at dksX4_cellByDrawing_1 0 rfl rfl)
theorem dX4_cellByDrawing_25 : decode cX4_cellByDrawing 25 = .ok (.goto 4, 3) := dk_167 0 4 (dk_at dksX4_cellByDrawing_1 3 rfl rfl)
theorem dX4_cellByDrawing_28 : decode cX4_cellByDrawing 28 = .ok (.iconst (-1), 1) := dk_2 (dk_at dksX4_cellByDrawing_1 6 rfl rfl)
theorem dX4_cellByDrawing_29 : decode cX4_cellByDrawing 29 = .ok (.ireturn, 1) := dk_172 (dk_at dksX4_cellByDrawing_1 7 rfl rfl)
abbrev cX4_isCached : ByteArray := prog_18_method_55_code
def yX4_isCached : MethodName := ⟨RX4, "isCached", "(III)Z"⟩
def dkwX4_isCached_1 : List UInt8 := [154, 0, 18, 42, 27, 28, 29, 182, 0, 184, 2, 159, 0, 7, 4, 167, 0, 4, 3, 172]
abbrev dktX4_isCached_1 : List UInt8 := dkwX4_isCached_1 ++ []
def dkwX4_isCached_0 : List UInt8 := [42, 27, 28, 29, 184, 0, 176, 153, 0, 7, 3, 167, 0, 4, 4, 181, 0, 35, 42, 180, 0, 35]
abbrev dktX4_isCached_0 : List UInt8 := dkwX4_isCached_0 ++ dktX4_isCached_1
theorem dksX4_isCached_0 : cX4_isCached.data.toList.drop 0 = dktX4_isCached_0 := by decide +kernel
theorem dksX4_isCached_1 : cX4_isCached.data.toList.drop 22 = dktX4_isCached_1 := dk_seg dksX4_isCached_0 22 rfl rfl
theorem dX4_isCached_0 : decode cX4_isCached 0 = .ok (.aload_n 0, 1) := dk_42 (dk_at dksX4_isCached_0 0 rfl rfl)
theorem dX4_isCached_1 : decode cX4_isCached 1 = .ok (.iload_n 1, 1) := dk_27 (dk_at dksX4_isCached_0 1 rfl rfl)
theorem dX4_isCached_2 : decode cX4_isCached 2 = .ok (.iload_n 2, 1) := dk_28 (dk_at dksX4_isCached_0 2 rfl rfl)
theorem dX4_isCached_3 : decode cX4_isCached 3 = .ok (.iload_n 3, 1) := dk_29 (dk_at dksX4_isCached_0 3 rfl rfl)
theorem dX4_isCached_4 : decode cX4_isCached 4 = .ok (.invokestatic 176, 3) := dk_184 0 176 (dk_at dksX4_isCached_0 4 rfl rfl)
theorem dX4_isCached_7 : decode cX4_isCached 7 = .ok (.ifCond .eq 7, 3) := dk_153 0 7 (dk_at dksX4_isCached_0 7 rfl rfl)
theorem dX4_isCached_10 : decode cX4_isCached 10 = .ok (.iconst 0, 1) := dk_3 (dk_at dksX4_isCached_0 10 rfl rfl)
theorem dX4_isCached_11 : decode cX4_isCached 11 = .ok (.goto 4, 3) := dk_167 0 4 (dk_at dksX4_isCached_0 11 rfl rfl)
theorem dX4_isCached_14 : decode cX4_isCached 14 = .ok (.iconst 1, 1) := dk_4 (dk_at dksX4_isCached_0 14 rfl rfl)
theorem dX4_isCached_15 : decode cX4_isCached 15 = .ok (.putfield 35, 3) := dk_181 0 35 (dk_at dksX4_isCached_0 15 rfl rfl)
theorem dX4_isCached_18 : decode cX4_isCached 18 = .ok (.aload_n 0, 1) := dk_42 (dk_at dksX4_isCached_0 18 rfl rfl)
theorem dX4_isCached_19 : decode cX4_isCached 19 = .ok (.getfield 35, 3) := dk_180 0 35 (dk_at dksX4_isCached_0 19 rfl rfl)
theorem dX4_isCached_22 : decode cX4_isCached 22 = .ok (.ifCond .ne 18, 3) := dk_154 0 18 (dk_at dksX4_isCached_1 0 rfl rfl)
theorem dX4_isCached_25 : decode cX4_isCached 25 = .ok (.aload_n 0, 1) := dk_42 (dk_at dksX4_isCached_1 3 rfl rfl)
theorem dX4_isCached_26 : decode cX4_isCached 26 = .ok (.iload_n 1, 1) := dk_27 (dk_at dksX4_isCached_1 4 rfl rfl)
theorem dX4_isCached_27 : decode cX4_isCached 27 = .ok (.iload_n 2, 1) := dk_28 (dk_at dksX4_isCached_1 5 rfl rfl)
theorem dX4_isCached_28 : decode cX4_isCached 28 = .ok (.iload_n 3, 1) := dk_29 (dk_at dksX4_isCached_1 6 rfl rfl)
theorem dX4_isCached_29 : decode cX4_isCached 29 = .ok (.invokevirtual 184, 3) := dk_182 0 184 (dk_at dksX4_isCached_1 7 rfl rfl)
theorem dX4_isCached_32 : decode cX4_isCached 32 = .ok (.iconst (-1), 1) := dk_2 (dk_at dksX4_isCached_1 10 rfl rfl)
theorem dX4_isCached_33 : decode cX4_isCached 33 = .ok (.if_icmp .eq 7, 3) := dk_159 0 7 (dk_at dksX4_isCached_1 11 rfl rfl)
theorem dX4_isCached_36 : decode cX4_isCached 36 = .ok (.iconst 1, 1) := dk_4 (dk_at dksX4_isCached_1 14 rfl rfl)
theorem dX4_isCached_37 : decode cX4_isCached 37 = .ok (.goto 4, 3) := dk_167 0 4 (dk_at dksX4_isCached_1 15 rfl rfl)
theorem dX4_isCached_40 : decode cX4_isCached 40 = .ok (.iconst 0, 1) := dk_3 (dk_at dksX4_isCached_1 18 rfl rfl)
theorem dX4_isCached_41 : decode cX4_isCached 41 = .ok (.ireturn, 1) := dk_172 (dk_at dksX4_isCached_1 19 rfl rfl)
abbrev cX4_ageOf : ByteArray := prog_18_method_56_code
def yX4_ageOf : MethodName := ⟨RX4, "ageOf", "(III)I"⟩
def dkwX4_ageOf_2 : List UInt8 := [180, 0, 161, 42, 180, 0, 22, 7, 21, 4, 104, 6, 96, 46, 100, 167, 0, 4, 2, 172]
abbrev dktX4_ageOf_2 : List UInt8 := dkwX4_ageOf_2 ++ []
def dkwX4_ageOf_1 : List UInt8 := [21, 4, 2, 160, 0, 7, 5, 167, 0, 4, 3, 181, 0, 35, 42, 180, 0, 35, 154, 0, 22, 42]
abbrev dktX4_ageOf_1 : List UInt8 := dkwX4_ageOf_1 ++ dktX4_ageOf_2
def dkwX4_ageOf_0 : List UInt8 := [42, 27, 28, 29, 182, 0, 184, 54, 4, 42, 27, 28, 29, 184, 0, 176, 154, 0, 7, 4, 167, 0, 14]
abbrev dktX4_ageOf_0 : List UInt8 := dkwX4_ageOf_0 ++ dktX4_ageOf_1
theorem dksX4_ageOf_0 : cX4_ageOf.data.toList.drop 0 = dktX4_ageOf_0 := by decide +kernel
theorem dksX4_ageOf_1 : cX4_ageOf.data.toList.drop 23 = dktX4_ageOf_1 := dk_seg dksX4_ageOf_0 23 rfl rfl
theorem dksX4_ageOf_2 : cX4_ageOf.data.toList.drop 45 = dktX4_ageOf_2 := dk_seg dksX4_ageOf_1 22 rfl rfl
theorem dX4_ageOf_0 : decode cX4_ageOf 0 = .ok (.aload_n 0, 1) := dk_42 (dk_at dksX4_ageOf_0 0 rfl rfl)
theorem dX4_ageOf_1 : decode cX4_ageOf 1 = .ok (.iload_n 1, 1) := dk_27 (dk_at dksX4_ageOf_0 1 rfl rfl)
theorem dX4_ageOf_2 : decode cX4_ageOf 2 = .ok (.iload_n 2, 1) := dk_28 (dk_at dksX4_ageOf_0 2 rfl rfl)
theorem dX4_ageOf_3 : decode cX4_ageOf 3 = .ok (.iload_n 3, 1) := dk_29 (dk_at dksX4_ageOf_0 3 rfl rfl)
theorem dX4_ageOf_4 : decode cX4_ageOf 4 = .ok (.invokevirtual 184, 3) := dk_182 0 184 (dk_at dksX4_ageOf_0 4 rfl rfl)
theorem dX4_ageOf_7 : decode cX4_ageOf 7 = .ok (.istore 4, 2) := dk_54 4 (dk_at dksX4_ageOf_0 7 rfl rfl)
theorem dX4_ageOf_9 : decode cX4_ageOf 9 = .ok (.aload_n 0, 1) := dk_42 (dk_at dksX4_ageOf_0 9 rfl rfl)
theorem dX4_ageOf_10 : decode cX4_ageOf 10 = .ok (.iload_n 1, 1) := dk_27 (dk_at dksX4_ageOf_0 10 rfl rfl)
theorem dX4_ageOf_11 : decode cX4_ageOf 11 = .ok (.iload_n 2, 1) := dk_28 (dk_at dksX4_ageOf_0 11 rfl rfl)
theorem dX4_ageOf_12 : decode cX4_ageOf 12 = .ok (.iload_n 3, 1) := dk_29 (dk_at dksX4_ageOf_0 12 rfl rfl)
theorem dX4_ageOf_13 : decode cX4_ageOf 13 = .ok (.invokestatic 176, 3) := dk_184 0 176 (dk_at dksX4_ageOf_0 13 rfl rfl)
theorem dX4_ageOf_16 : decode cX4_ageOf 16 = .ok (.ifCond .ne 7, 3) := dk_154 0 7 (dk_at dksX4_ageOf_0 16 rfl rfl)
theorem dX4_ageOf_19 : decode cX4_ageOf 19 = .ok (.iconst 1, 1) := dk_4 (dk_at dksX4_ageOf_0 19 rfl rfl)
theorem dX4_ageOf_20 : decode cX4_ageOf 20 = .ok (.goto 14, 3) := dk_167 0 14 (dk_at dksX4_ageOf_0 20 rfl rfl)
theorem dX4_ageOf_23 : decode cX4_ageOf 23 = .ok (.iload 4, 2) := dk_21 4 (dk_at dksX4_ageOf_1 0 rfl rfl)
theorem dX4_ageOf_25 : decode cX4_ageOf 25 = .ok (.iconst (-1), 1) := dk_2 (dk_at dksX4_ageOf_1 2 rfl rfl)
theorem dX4_ageOf_26 : decode cX4_ageOf 26 = .ok (.if_icmp .ne 7, 3) := dk_160 0 7 (dk_at dksX4_ageOf_1 3 rfl rfl)
theorem dX4_ageOf_29 : decode cX4_ageOf 29 = .ok (.iconst 2, 1) := dk_5 (dk_at dksX4_ageOf_1 6 rfl rfl)
theorem dX4_ageOf_30 : decode cX4_ageOf 30 = .ok (.goto 4, 3) := dk_167 0 4 (dk_at dksX4_ageOf_1 7 rfl rfl)
theorem dX4_ageOf_33 : decode cX4_ageOf 33 = .ok (.iconst 0, 1) := dk_3 (dk_at dksX4_ageOf_1 10 rfl rfl)
theorem dX4_ageOf_34 : decode cX4_ageOf 34 = .ok (.putfield 35, 3) := dk_181 0 35 (dk_at dksX4_ageOf_1 11 rfl rfl)
theorem dX4_ageOf_37 : decode cX4_ageOf 37 = .ok (.aload_n 0, 1) := dk_42 (dk_at dksX4_ageOf_1 14 rfl rfl)
theorem dX4_ageOf_38 : decode cX4_ageOf 38 = .ok (.getfield 35, 3) := dk_180 0 35 (dk_at dksX4_ageOf_1 15 rfl rfl)
theorem dX4_ageOf_41 : decode cX4_ageOf 41 = .ok (.ifCond .ne 22, 3) := dk_154 0 22 (dk_at dksX4_ageOf_1 18 rfl rfl)
theorem dX4_ageOf_44 : decode cX4_ageOf 44 = .ok (.aload_n 0, 1) := dk_42 (dk_at dksX4_ageOf_1 21 rfl rfl)
theorem dX4_ageOf_45 : decode cX4_ageOf 45 = .ok (.getfield 161, 3) := dk_180 0 161 (dk_at dksX4_ageOf_2 0 rfl rfl)
theorem dX4_ageOf_48 : decode cX4_ageOf 48 = .ok (.aload_n 0, 1) := dk_42 (dk_at dksX4_ageOf_2 3 rfl rfl)
theorem dX4_ageOf_49 : decode cX4_ageOf 49 = .ok (.getfield 22, 3) := dk_180 0 22 (dk_at dksX4_ageOf_2 4 rfl rfl)
theorem dX4_ageOf_52 : decode cX4_ageOf 52 = .ok (.iconst 4, 1) := dk_7 (dk_at dksX4_ageOf_2 7 rfl rfl)
theorem dX4_ageOf_53 : decode cX4_ageOf 53 = .ok (.iload 4, 2) := dk_21 4 (dk_at dksX4_ageOf_2 8 rfl rfl)
theorem dX4_ageOf_55 : decode cX4_ageOf 55 = .ok (.imul, 1) := dk_104 (dk_at dksX4_ageOf_2 10 rfl rfl)
theorem dX4_ageOf_56 : decode cX4_ageOf 56 = .ok (.iconst 3, 1) := dk_6 (dk_at dksX4_ageOf_2 11 rfl rfl)
theorem dX4_ageOf_57 : decode cX4_ageOf 57 = .ok (.iadd, 1) := dk_96 (dk_at dksX4_ageOf_2 12 rfl rfl)
theorem dX4_ageOf_58 : decode cX4_ageOf 58 = .ok (.iaload, 1) := dk_46 (dk_at dksX4_ageOf_2 13 rfl rfl)
theorem dX4_ageOf_59 : decode cX4_ageOf 59 = .ok (.isub, 1) := dk_100 (dk_at dksX4_ageOf_2 14 rfl rfl)
theorem dX4_ageOf_60 : decode cX4_ageOf 60 = .ok (.goto 4, 3) := dk_167 0 4 (dk_at dksX4_ageOf_2 15 rfl rfl)
theorem dX4_ageOf_63 : decode cX4_ageOf 63 = .ok (.iconst (-1), 1) := dk_2 (dk_at dksX4_ageOf_2 18 rfl rfl)
theorem dX4_ageOf_64 : decode cX4_ageOf 64 = .ok (.ireturn, 1) := dk_172 (dk_at dksX4_ageOf_2 19 rfl rfl)
abbrev cX4_cached : ByteArray := prog_18_method_57_code
def yX4_cached : MethodName := ⟨RX4, "cached", "()I"⟩
def dkwX4_cached_0 : List UInt8 := [42, 3, 181, 0, 35, 42, 180, 0, 58, 172]
abbrev dktX4_cached_0 : List UInt8 := dkwX4_cached_0 ++ []
theorem dksX4_cached_0 : cX4_cached.data.toList.drop 0 = dktX4_cached_0 := by decide +kernel
theorem dX4_cached_0 : decode cX4_cached 0 = .ok (.aload_n 0, 1) := dk_42 (dk_at dksX4_cached_0 0 rfl rfl)
theorem dX4_cached_1 : decode cX4_cached 1 = .ok (.iconst 0, 1) := dk_3 (dk_at dksX4_cached_0 1 rfl rfl)
theorem dX4_cached_2 : decode cX4_cached 2 = .ok (.putfield 35, 3) := dk_181 0 35 (dk_at dksX4_cached_0 2 rfl rfl)
theorem dX4_cached_5 : decode cX4_cached 5 = .ok (.aload_n 0, 1) := dk_42 (dk_at dksX4_cached_0 5 rfl rfl)
theorem dX4_cached_6 : decode cX4_cached 6 = .ok (.getfield 58, 3) := dk_180 0 58 (dk_at dksX4_cached_0 6 rfl rfl)
theorem dX4_cached_9 : decode cX4_cached 9 = .ok (.ireturn, 1) := dk_172 (dk_at dksX4_cached_0 9 rfl rfl)
abbrev cX4_misses : ByteArray := prog_18_method_58_code
def yX4_misses : MethodName := ⟨RX4, "misses", "()I"⟩
def dkwX4_misses_0 : List UInt8 := [42, 3, 181, 0, 35, 42, 180, 0, 187, 172]
abbrev dktX4_misses_0 : List UInt8 := dkwX4_misses_0 ++ []
theorem dksX4_misses_0 : cX4_misses.data.toList.drop 0 = dktX4_misses_0 := by decide +kernel
theorem dX4_misses_0 : decode cX4_misses 0 = .ok (.aload_n 0, 1) := dk_42 (dk_at dksX4_misses_0 0 rfl rfl)
theorem dX4_misses_1 : decode cX4_misses 1 = .ok (.iconst 0, 1) := dk_3 (dk_at dksX4_misses_0 1 rfl rfl)
theorem dX4_misses_2 : decode cX4_misses 2 = .ok (.putfield 35, 3) := dk_181 0 35 (dk_at dksX4_misses_0 2 rfl rfl)
theorem dX4_misses_5 : decode cX4_misses 5 = .ok (.aload_n 0, 1) := dk_42 (dk_at dksX4_misses_0 5 rfl rfl)
theorem dX4_misses_6 : decode cX4_misses 6 = .ok (.getfield 187, 3) := dk_180 0 187 (dk_at dksX4_misses_0 6 rfl rfl)
theorem dX4_misses_9 : decode cX4_misses 9 = .ok (.ireturn, 1) := dk_172 (dk_at dksX4_misses_0 9 rfl rfl)
abbrev cX4_hitShare : ByteArray := prog_18_method_59_code
def yX4_hitShare : MethodName := ⟨RX4, "hitShare", "()F"⟩
def dkwX4_hitShare_2 : List UInt8 := [167, 0, 4, 11, 174]
abbrev dktX4_hitShare_2 : List UInt8 := dkwX4_hitShare_2 ++ []
def dkwX4_hitShare_1 : List UInt8 := [180, 0, 35, 154, 0, 22, 42, 180, 0, 197, 134, 42, 180, 0, 197, 42, 180, 0, 187, 96, 134, 110]
abbrev dktX4_hitShare_1 : List UInt8 := dkwX4_hitShare_1 ++ dktX4_hitShare_2
def dkwX4_hitShare_0 : List UInt8 := [42, 42, 180, 0, 197, 42, 180, 0, 187, 96, 154, 0, 7, 4, 167, 0, 4, 3, 181, 0, 35, 42]
abbrev dktX4_hitShare_0 : List UInt8 := dkwX4_hitShare_0 ++ dktX4_hitShare_1
theorem dksX4_hitShare_0 : cX4_hitShare.data.toList.drop 0 = dktX4_hitShare_0 := by decide +kernel
theorem dksX4_hitShare_1 : cX4_hitShare.data.toList.drop 22 = dktX4_hitShare_1 := dk_seg dksX4_hitShare_0 22 rfl rfl
theorem dksX4_hitShare_2 : cX4_hitShare.data.toList.drop 44 = dktX4_hitShare_2 := dk_seg dksX4_hitShare_1 22 rfl rfl
theorem dX4_hitShare_0 : decode cX4_hitShare 0 = .ok (.aload_n 0, 1) := dk_42 (dk_at dksX4_hitShare_0 0 rfl rfl)
theorem dX4_hitShare_1 : decode cX4_hitShare 1 = .ok (.aload_n 0, 1) := dk_42 (dk_at dksX4_hitShare_0 1 rfl rfl)
theorem dX4_hitShare_2 : decode cX4_hitShare 2 = .ok (.getfield 197, 3) := dk_180 0 197 (dk_at dksX4_hitShare_0 2 rfl rfl)
theorem dX4_hitShare_5 : decode cX4_hitShare 5 = .ok (.aload_n 0, 1) := dk_42 (dk_at dksX4_hitShare_0 5 rfl rfl)
theorem dX4_hitShare_6 : decode cX4_hitShare 6 = .ok (.getfield 187, 3) := dk_180 0 187 (dk_at dksX4_hitShare_0 6 rfl rfl)
theorem dX4_hitShare_9 : decode cX4_hitShare 9 = .ok (.iadd, 1) := dk_96 (dk_at dksX4_hitShare_0 9 rfl rfl)
theorem dX4_hitShare_10 : decode cX4_hitShare 10 = .ok (.ifCond .ne 7, 3) := dk_154 0 7 (dk_at dksX4_hitShare_0 10 rfl rfl)
theorem dX4_hitShare_13 : decode cX4_hitShare 13 = .ok (.iconst 1, 1) := dk_4 (dk_at dksX4_hitShare_0 13 rfl rfl)
theorem dX4_hitShare_14 : decode cX4_hitShare 14 = .ok (.goto 4, 3) := dk_167 0 4 (dk_at dksX4_hitShare_0 14 rfl rfl)
theorem dX4_hitShare_17 : decode cX4_hitShare 17 = .ok (.iconst 0, 1) := dk_3 (dk_at dksX4_hitShare_0 17 rfl rfl)
theorem dX4_hitShare_18 : decode cX4_hitShare 18 = .ok (.putfield 35, 3) := dk_181 0 35 (dk_at dksX4_hitShare_0 18 rfl rfl)
theorem dX4_hitShare_21 : decode cX4_hitShare 21 = .ok (.aload_n 0, 1) := dk_42 (dk_at dksX4_hitShare_0 21 rfl rfl)
theorem dX4_hitShare_22 : decode cX4_hitShare 22 = .ok (.getfield 35, 3) := dk_180 0 35 (dk_at dksX4_hitShare_1 0 rfl rfl)
theorem dX4_hitShare_25 : decode cX4_hitShare 25 = .ok (.ifCond .ne 22, 3) := dk_154 0 22 (dk_at dksX4_hitShare_1 3 rfl rfl)
theorem dX4_hitShare_28 : decode cX4_hitShare 28 = .ok (.aload_n 0, 1) := dk_42 (dk_at dksX4_hitShare_1 6 rfl rfl)
theorem dX4_hitShare_29 : decode cX4_hitShare 29 = .ok (.getfield 197, 3) := dk_180 0 197 (dk_at dksX4_hitShare_1 7 rfl rfl)
theorem dX4_hitShare_32 : decode cX4_hitShare 32 = .ok (.i2f, 1) := dk_134 (dk_at dksX4_hitShare_1 10 rfl rfl)
theorem dX4_hitShare_33 : decode cX4_hitShare 33 = .ok (.aload_n 0, 1) := dk_42 (dk_at dksX4_hitShare_1 11 rfl rfl)
theorem dX4_hitShare_34 : decode cX4_hitShare 34 = .ok (.getfield 197, 3) := dk_180 0 197 (dk_at dksX4_hitShare_1 12 rfl rfl)
theorem dX4_hitShare_37 : decode cX4_hitShare 37 = .ok (.aload_n 0, 1) := dk_42 (dk_at dksX4_hitShare_1 15 rfl rfl)
theorem dX4_hitShare_38 : decode cX4_hitShare 38 = .ok (.getfield 187, 3) := dk_180 0 187 (dk_at dksX4_hitShare_1 16 rfl rfl)
theorem dX4_hitShare_41 : decode cX4_hitShare 41 = .ok (.iadd, 1) := dk_96 (dk_at dksX4_hitShare_1 19 rfl rfl)
theorem dX4_hitShare_42 : decode cX4_hitShare 42 = .ok (.i2f, 1) := dk_134 (dk_at dksX4_hitShare_1 20 rfl rfl)
theorem dX4_hitShare_43 : decode cX4_hitShare 43 = .ok (.fdiv, 1) := dk_110 (dk_at dksX4_hitShare_1 21 rfl rfl)
theorem dX4_hitShare_44 : decode cX4_hitShare 44 = .ok (.goto 4, 3) := dk_167 0 4 (dk_at dksX4_hitShare_2 0 rfl rfl)
theorem dX4_hitShare_47 : decode cX4_hitShare 47 = .ok (.fconst 0, 1) := dk_11 (dk_at dksX4_hitShare_2 3 rfl rfl)
theorem dX4_hitShare_48 : decode cX4_hitShare 48 = .ok (.freturn, 1) := dk_174 (dk_at dksX4_hitShare_2 4 rfl rfl)
abbrev cX4_areaIn : ByteArray := prog_18_method_61_code
def yX4_areaIn : MethodName := ⟨RX4, "areaIn", "(IIII)I"⟩
def dkwX4_areaIn_9 : List UInt8 := [132, 8, 6, 167, 255, 100, 21, 7, 172]
abbrev dktX4_areaIn_9 : List UInt8 := dkwX4_areaIn_9 ++ []
def dkwX4_areaIn_8 : List UInt8 := [21, 9, 8, 96, 182, 0, 204, 153, 0, 7, 4, 167, 0, 4, 3, 96, 54, 7, 132, 9, 6, 167, 255, 130]
abbrev dktX4_areaIn_8 : List UInt8 := dkwX4_areaIn_8 ++ dktX4_areaIn_9
def dkwX4_areaIn_7 : List UInt8 := [182, 0, 204, 153, 0, 7, 4, 167, 0, 4, 3, 96, 54, 7, 21, 7, 42, 21, 5, 21, 8, 6, 96]
abbrev dktX4_areaIn_7 : List UInt8 := dkwX4_areaIn_7 ++ dktX4_areaIn_8
def dkwX4_areaIn_6 : List UInt8 := [153, 0, 7, 4, 167, 0, 4, 3, 96, 54, 7, 21, 7, 42, 21, 5, 21, 8, 6, 96, 21, 9, 4, 96]
abbrev dktX4_areaIn_6 : List UInt8 := dkwX4_areaIn_6 ++ dktX4_areaIn_7
def dkwX4_areaIn_5 : List UInt8 := [167, 0, 4, 3, 96, 54, 7, 21, 7, 42, 21, 5, 21, 8, 8, 96, 21, 9, 6, 96, 182, 0, 204]
abbrev dktX4_areaIn_5 : List UInt8 := dkwX4_areaIn_5 ++ dktX4_areaIn_6
def dkwX4_areaIn_4 : List UInt8 := [162, 0, 117, 21, 7, 42, 21, 5, 21, 8, 4, 96, 21, 9, 6, 96, 182, 0, 204, 153, 0, 7, 4]
abbrev dktX4_areaIn_4 : List UInt8 := dkwX4_areaIn_4 ++ dktX4_areaIn_5
def dkwX4_areaIn_3 : List UInt8 := [16, 6, 21, 4, 104, 21, 6, 104, 54, 9, 21, 9, 16, 6, 21, 4, 4, 96, 104, 21, 6, 104]
abbrev dktX4_areaIn_3 : List UInt8 := dkwX4_areaIn_3 ++ dktX4_areaIn_4
def dkwX4_areaIn_2 : List UInt8 := [16, 6, 29, 104, 21, 6, 104, 54, 8, 21, 8, 16, 6, 29, 4, 96, 104, 21, 6, 104, 162, 0, 148]
abbrev dktX4_areaIn_2 : List UInt8 := dkwX4_areaIn_2 ++ dktX4_areaIn_3
def dkwX4_areaIn_1 : List UInt8 := [180, 0, 35, 158, 0, 5, 2, 172, 42, 27, 182, 0, 138, 54, 5, 28, 184, 0, 61, 54, 6, 3, 54, 7]
abbrev dktX4_areaIn_1 : List UInt8 := dkwX4_areaIn_1 ++ dktX4_areaIn_2
def dkwX4_areaIn_0 : List UInt8 := [42, 27, 182, 0, 152, 153, 0, 18, 28, 29, 21, 4, 184, 0, 176, 154, 0, 8, 42, 6, 181, 0, 35, 42]
abbrev dktX4_areaIn_0 : List UInt8 := dkwX4_areaIn_0 ++ dktX4_areaIn_1
theorem dksX4_areaIn_0 : cX4_areaIn.data.toList.drop 0 = dktX4_areaIn_0 := by decide +kernel
theorem dksX4_areaIn_1 : cX4_areaIn.data.toList.drop 24 = dktX4_areaIn_1 := dk_seg dksX4_areaIn_0 24 rfl rfl
theorem dksX4_areaIn_2 : cX4_areaIn.data.toList.drop 48 = dktX4_areaIn_2 := dk_seg dksX4_areaIn_1 24 rfl rfl
theorem dksX4_areaIn_3 : cX4_areaIn.data.toList.drop 71 = dktX4_areaIn_3 := dk_seg dksX4_areaIn_2 23 rfl rfl
theorem dksX4_areaIn_4 : cX4_areaIn.data.toList.drop 93 = dktX4_areaIn_4 := dk_seg dksX4_areaIn_3 22 rfl rfl
theorem dksX4_areaIn_5 : cX4_areaIn.data.toList.drop 116 = dktX4_areaIn_5 := dk_seg dksX4_areaIn_4 23 rfl rfl
theorem dksX4_areaIn_6 : cX4_areaIn.data.toList.drop 139 = dktX4_areaIn_6 := dk_seg dksX4_areaIn_5 23 rfl rfl
theorem dksX4_areaIn_7 : cX4_areaIn.data.toList.drop 163 = dktX4_areaIn_7 := dk_seg dksX4_areaIn_6 24 rfl rfl
theorem dksX4_areaIn_8 : cX4_areaIn.data.toList.drop 186 = dktX4_areaIn_8 := dk_seg dksX4_areaIn_7 23 rfl rfl
theorem dksX4_areaIn_9 : cX4_areaIn.data.toList.drop 210 = dktX4_areaIn_9 := dk_seg dksX4_areaIn_8 24 rfl rfl
theorem dX4_areaIn_0 : decode cX4_areaIn 0 = .ok (.aload_n 0, 1) := dk_42 (dk_at dksX4_areaIn_0 0 rfl rfl)
theorem dX4_areaIn_1 : decode cX4_areaIn 1 = .ok (.iload_n 1, 1) := dk_27 (dk_at dksX4_areaIn_0 1 rfl rfl)
theorem dX4_areaIn_2 : decode cX4_areaIn 2 = .ok (.invokevirtual 152, 3) := dk_182 0 152 (dk_at dksX4_areaIn_0 2 rfl rfl)
theorem dX4_areaIn_5 : decode cX4_areaIn 5 = .ok (.ifCond .eq 18, 3) := dk_153 0 18 (dk_at dksX4_areaIn_0 5 rfl rfl)
theorem dX4_areaIn_8 : decode cX4_areaIn 8 = .ok (.iload_n 2, 1) := dk_28 (dk_at dksX4_areaIn_0 8 rfl rfl)
theorem dX4_areaIn_9 : decode cX4_areaIn 9 = .ok (.iload_n 3, 1) := dk_29 (dk_at dksX4_areaIn_0 9 rfl rfl)
theorem dX4_areaIn_10 : decode cX4_areaIn 10 = .ok (.iload 4, 2) := dk_21 4 (dk_at dksX4_areaIn_0 10 rfl rfl)
theorem dX4_areaIn_12 : decode cX4_areaIn 12 = .ok (.invokestatic 176, 3) := dk_184 0 176 (dk_at dksX4_areaIn_0 12 rfl rfl)
theorem dX4_areaIn_15 : decode cX4_areaIn 15 = .ok (.ifCond .ne 8, 3) := dk_154 0 8 (dk_at dksX4_areaIn_0 15 rfl rfl)
theorem dX4_areaIn_18 : decode cX4_areaIn 18 = .ok (.aload_n 0, 1) := dk_42 (dk_at dksX4_areaIn_0 18 rfl rfl)
theorem dX4_areaIn_19 : decode cX4_areaIn 19 = .ok (.iconst 3, 1) := dk_6 (dk_at dksX4_areaIn_0 19 rfl rfl)
theorem dX4_areaIn_20 : decode cX4_areaIn 20 = .ok (.putfield 35, 3) := dk_181 0 35 (dk_at dksX4_areaIn_0 20 rfl rfl)
theorem dX4_areaIn_23 : decode cX4_areaIn 23 = .ok (.aload_n 0, 1) := dk_42 (dk_at dksX4_areaIn_0 23 rfl rfl)
theorem dX4_areaIn_24 : decode cX4_areaIn 24 = .ok (.getfield 35, 3) := dk_180 0 35 (dk_at dksX4_areaIn_1 0 rfl rfl)
theorem dX4_areaIn_27 : decode cX4_areaIn 27 = .ok (.ifCond .le 5, 3) := dk_158 0 5 (dk_at dksX4_areaIn_1 3 rfl rfl)
theorem dX4_areaIn_30 : decode cX4_areaIn 30 = .ok (.iconst (-1), 1) := dk_2 (dk_at dksX4_areaIn_1 6 rfl rfl)
theorem dX4_areaIn_31 : decode cX4_areaIn 31 = .ok (.ireturn, 1) := dk_172 (dk_at dksX4_areaIn_1 7 rfl rfl)
theorem dX4_areaIn_32 : decode cX4_areaIn 32 = .ok (.aload_n 0, 1) := dk_42 (dk_at dksX4_areaIn_1 8 rfl rfl)
theorem dX4_areaIn_33 : decode cX4_areaIn 33 = .ok (.iload_n 1, 1) := dk_27 (dk_at dksX4_areaIn_1 9 rfl rfl)
theorem dX4_areaIn_34 : decode cX4_areaIn 34 = .ok (.invokevirtual 138, 3) := dk_182 0 138 (dk_at dksX4_areaIn_1 10 rfl rfl)
theorem dX4_areaIn_37 : decode cX4_areaIn 37 = .ok (.istore 5, 2) := dk_54 5 (dk_at dksX4_areaIn_1 13 rfl rfl)
theorem dX4_areaIn_39 : decode cX4_areaIn 39 = .ok (.iload_n 2, 1) := dk_28 (dk_at dksX4_areaIn_1 15 rfl rfl)
theorem dX4_areaIn_40 : decode cX4_areaIn 40 = .ok (.invokestatic 61, 3) := dk_184 0 61 (dk_at dksX4_areaIn_1 16 rfl rfl)
theorem dX4_areaIn_43 : decode cX4_areaIn 43 = .ok (.istore 6, 2) := dk_54 6 (dk_at dksX4_areaIn_1 19 rfl rfl)
theorem dX4_areaIn_45 : decode cX4_areaIn 45 = .ok (.iconst 0, 1) := dk_3 (dk_at dksX4_areaIn_1 21 rfl rfl)
theorem dX4_areaIn_46 : decode cX4_areaIn 46 = .ok (.istore 7, 2) := dk_54 7 (dk_at dksX4_areaIn_1 22 rfl rfl)
theorem dX4_areaIn_48 : decode cX4_areaIn 48 = .ok (.bipush 6, 2) := dk_16 6 (dk_at dksX4_areaIn_2 0 rfl rfl)
theorem dX4_areaIn_50 : decode cX4_areaIn 50 = .ok (.iload_n 3, 1) := dk_29 (dk_at dksX4_areaIn_2 2 rfl rfl)
theorem dX4_areaIn_51 : decode cX4_areaIn 51 = .ok (.imul, 1) := dk_104 (dk_at dksX4_areaIn_2 3 rfl rfl)
theorem dX4_areaIn_52 : decode cX4_areaIn 52 = .ok (.iload 6, 2) := dk_21 6 (dk_at dksX4_areaIn_2 4 rfl rfl)
theorem dX4_areaIn_54 : decode cX4_areaIn 54 = .ok (.imul, 1) := dk_104 (dk_at dksX4_areaIn_2 6 rfl rfl)
theorem dX4_areaIn_55 : decode cX4_areaIn 55 = .ok (.istore 8, 2) := dk_54 8 (dk_at dksX4_areaIn_2 7 rfl rfl)
theorem dX4_areaIn_57 : decode cX4_areaIn 57 = .ok (.iload 8, 2) := dk_21 8 (dk_at dksX4_areaIn_2 9 rfl rfl)
theorem dX4_areaIn_59 : decode cX4_areaIn 59 = .ok (.bipush 6, 2) := dk_16 6 (dk_at dksX4_areaIn_2 11 rfl rfl)
theorem dX4_areaIn_61 : decode cX4_areaIn 61 = .ok (.iload_n 3, 1) := dk_29 (dk_at dksX4_areaIn_2 13 rfl rfl)
theorem dX4_areaIn_62 : decode cX4_areaIn 62 = .ok (.iconst 1, 1) := dk_4 (dk_at dksX4_areaIn_2 14 rfl rfl)
theorem dX4_areaIn_63 : decode cX4_areaIn 63 = .ok (.iadd, 1) := dk_96 (dk_at dksX4_areaIn_2 15 rfl rfl)
theorem dX4_areaIn_64 : decode cX4_areaIn 64 = .ok (.imul, 1) := dk_104 (dk_at dksX4_areaIn_2 16 rfl rfl)
theorem dX4_areaIn_65 : decode cX4_areaIn 65 = .ok (.iload 6, 2) := dk_21 6 (dk_at dksX4_areaIn_2 17 rfl rfl)
theorem dX4_areaIn_67 : decode cX4_areaIn 67 = .ok (.imul, 1) := dk_104 (dk_at dksX4_areaIn_2 19 rfl rfl)
theorem dX4_areaIn_68 : decode cX4_areaIn 68 = .ok (.if_icmp .ge 148, 3) := dk_162 0 148 (dk_at dksX4_areaIn_2 20 rfl rfl)
theorem dX4_areaIn_71 : decode cX4_areaIn 71 = .ok (.bipush 6, 2) := dk_16 6 (dk_at dksX4_areaIn_3 0 rfl rfl)
theorem dX4_areaIn_73 : decode cX4_areaIn 73 = .ok (.iload 4, 2) := dk_21 4 (dk_at dksX4_areaIn_3 2 rfl rfl)
theorem dX4_areaIn_75 : decode cX4_areaIn 75 = .ok (.imul, 1) := dk_104 (dk_at dksX4_areaIn_3 4 rfl rfl)
theorem dX4_areaIn_76 : decode cX4_areaIn 76 = .ok (.iload 6, 2) := dk_21 6 (dk_at dksX4_areaIn_3 5 rfl rfl)
theorem dX4_areaIn_78 : decode cX4_areaIn 78 = .ok (.imul, 1) := dk_104 (dk_at dksX4_areaIn_3 7 rfl rfl)
theorem dX4_areaIn_79 : decode cX4_areaIn 79 = .ok (.istore 9, 2) := dk_54 9 (dk_at dksX4_areaIn_3 8 rfl rfl)
theorem dX4_areaIn_81 : decode cX4_areaIn 81 = .ok (.iload 9, 2) := dk_21 9 (dk_at dksX4_areaIn_3 10 rfl rfl)
theorem dX4_areaIn_83 : decode cX4_areaIn 83 = .ok (.bipush 6, 2) := dk_16 6 (dk_at dksX4_areaIn_3 12 rfl rfl)
theorem dX4_areaIn_85 : decode cX4_areaIn 85 = .ok (.iload 4, 2) := dk_21 4 (dk_at dksX4_areaIn_3 14 rfl rfl)
theorem dX4_areaIn_87 : decode cX4_areaIn 87 = .ok (.iconst 1, 1) := dk_4 (dk_at dksX4_areaIn_3 16 rfl rfl)
theorem dX4_areaIn_88 : decode cX4_areaIn 88 = .ok (.iadd, 1) := dk_96 (dk_at dksX4_areaIn_3 17 rfl rfl)
theorem dX4_areaIn_89 : decode cX4_areaIn 89 = .ok (.imul, 1) := dk_104 (dk_at dksX4_areaIn_3 18 rfl rfl)
theorem dX4_areaIn_90 : decode cX4_areaIn 90 = .ok (.iload 6, 2) := dk_21 6 (dk_at dksX4_areaIn_3 19 rfl rfl)
theorem dX4_areaIn_92 : decode cX4_areaIn 92 = .ok (.imul, 1) := dk_104 (dk_at dksX4_areaIn_3 21 rfl rfl)
theorem dX4_areaIn_93 : decode cX4_areaIn 93 = .ok (.if_icmp .ge 117, 3) := dk_162 0 117 (dk_at dksX4_areaIn_4 0 rfl rfl)
theorem dX4_areaIn_96 : decode cX4_areaIn 96 = .ok (.iload 7, 2) := dk_21 7 (dk_at dksX4_areaIn_4 3 rfl rfl)
theorem dX4_areaIn_98 : decode cX4_areaIn 98 = .ok (.aload_n 0, 1) := dk_42 (dk_at dksX4_areaIn_4 5 rfl rfl)
theorem dX4_areaIn_99 : decode cX4_areaIn 99 = .ok (.iload 5, 2) := dk_21 5 (dk_at dksX4_areaIn_4 6 rfl rfl)
theorem dX4_areaIn_101 : decode cX4_areaIn 101 = .ok (.iload 8, 2) := dk_21 8 (dk_at dksX4_areaIn_4 8 rfl rfl)
theorem dX4_areaIn_103 : decode cX4_areaIn 103 = .ok (.iconst 1, 1) := dk_4 (dk_at dksX4_areaIn_4 10 rfl rfl)
theorem dX4_areaIn_104 : decode cX4_areaIn 104 = .ok (.iadd, 1) := dk_96 (dk_at dksX4_areaIn_4 11 rfl rfl)
theorem dX4_areaIn_105 : decode cX4_areaIn 105 = .ok (.iload 9, 2) := dk_21 9 (dk_at dksX4_areaIn_4 12 rfl rfl)
theorem dX4_areaIn_107 : decode cX4_areaIn 107 = .ok (.iconst 3, 1) := dk_6 (dk_at dksX4_areaIn_4 14 rfl rfl)
theorem dX4_areaIn_108 : decode cX4_areaIn 108 = .ok (.iadd, 1) := dk_96 (dk_at dksX4_areaIn_4 15 rfl rfl)
theorem dX4_areaIn_109 : decode cX4_areaIn 109 = .ok (.invokevirtual 204, 3) := dk_182 0 204 (dk_at dksX4_areaIn_4 16 rfl rfl)
theorem dX4_areaIn_112 : decode cX4_areaIn 112 = .ok (.ifCond .eq 7, 3) := dk_153 0 7 (dk_at dksX4_areaIn_4 19 rfl rfl)
theorem dX4_areaIn_115 : decode cX4_areaIn 115 = .ok (.iconst 1, 1) := dk_4 (dk_at dksX4_areaIn_4 22 rfl rfl)
theorem dX4_areaIn_116 : decode cX4_areaIn 116 = .ok (.goto 4, 3) := dk_167 0 4 (dk_at dksX4_areaIn_5 0 rfl rfl)
theorem dX4_areaIn_119 : decode cX4_areaIn 119 = .ok (.iconst 0, 1) := dk_3 (dk_at dksX4_areaIn_5 3 rfl rfl)
theorem dX4_areaIn_120 : decode cX4_areaIn 120 = .ok (.iadd, 1) := dk_96 (dk_at dksX4_areaIn_5 4 rfl rfl)
theorem dX4_areaIn_121 : decode cX4_areaIn 121 = .ok (.istore 7, 2) := dk_54 7 (dk_at dksX4_areaIn_5 5 rfl rfl)
theorem dX4_areaIn_123 : decode cX4_areaIn 123 = .ok (.iload 7, 2) := dk_21 7 (dk_at dksX4_areaIn_5 7 rfl rfl)
theorem dX4_areaIn_125 : decode cX4_areaIn 125 = .ok (.aload_n 0, 1) := dk_42 (dk_at dksX4_areaIn_5 9 rfl rfl)
theorem dX4_areaIn_126 : decode cX4_areaIn 126 = .ok (.iload 5, 2) := dk_21 5 (dk_at dksX4_areaIn_5 10 rfl rfl)
theorem dX4_areaIn_128 : decode cX4_areaIn 128 = .ok (.iload 8, 2) := dk_21 8 (dk_at dksX4_areaIn_5 12 rfl rfl)
theorem dX4_areaIn_130 : decode cX4_areaIn 130 = .ok (.iconst 5, 1) := dk_8 (dk_at dksX4_areaIn_5 14 rfl rfl)
theorem dX4_areaIn_131 : decode cX4_areaIn 131 = .ok (.iadd, 1) := dk_96 (dk_at dksX4_areaIn_5 15 rfl rfl)
theorem dX4_areaIn_132 : decode cX4_areaIn 132 = .ok (.iload 9, 2) := dk_21 9 (dk_at dksX4_areaIn_5 16 rfl rfl)
theorem dX4_areaIn_134 : decode cX4_areaIn 134 = .ok (.iconst 3, 1) := dk_6 (dk_at dksX4_areaIn_5 18 rfl rfl)
theorem dX4_areaIn_135 : decode cX4_areaIn 135 = .ok (.iadd, 1) := dk_96 (dk_at dksX4_areaIn_5 19 rfl rfl)
theorem dX4_areaIn_136 : decode cX4_areaIn 136 = .ok (.invokevirtual 204, 3) := dk_182 0 204 (dk_at dksX4_areaIn_5 20 rfl rfl)
theorem dX4_areaIn_139 : decode cX4_areaIn 139 = .ok (.ifCond .eq 7, 3) := dk_153 0 7 (dk_at dksX4_areaIn_6 0 rfl rfl)
theorem dX4_areaIn_142 : decode cX4_areaIn 142 = .ok (.iconst 1, 1) := dk_4 (dk_at dksX4_areaIn_6 3 rfl rfl)
theorem dX4_areaIn_143 : decode cX4_areaIn 143 = .ok (.goto 4, 3) := dk_167 0 4 (dk_at dksX4_areaIn_6 4 rfl rfl)
theorem dX4_areaIn_146 : decode cX4_areaIn 146 = .ok (.iconst 0, 1) := dk_3 (dk_at dksX4_areaIn_6 7 rfl rfl)
theorem dX4_areaIn_147 : decode cX4_areaIn 147 = .ok (.iadd, 1) := dk_96 (dk_at dksX4_areaIn_6 8 rfl rfl)
theorem dX4_areaIn_148 : decode cX4_areaIn 148 = .ok (.istore 7, 2) := dk_54 7 (dk_at dksX4_areaIn_6 9 rfl rfl)
theorem dX4_areaIn_150 : decode cX4_areaIn 150 = .ok (.iload 7, 2) := dk_21 7 (dk_at dksX4_areaIn_6 11 rfl rfl)
theorem dX4_areaIn_152 : decode cX4_areaIn 152 = .ok (.aload_n 0, 1) := dk_42 (dk_at dksX4_areaIn_6 13 rfl rfl)
theorem dX4_areaIn_153 : decode cX4_areaIn 153 = .ok (.iload 5, 2) := dk_21 5 (dk_at dksX4_areaIn_6 14 rfl rfl)
theorem dX4_areaIn_155 : decode cX4_areaIn 155 = .ok (.iload 8, 2) := dk_21 8 (dk_at dksX4_areaIn_6 16 rfl rfl)
theorem dX4_areaIn_157 : decode cX4_areaIn 157 = .ok (.iconst 3, 1) := dk_6 (dk_at dksX4_areaIn_6 18 rfl rfl)
theorem dX4_areaIn_158 : decode cX4_areaIn 158 = .ok (.iadd, 1) := dk_96 (dk_at dksX4_areaIn_6 19 rfl rfl)
theorem dX4_areaIn_159 : decode cX4_areaIn 159 = .ok (.iload 9, 2) := dk_21 9 (dk_at dksX4_areaIn_6 20 rfl rfl)
theorem dX4_areaIn_161 : decode cX4_areaIn 161 = .ok (.iconst 1, 1) := dk_4 (dk_at dksX4_areaIn_6 22 rfl rfl)
theorem dX4_areaIn_162 : decode cX4_areaIn 162 = .ok (.iadd, 1) := dk_96 (dk_at dksX4_areaIn_6 23 rfl rfl)
theorem dX4_areaIn_163 : decode cX4_areaIn 163 = .ok (.invokevirtual 204, 3) := dk_182 0 204 (dk_at dksX4_areaIn_7 0 rfl rfl)
theorem dX4_areaIn_166 : decode cX4_areaIn 166 = .ok (.ifCond .eq 7, 3) := dk_153 0 7 (dk_at dksX4_areaIn_7 3 rfl rfl)
theorem dX4_areaIn_169 : decode cX4_areaIn 169 = .ok (.iconst 1, 1) := dk_4 (dk_at dksX4_areaIn_7 6 rfl rfl)
theorem dX4_areaIn_170 : decode cX4_areaIn 170 = .ok (.goto 4, 3) := dk_167 0 4 (dk_at dksX4_areaIn_7 7 rfl rfl)
theorem dX4_areaIn_173 : decode cX4_areaIn 173 = .ok (.iconst 0, 1) := dk_3 (dk_at dksX4_areaIn_7 10 rfl rfl)
theorem dX4_areaIn_174 : decode cX4_areaIn 174 = .ok (.iadd, 1) := dk_96 (dk_at dksX4_areaIn_7 11 rfl rfl)
theorem dX4_areaIn_175 : decode cX4_areaIn 175 = .ok (.istore 7, 2) := dk_54 7 (dk_at dksX4_areaIn_7 12 rfl rfl)
theorem dX4_areaIn_177 : decode cX4_areaIn 177 = .ok (.iload 7, 2) := dk_21 7 (dk_at dksX4_areaIn_7 14 rfl rfl)
theorem dX4_areaIn_179 : decode cX4_areaIn 179 = .ok (.aload_n 0, 1) := dk_42 (dk_at dksX4_areaIn_7 16 rfl rfl)
theorem dX4_areaIn_180 : decode cX4_areaIn 180 = .ok (.iload 5, 2) := dk_21 5 (dk_at dksX4_areaIn_7 17 rfl rfl)
theorem dX4_areaIn_182 : decode cX4_areaIn 182 = .ok (.iload 8, 2) := dk_21 8 (dk_at dksX4_areaIn_7 19 rfl rfl)
theorem dX4_areaIn_184 : decode cX4_areaIn 184 = .ok (.iconst 3, 1) := dk_6 (dk_at dksX4_areaIn_7 21 rfl rfl)
theorem dX4_areaIn_185 : decode cX4_areaIn 185 = .ok (.iadd, 1) := dk_96 (dk_at dksX4_areaIn_7 22 rfl rfl)
theorem dX4_areaIn_186 : decode cX4_areaIn 186 = .ok (.iload 9, 2) := dk_21 9 (dk_at dksX4_areaIn_8 0 rfl rfl)
theorem dX4_areaIn_188 : decode cX4_areaIn 188 = .ok (.iconst 5, 1) := dk_8 (dk_at dksX4_areaIn_8 2 rfl rfl)
theorem dX4_areaIn_189 : decode cX4_areaIn 189 = .ok (.iadd, 1) := dk_96 (dk_at dksX4_areaIn_8 3 rfl rfl)
theorem dX4_areaIn_190 : decode cX4_areaIn 190 = .ok (.invokevirtual 204, 3) := dk_182 0 204 (dk_at dksX4_areaIn_8 4 rfl rfl)
theorem dX4_areaIn_193 : decode cX4_areaIn 193 = .ok (.ifCond .eq 7, 3) := dk_153 0 7 (dk_at dksX4_areaIn_8 7 rfl rfl)
theorem dX4_areaIn_196 : decode cX4_areaIn 196 = .ok (.iconst 1, 1) := dk_4 (dk_at dksX4_areaIn_8 10 rfl rfl)
theorem dX4_areaIn_197 : decode cX4_areaIn 197 = .ok (.goto 4, 3) := dk_167 0 4 (dk_at dksX4_areaIn_8 11 rfl rfl)
theorem dX4_areaIn_200 : decode cX4_areaIn 200 = .ok (.iconst 0, 1) := dk_3 (dk_at dksX4_areaIn_8 14 rfl rfl)
theorem dX4_areaIn_201 : decode cX4_areaIn 201 = .ok (.iadd, 1) := dk_96 (dk_at dksX4_areaIn_8 15 rfl rfl)
theorem dX4_areaIn_202 : decode cX4_areaIn 202 = .ok (.istore 7, 2) := dk_54 7 (dk_at dksX4_areaIn_8 16 rfl rfl)
theorem dX4_areaIn_204 : decode cX4_areaIn 204 = .ok (.iinc 9 6, 3) := dk_132 9 6 (dk_at dksX4_areaIn_8 18 rfl rfl)
theorem dX4_areaIn_207 : decode cX4_areaIn 207 = .ok (.goto (-126), 3) := dk_167 255 130 (dk_at dksX4_areaIn_8 21 rfl rfl)
theorem dX4_areaIn_210 : decode cX4_areaIn 210 = .ok (.iinc 8 6, 3) := dk_132 8 6 (dk_at dksX4_areaIn_9 0 rfl rfl)
theorem dX4_areaIn_213 : decode cX4_areaIn 213 = .ok (.goto (-156), 3) := dk_167 255 100 (dk_at dksX4_areaIn_9 3 rfl rfl)
theorem dX4_areaIn_216 : decode cX4_areaIn 216 = .ok (.iload 7, 2) := dk_21 7 (dk_at dksX4_areaIn_9 6 rfl rfl)
theorem dX4_areaIn_218 : decode cX4_areaIn 218 = .ok (.ireturn, 1) := dk_172 (dk_at dksX4_areaIn_9 8 rfl rfl)
abbrev cX4_isIn : ByteArray := prog_18_method_60_code
def yX4_isIn : MethodName := ⟨RX4, "isIn", "(III)Z"⟩
def dkwX4_isIn_3 : List UInt8 := [182, 0, 42, 104, 162, 0, 7, 4, 167, 0, 4, 3, 172]
abbrev dktX4_isIn_3 : List UInt8 := dkwX4_isIn_3 ++ []
def dkwX4_isIn_2 : List UInt8 := [21, 5, 16, 6, 42, 27, 6, 182, 0, 42, 104, 162, 0, 24, 21, 4, 21, 5, 96, 16, 6, 42, 27, 7]
abbrev dktX4_isIn_2 : List UInt8 := dkwX4_isIn_2 ++ dktX4_isIn_3
def dkwX4_isIn_1 : List UInt8 := [182, 0, 68, 104, 100, 184, 0, 95, 54, 5, 21, 4, 16, 6, 42, 27, 6, 182, 0, 42, 104, 162, 0, 38]
abbrev dktX4_isIn_1 : List UInt8 := dkwX4_isIn_1 ++ dktX4_isIn_2
def dkwX4_isIn_0 : List UInt8 := [28, 16, 6, 42, 27, 3, 182, 0, 65, 104, 100, 184, 0, 95, 54, 4, 29, 16, 6, 42, 27, 3]
abbrev dktX4_isIn_0 : List UInt8 := dkwX4_isIn_0 ++ dktX4_isIn_1
theorem dksX4_isIn_0 : cX4_isIn.data.toList.drop 0 = dktX4_isIn_0 := by decide +kernel
theorem dksX4_isIn_1 : cX4_isIn.data.toList.drop 22 = dktX4_isIn_1 := dk_seg dksX4_isIn_0 22 rfl rfl
theorem dksX4_isIn_2 : cX4_isIn.data.toList.drop 46 = dktX4_isIn_2 := dk_seg dksX4_isIn_1 24 rfl rfl
theorem dksX4_isIn_3 : cX4_isIn.data.toList.drop 70 = dktX4_isIn_3 := dk_seg dksX4_isIn_2 24 rfl rfl
theorem dX4_isIn_0 : decode cX4_isIn 0 = .ok (.iload_n 2, 1) := dk_28 (dk_at dksX4_isIn_0 0 rfl rfl)
theorem dX4_isIn_1 : decode cX4_isIn 1 = .ok (.bipush 6, 2) := dk_16 6 (dk_at dksX4_isIn_0 1 rfl rfl)
theorem dX4_isIn_3 : decode cX4_isIn 3 = .ok (.aload_n 0, 1) := dk_42 (dk_at dksX4_isIn_0 3 rfl rfl)
theorem dX4_isIn_4 : decode cX4_isIn 4 = .ok (.iload_n 1, 1) := dk_27 (dk_at dksX4_isIn_0 4 rfl rfl)
theorem dX4_isIn_5 : decode cX4_isIn 5 = .ok (.iconst 0, 1) := dk_3 (dk_at dksX4_isIn_0 5 rfl rfl)
theorem dX4_isIn_6 : decode cX4_isIn 6 = .ok (.invokevirtual 65, 3) := dk_182 0 65 (dk_at dksX4_isIn_0 6 rfl rfl)
theorem dX4_isIn_9 : decode cX4_isIn 9 = .ok (.imul, 1) := dk_104 (dk_at dksX4_isIn_0 9 rfl rfl)
theorem dX4_isIn_10 : decode cX4_isIn 10 = .ok (.isub, 1) := dk_100 (dk_at dksX4_isIn_0 10 rfl rfl)
theorem dX4_isIn_11 : decode cX4_isIn 11 = .ok (.invokestatic 95, 3) := dk_184 0 95 (dk_at dksX4_isIn_0 11 rfl rfl)
theorem dX4_isIn_14 : decode cX4_isIn 14 = .ok (.istore 4, 2) := dk_54 4 (dk_at dksX4_isIn_0 14 rfl rfl)
theorem dX4_isIn_16 : decode cX4_isIn 16 = .ok (.iload_n 3, 1) := dk_29 (dk_at dksX4_isIn_0 16 rfl rfl)
theorem dX4_isIn_17 : decode cX4_isIn 17 = .ok (.bipush 6, 2) := dk_16 6 (dk_at dksX4_isIn_0 17 rfl rfl)
theorem dX4_isIn_19 : decode cX4_isIn 19 = .ok (.aload_n 0, 1) := dk_42 (dk_at dksX4_isIn_0 19 rfl rfl)
theorem dX4_isIn_20 : decode cX4_isIn 20 = .ok (.iload_n 1, 1) := dk_27 (dk_at dksX4_isIn_0 20 rfl rfl)
theorem dX4_isIn_21 : decode cX4_isIn 21 = .ok (.iconst 0, 1) := dk_3 (dk_at dksX4_isIn_0 21 rfl rfl)
theorem dX4_isIn_22 : decode cX4_isIn 22 = .ok (.invokevirtual 68, 3) := dk_182 0 68 (dk_at dksX4_isIn_1 0 rfl rfl)
theorem dX4_isIn_25 : decode cX4_isIn 25 = .ok (.imul, 1) := dk_104 (dk_at dksX4_isIn_1 3 rfl rfl)
theorem dX4_isIn_26 : decode cX4_isIn 26 = .ok (.isub, 1) := dk_100 (dk_at dksX4_isIn_1 4 rfl rfl)
theorem dX4_isIn_27 : decode cX4_isIn 27 = .ok (.invokestatic 95, 3) := dk_184 0 95 (dk_at dksX4_isIn_1 5 rfl rfl)
theorem dX4_isIn_30 : decode cX4_isIn 30 = .ok (.istore 5, 2) := dk_54 5 (dk_at dksX4_isIn_1 8 rfl rfl)
theorem dX4_isIn_32 : decode cX4_isIn 32 = .ok (.iload 4, 2) := dk_21 4 (dk_at dksX4_isIn_1 10 rfl rfl)
theorem dX4_isIn_34 : decode cX4_isIn 34 = .ok (.bipush 6, 2) := dk_16 6 (dk_at dksX4_isIn_1 12 rfl rfl)
theorem dX4_isIn_36 : decode cX4_isIn 36 = .ok (.aload_n 0, 1) := dk_42 (dk_at dksX4_isIn_1 14 rfl rfl)
theorem dX4_isIn_37 : decode cX4_isIn 37 = .ok (.iload_n 1, 1) := dk_27 (dk_at dksX4_isIn_1 15 rfl rfl)
theorem dX4_isIn_38 : decode cX4_isIn 38 = .ok (.iconst 3, 1) := dk_6 (dk_at dksX4_isIn_1 16 rfl rfl)
theorem dX4_isIn_39 : decode cX4_isIn 39 = .ok (.invokevirtual 42, 3) := dk_182 0 42 (dk_at dksX4_isIn_1 17 rfl rfl)
theorem dX4_isIn_42 : decode cX4_isIn 42 = .ok (.imul, 1) := dk_104 (dk_at dksX4_isIn_1 20 rfl rfl)
theorem dX4_isIn_43 : decode cX4_isIn 43 = .ok (.if_icmp .ge 38, 3) := dk_162 0 38 (dk_at dksX4_isIn_1 21 rfl rfl)
theorem dX4_isIn_46 : decode cX4_isIn 46 = .ok (.iload 5, 2) := dk_21 5 (dk_at dksX4_isIn_2 0 rfl rfl)
theorem dX4_isIn_48 : decode cX4_isIn 48 = .ok (.bipush 6, 2) := dk_16 6 (dk_at dksX4_isIn_2 2 rfl rfl)
theorem dX4_isIn_50 : decode cX4_isIn 50 = .ok (.aload_n 0, 1) := dk_42 (dk_at dksX4_isIn_2 4 rfl rfl)
theorem dX4_isIn_51 : decode cX4_isIn 51 = .ok (.iload_n 1, 1) := dk_27 (dk_at dksX4_isIn_2 5 rfl rfl)
theorem dX4_isIn_52 : decode cX4_isIn 52 = .ok (.iconst 3, 1) := dk_6 (dk_at dksX4_isIn_2 6 rfl rfl)
theorem dX4_isIn_53 : decode cX4_isIn 53 = .ok (.invokevirtual 42, 3) := dk_182 0 42 (dk_at dksX4_isIn_2 7 rfl rfl)
theorem dX4_isIn_56 : decode cX4_isIn 56 = .ok (.imul, 1) := dk_104 (dk_at dksX4_isIn_2 10 rfl rfl)
theorem dX4_isIn_57 : decode cX4_isIn 57 = .ok (.if_icmp .ge 24, 3) := dk_162 0 24 (dk_at dksX4_isIn_2 11 rfl rfl)
theorem dX4_isIn_60 : decode cX4_isIn 60 = .ok (.iload 4, 2) := dk_21 4 (dk_at dksX4_isIn_2 14 rfl rfl)
theorem dX4_isIn_62 : decode cX4_isIn 62 = .ok (.iload 5, 2) := dk_21 5 (dk_at dksX4_isIn_2 16 rfl rfl)
theorem dX4_isIn_64 : decode cX4_isIn 64 = .ok (.iadd, 1) := dk_96 (dk_at dksX4_isIn_2 18 rfl rfl)
theorem dX4_isIn_65 : decode cX4_isIn 65 = .ok (.bipush 6, 2) := dk_16 6 (dk_at dksX4_isIn_2 19 rfl rfl)
theorem dX4_isIn_67 : decode cX4_isIn 67 = .ok (.aload_n 0, 1) := dk_42 (dk_at dksX4_isIn_2 21 rfl rfl)
theorem dX4_isIn_68 : decode cX4_isIn 68 = .ok (.iload_n 1, 1) := dk_27 (dk_at dksX4_isIn_2 22 rfl rfl)
theorem dX4_isIn_69 : decode cX4_isIn 69 = .ok (.iconst 4, 1) := dk_7 (dk_at dksX4_isIn_2 23 rfl rfl)
theorem dX4_isIn_70 : decode cX4_isIn 70 = .ok (.invokevirtual 42, 3) := dk_182 0 42 (dk_at dksX4_isIn_3 0 rfl rfl)
theorem dX4_isIn_73 : decode cX4_isIn 73 = .ok (.imul, 1) := dk_104 (dk_at dksX4_isIn_3 3 rfl rfl)
theorem dX4_isIn_74 : decode cX4_isIn 74 = .ok (.if_icmp .ge 7, 3) := dk_162 0 7 (dk_at dksX4_isIn_3 4 rfl rfl)
theorem dX4_isIn_77 : decode cX4_isIn 77 = .ok (.iconst 1, 1) := dk_4 (dk_at dksX4_isIn_3 7 rfl rfl)
theorem dX4_isIn_78 : decode cX4_isIn 78 = .ok (.goto 4, 3) := dk_167 0 4 (dk_at dksX4_isIn_3 8 rfl rfl)
theorem dX4_isIn_81 : decode cX4_isIn 81 = .ok (.iconst 0, 1) := dk_3 (dk_at dksX4_isIn_3 11 rfl rfl)
theorem dX4_isIn_82 : decode cX4_isIn 82 = .ok (.ireturn, 1) := dk_172 (dk_at dksX4_isIn_3 12 rfl rfl)
abbrev cX4_areaByQuarters : ByteArray := prog_18_method_62_code
def yX4_areaByQuarters : MethodName := ⟨RX4, "areaByQuarters", "(IIII)I"⟩
def dkwX4_areaByQuarters_0 : List UInt8 := [42, 27, 28, 29, 21, 4, 182, 0, 207, 172]
abbrev dktX4_areaByQuarters_0 : List UInt8 := dkwX4_areaByQuarters_0 ++ []
theorem dksX4_areaByQuarters_0 : cX4_areaByQuarters.data.toList.drop 0 = dktX4_areaByQuarters_0 := by decide +kernel
theorem dX4_areaByQuarters_0 : decode cX4_areaByQuarters 0 = .ok (.aload_n 0, 1) := dk_42 (dk_at dksX4_areaByQuarters_0 0 rfl rfl)
theorem dX4_areaByQuarters_1 : decode cX4_areaByQuarters 1 = .ok (.iload_n 1, 1) := dk_27 (dk_at dksX4_areaByQuarters_0 1 rfl rfl)
theorem dX4_areaByQuarters_2 : decode cX4_areaByQuarters 2 = .ok (.iload_n 2, 1) := dk_28 (dk_at dksX4_areaByQuarters_0 2 rfl rfl)
theorem dX4_areaByQuarters_3 : decode cX4_areaByQuarters 3 = .ok (.iload_n 3, 1) := dk_29 (dk_at dksX4_areaByQuarters_0 3 rfl rfl)
theorem dX4_areaByQuarters_4 : decode cX4_areaByQuarters 4 = .ok (.iload 4, 2) := dk_21 4 (dk_at dksX4_areaByQuarters_0 4 rfl rfl)
theorem dX4_areaByQuarters_6 : decode cX4_areaByQuarters 6 = .ok (.invokevirtual 207, 3) := dk_182 0 207 (dk_at dksX4_areaByQuarters_0 6 rfl rfl)
theorem dX4_areaByQuarters_9 : decode cX4_areaByQuarters 9 = .ok (.ireturn, 1) := dk_172 (dk_at dksX4_areaByQuarters_0 9 rfl rfl)
abbrev cX4_crossesRight : ByteArray := prog_18_method_64_code
def yX4_crossesRight : MethodName := ⟨RX4, "crossesRight", "(IIII)I"⟩
def dkwX4_crossesRight_0 : List UInt8 := [42, 27, 28, 29, 21, 4, 4, 182, 0, 210, 172]
abbrev dktX4_crossesRight_0 : List UInt8 := dkwX4_crossesRight_0 ++ []
theorem dksX4_crossesRight_0 : cX4_crossesRight.data.toList.drop 0 = dktX4_crossesRight_0 := by decide +kernel
theorem dX4_crossesRight_0 : decode cX4_crossesRight 0 = .ok (.aload_n 0, 1) := dk_42 (dk_at dksX4_crossesRight_0 0 rfl rfl)
theorem dX4_crossesRight_1 : decode cX4_crossesRight 1 = .ok (.iload_n 1, 1) := dk_27 (dk_at dksX4_crossesRight_0 1 rfl rfl)
theorem dX4_crossesRight_2 : decode cX4_crossesRight 2 = .ok (.iload_n 2, 1) := dk_28 (dk_at dksX4_crossesRight_0 2 rfl rfl)
theorem dX4_crossesRight_3 : decode cX4_crossesRight 3 = .ok (.iload_n 3, 1) := dk_29 (dk_at dksX4_crossesRight_0 3 rfl rfl)
theorem dX4_crossesRight_4 : decode cX4_crossesRight 4 = .ok (.iload 4, 2) := dk_21 4 (dk_at dksX4_crossesRight_0 4 rfl rfl)
theorem dX4_crossesRight_6 : decode cX4_crossesRight 6 = .ok (.iconst 1, 1) := dk_4 (dk_at dksX4_crossesRight_0 6 rfl rfl)
theorem dX4_crossesRight_7 : decode cX4_crossesRight 7 = .ok (.invokevirtual 210, 3) := dk_182 0 210 (dk_at dksX4_crossesRight_0 7 rfl rfl)
theorem dX4_crossesRight_10 : decode cX4_crossesRight 10 = .ok (.ireturn, 1) := dk_172 (dk_at dksX4_crossesRight_0 10 rfl rfl)
abbrev cX4_crosses : ByteArray := prog_18_method_63_code
def yX4_crosses : MethodName := ⟨RX4, "crosses", "(IIIII)I"⟩
def dkwX4_crosses_5 : List UInt8 := [167, 255, 200, 21, 9, 172]
abbrev dktX4_crosses_5 : List UInt8 := dkwX4_crosses_5 ++ []
def dkwX4_crosses_4 : List UInt8 := [21, 11, 21, 7, 96, 182, 0, 112, 158, 0, 7, 4, 167, 0, 4, 3, 96, 54, 9, 132, 10, 1]
abbrev dktX4_crosses_4 : List UInt8 := dkwX4_crosses_4 ++ dktX4_crosses_5
def dkwX4_crosses_3 : List UInt8 := [184, 0, 61, 104, 21, 10, 21, 7, 104, 96, 54, 11, 21, 9, 42, 21, 6, 28, 21, 8, 21, 11, 21, 8]
abbrev dktX4_crosses_3 : List UInt8 := dkwX4_crosses_3 ++ dktX4_crosses_4
def dkwX4_crosses_2 : List UInt8 := [96, 28, 184, 0, 61, 104, 54, 8, 3, 54, 9, 3, 54, 10, 21, 10, 16, 8, 162, 0, 55, 21, 4, 28]
abbrev dktX4_crosses_2 : List UInt8 := dkwX4_crosses_2 ++ dktX4_crosses_3
def dkwX4_crosses_1 : List UInt8 := [180, 0, 35, 158, 0, 5, 2, 172, 42, 27, 182, 0, 138, 54, 6, 16, 8, 28, 122, 54, 7, 29, 21, 5]
abbrev dktX4_crosses_1 : List UInt8 := dkwX4_crosses_1 ++ dktX4_crosses_2
def dkwX4_crosses_0 : List UInt8 := [42, 27, 182, 0, 141, 153, 0, 18, 28, 29, 21, 4, 184, 0, 176, 154, 0, 8, 42, 6, 181, 0, 35, 42]
abbrev dktX4_crosses_0 : List UInt8 := dkwX4_crosses_0 ++ dktX4_crosses_1
theorem dksX4_crosses_0 : cX4_crosses.data.toList.drop 0 = dktX4_crosses_0 := by decide +kernel
theorem dksX4_crosses_1 : cX4_crosses.data.toList.drop 24 = dktX4_crosses_1 := dk_seg dksX4_crosses_0 24 rfl rfl
theorem dksX4_crosses_2 : cX4_crosses.data.toList.drop 48 = dktX4_crosses_2 := dk_seg dksX4_crosses_1 24 rfl rfl
theorem dksX4_crosses_3 : cX4_crosses.data.toList.drop 72 = dktX4_crosses_3 := dk_seg dksX4_crosses_2 24 rfl rfl
theorem dksX4_crosses_4 : cX4_crosses.data.toList.drop 96 = dktX4_crosses_4 := dk_seg dksX4_crosses_3 24 rfl rfl
theorem dksX4_crosses_5 : cX4_crosses.data.toList.drop 118 = dktX4_crosses_5 := dk_seg dksX4_crosses_4 22 rfl rfl
theorem dX4_crosses_0 : decode cX4_crosses 0 = .ok (.aload_n 0, 1) := dk_42 (dk_at dksX4_crosses_0 0 rfl rfl)
theorem dX4_crosses_1 : decode cX4_crosses 1 = .ok (.iload_n 1, 1) := dk_27 (dk_at dksX4_crosses_0 1 rfl rfl)
theorem dX4_crosses_2 : decode cX4_crosses 2 = .ok (.invokevirtual 141, 3) := dk_182 0 141 (dk_at dksX4_crosses_0 2 rfl rfl)
theorem dX4_crosses_5 : decode cX4_crosses 5 = .ok (.ifCond .eq 18, 3) := dk_153 0 18 (dk_at dksX4_crosses_0 5 rfl rfl)
theorem dX4_crosses_8 : decode cX4_crosses 8 = .ok (.iload_n 2, 1) := dk_28 (dk_at dksX4_crosses_0 8 rfl rfl)
theorem dX4_crosses_9 : decode cX4_crosses 9 = .ok (.iload_n 3, 1) := dk_29 (dk_at dksX4_crosses_0 9 rfl rfl)
theorem dX4_crosses_10 : decode cX4_crosses 10 = .ok (.iload 4, 2) := dk_21 4 (dk_at dksX4_crosses_0 10 rfl rfl)
theorem dX4_crosses_12 : decode cX4_crosses 12 = .ok (.invokestatic 176, 3) := dk_184 0 176 (dk_at dksX4_crosses_0 12 rfl rfl)
theorem dX4_crosses_15 : decode cX4_crosses 15 = .ok (.ifCond .ne 8, 3) := dk_154 0 8 (dk_at dksX4_crosses_0 15 rfl rfl)
theorem dX4_crosses_18 : decode cX4_crosses 18 = .ok (.aload_n 0, 1) := dk_42 (dk_at dksX4_crosses_0 18 rfl rfl)
theorem dX4_crosses_19 : decode cX4_crosses 19 = .ok (.iconst 3, 1) := dk_6 (dk_at dksX4_crosses_0 19 rfl rfl)
theorem dX4_crosses_20 : decode cX4_crosses 20 = .ok (.putfield 35, 3) := dk_181 0 35 (dk_at dksX4_crosses_0 20 rfl rfl)
theorem dX4_crosses_23 : decode cX4_crosses 23 = .ok (.aload_n 0, 1) := dk_42 (dk_at dksX4_crosses_0 23 rfl rfl)
theorem dX4_crosses_24 : decode cX4_crosses 24 = .ok (.getfield 35, 3) := dk_180 0 35 (dk_at dksX4_crosses_1 0 rfl rfl)
theorem dX4_crosses_27 : decode cX4_crosses 27 = .ok (.ifCond .le 5, 3) := dk_158 0 5 (dk_at dksX4_crosses_1 3 rfl rfl)
theorem dX4_crosses_30 : decode cX4_crosses 30 = .ok (.iconst (-1), 1) := dk_2 (dk_at dksX4_crosses_1 6 rfl rfl)
theorem dX4_crosses_31 : decode cX4_crosses 31 = .ok (.ireturn, 1) := dk_172 (dk_at dksX4_crosses_1 7 rfl rfl)
theorem dX4_crosses_32 : decode cX4_crosses 32 = .ok (.aload_n 0, 1) := dk_42 (dk_at dksX4_crosses_1 8 rfl rfl)
theorem dX4_crosses_33 : decode cX4_crosses 33 = .ok (.iload_n 1, 1) := dk_27 (dk_at dksX4_crosses_1 9 rfl rfl)
theorem dX4_crosses_34 : decode cX4_crosses 34 = .ok (.invokevirtual 138, 3) := dk_182 0 138 (dk_at dksX4_crosses_1 10 rfl rfl)
theorem dX4_crosses_37 : decode cX4_crosses 37 = .ok (.istore 6, 2) := dk_54 6 (dk_at dksX4_crosses_1 13 rfl rfl)
theorem dX4_crosses_39 : decode cX4_crosses 39 = .ok (.bipush 8, 2) := dk_16 8 (dk_at dksX4_crosses_1 15 rfl rfl)
theorem dX4_crosses_41 : decode cX4_crosses 41 = .ok (.iload_n 2, 1) := dk_28 (dk_at dksX4_crosses_1 17 rfl rfl)
theorem dX4_crosses_42 : decode cX4_crosses 42 = .ok (.ishr, 1) := dk_122 (dk_at dksX4_crosses_1 18 rfl rfl)
theorem dX4_crosses_43 : decode cX4_crosses 43 = .ok (.istore 7, 2) := dk_54 7 (dk_at dksX4_crosses_1 19 rfl rfl)
theorem dX4_crosses_45 : decode cX4_crosses 45 = .ok (.iload_n 3, 1) := dk_29 (dk_at dksX4_crosses_1 21 rfl rfl)
theorem dX4_crosses_46 : decode cX4_crosses 46 = .ok (.iload 5, 2) := dk_21 5 (dk_at dksX4_crosses_1 22 rfl rfl)
theorem dX4_crosses_48 : decode cX4_crosses 48 = .ok (.iadd, 1) := dk_96 (dk_at dksX4_crosses_2 0 rfl rfl)
theorem dX4_crosses_49 : decode cX4_crosses 49 = .ok (.iload_n 2, 1) := dk_28 (dk_at dksX4_crosses_2 1 rfl rfl)
theorem dX4_crosses_50 : decode cX4_crosses 50 = .ok (.invokestatic 61, 3) := dk_184 0 61 (dk_at dksX4_crosses_2 2 rfl rfl)
theorem dX4_crosses_53 : decode cX4_crosses 53 = .ok (.imul, 1) := dk_104 (dk_at dksX4_crosses_2 5 rfl rfl)
theorem dX4_crosses_54 : decode cX4_crosses 54 = .ok (.istore 8, 2) := dk_54 8 (dk_at dksX4_crosses_2 6 rfl rfl)
theorem dX4_crosses_56 : decode cX4_crosses 56 = .ok (.iconst 0, 1) := dk_3 (dk_at dksX4_crosses_2 8 rfl rfl)
theorem dX4_crosses_57 : decode cX4_crosses 57 = .ok (.istore 9, 2) := dk_54 9 (dk_at dksX4_crosses_2 9 rfl rfl)
theorem dX4_crosses_59 : decode cX4_crosses 59 = .ok (.iconst 0, 1) := dk_3 (dk_at dksX4_crosses_2 11 rfl rfl)
theorem dX4_crosses_60 : decode cX4_crosses 60 = .ok (.istore 10, 2) := dk_54 10 (dk_at dksX4_crosses_2 12 rfl rfl)
theorem dX4_crosses_62 : decode cX4_crosses 62 = .ok (.iload 10, 2) := dk_21 10 (dk_at dksX4_crosses_2 14 rfl rfl)
theorem dX4_crosses_64 : decode cX4_crosses 64 = .ok (.bipush 8, 2) := dk_16 8 (dk_at dksX4_crosses_2 16 rfl rfl)
theorem dX4_crosses_66 : decode cX4_crosses 66 = .ok (.if_icmp .ge 55, 3) := dk_162 0 55 (dk_at dksX4_crosses_2 18 rfl rfl)
theorem dX4_crosses_69 : decode cX4_crosses 69 = .ok (.iload 4, 2) := dk_21 4 (dk_at dksX4_crosses_2 21 rfl rfl)
theorem dX4_crosses_71 : decode cX4_crosses 71 = .ok (.iload_n 2, 1) := dk_28 (dk_at dksX4_crosses_2 23 rfl rfl)
theorem dX4_crosses_72 : decode cX4_crosses 72 = .ok (.invokestatic 61, 3) := dk_184 0 61 (dk_at dksX4_crosses_3 0 rfl rfl)
theorem dX4_crosses_75 : decode cX4_crosses 75 = .ok (.imul, 1) := dk_104 (dk_at dksX4_crosses_3 3 rfl rfl)
theorem dX4_crosses_76 : decode cX4_crosses 76 = .ok (.iload 10, 2) := dk_21 10 (dk_at dksX4_crosses_3 4 rfl rfl)
theorem dX4_crosses_78 : decode cX4_crosses 78 = .ok (.iload 7, 2) := dk_21 7 (dk_at dksX4_crosses_3 6 rfl rfl)
theorem dX4_crosses_80 : decode cX4_crosses 80 = .ok (.imul, 1) := dk_104 (dk_at dksX4_crosses_3 8 rfl rfl)
theorem dX4_crosses_81 : decode cX4_crosses 81 = .ok (.iadd, 1) := dk_96 (dk_at dksX4_crosses_3 9 rfl rfl)
theorem dX4_crosses_82 : decode cX4_crosses 82 = .ok (.istore 11, 2) := dk_54 11 (dk_at dksX4_crosses_3 10 rfl rfl)
theorem dX4_crosses_84 : decode cX4_crosses 84 = .ok (.iload 9, 2) := dk_21 9 (dk_at dksX4_crosses_3 12 rfl rfl)
theorem dX4_crosses_86 : decode cX4_crosses 86 = .ok (.aload_n 0, 1) := dk_42 (dk_at dksX4_crosses_3 14 rfl rfl)
theorem dX4_crosses_87 : decode cX4_crosses 87 = .ok (.iload 6, 2) := dk_21 6 (dk_at dksX4_crosses_3 15 rfl rfl)
theorem dX4_crosses_89 : decode cX4_crosses 89 = .ok (.iload_n 2, 1) := dk_28 (dk_at dksX4_crosses_3 17 rfl rfl)
theorem dX4_crosses_90 : decode cX4_crosses 90 = .ok (.iload 8, 2) := dk_21 8 (dk_at dksX4_crosses_3 18 rfl rfl)
theorem dX4_crosses_92 : decode cX4_crosses 92 = .ok (.iload 11, 2) := dk_21 11 (dk_at dksX4_crosses_3 20 rfl rfl)
theorem dX4_crosses_94 : decode cX4_crosses 94 = .ok (.iload 8, 2) := dk_21 8 (dk_at dksX4_crosses_3 22 rfl rfl)
theorem dX4_crosses_96 : decode cX4_crosses 96 = .ok (.iload 11, 2) := dk_21 11 (dk_at dksX4_crosses_4 0 rfl rfl)
theorem dX4_crosses_98 : decode cX4_crosses 98 = .ok (.iload 7, 2) := dk_21 7 (dk_at dksX4_crosses_4 2 rfl rfl)
theorem dX4_crosses_100 : decode cX4_crosses 100 = .ok (.iadd, 1) := dk_96 (dk_at dksX4_crosses_4 4 rfl rfl)
theorem dX4_crosses_101 : decode cX4_crosses 101 = .ok (.invokevirtual 112, 3) := dk_182 0 112 (dk_at dksX4_crosses_4 5 rfl rfl)
theorem dX4_crosses_104 : decode cX4_crosses 104 = .ok (.ifCond .le 7, 3) := dk_158 0 7 (dk_at dksX4_crosses_4 8 rfl rfl)
theorem dX4_crosses_107 : decode cX4_crosses 107 = .ok (.iconst 1, 1) := dk_4 (dk_at dksX4_crosses_4 11 rfl rfl)
theorem dX4_crosses_108 : decode cX4_crosses 108 = .ok (.goto 4, 3) := dk_167 0 4 (dk_at dksX4_crosses_4 12 rfl rfl)
theorem dX4_crosses_111 : decode cX4_crosses 111 = .ok (.iconst 0, 1) := dk_3 (dk_at dksX4_crosses_4 15 rfl rfl)
theorem dX4_crosses_112 : decode cX4_crosses 112 = .ok (.iadd, 1) := dk_96 (dk_at dksX4_crosses_4 16 rfl rfl)
theorem dX4_crosses_113 : decode cX4_crosses 113 = .ok (.istore 9, 2) := dk_54 9 (dk_at dksX4_crosses_4 17 rfl rfl)
theorem dX4_crosses_115 : decode cX4_crosses 115 = .ok (.iinc 10 1, 3) := dk_132 10 1 (dk_at dksX4_crosses_4 19 rfl rfl)
theorem dX4_crosses_118 : decode cX4_crosses 118 = .ok (.goto (-56), 3) := dk_167 255 200 (dk_at dksX4_crosses_5 0 rfl rfl)
theorem dX4_crosses_121 : decode cX4_crosses 121 = .ok (.iload 9, 2) := dk_21 9 (dk_at dksX4_crosses_5 3 rfl rfl)
theorem dX4_crosses_123 : decode cX4_crosses 123 = .ok (.ireturn, 1) := dk_172 (dk_at dksX4_crosses_5 5 rfl rfl)
abbrev cX4_crossesLeft : ByteArray := prog_18_method_65_code
def yX4_crossesLeft : MethodName := ⟨RX4, "crossesLeft", "(IIII)I"⟩
def dkwX4_crossesLeft_0 : List UInt8 := [42, 27, 28, 29, 21, 4, 3, 182, 0, 210, 172]
abbrev dktX4_crossesLeft_0 : List UInt8 := dkwX4_crossesLeft_0 ++ []
theorem dksX4_crossesLeft_0 : cX4_crossesLeft.data.toList.drop 0 = dktX4_crossesLeft_0 := by decide +kernel
theorem dX4_crossesLeft_0 : decode cX4_crossesLeft 0 = .ok (.aload_n 0, 1) := dk_42 (dk_at dksX4_crossesLeft_0 0 rfl rfl)
theorem dX4_crossesLeft_1 : decode cX4_crossesLeft 1 = .ok (.iload_n 1, 1) := dk_27 (dk_at dksX4_crossesLeft_0 1 rfl rfl)
theorem dX4_crossesLeft_2 : decode cX4_crossesLeft 2 = .ok (.iload_n 2, 1) := dk_28 (dk_at dksX4_crossesLeft_0 2 rfl rfl)
theorem dX4_crossesLeft_3 : decode cX4_crossesLeft 3 = .ok (.iload_n 3, 1) := dk_29 (dk_at dksX4_crossesLeft_0 3 rfl rfl)
theorem dX4_crossesLeft_4 : decode cX4_crossesLeft 4 = .ok (.iload 4, 2) := dk_21 4 (dk_at dksX4_crossesLeft_0 4 rfl rfl)
theorem dX4_crossesLeft_6 : decode cX4_crossesLeft 6 = .ok (.iconst 0, 1) := dk_3 (dk_at dksX4_crossesLeft_0 6 rfl rfl)
theorem dX4_crossesLeft_7 : decode cX4_crossesLeft 7 = .ok (.invokevirtual 210, 3) := dk_182 0 210 (dk_at dksX4_crossesLeft_0 7 rfl rfl)
theorem dX4_crossesLeft_10 : decode cX4_crossesLeft 10 = .ok (.ireturn, 1) := dk_172 (dk_at dksX4_crossesLeft_0 10 rfl rfl)
abbrev cX4_segmentsIn : ByteArray := prog_18_method_66_code
def yX4_segmentsIn : MethodName := ⟨RX4, "segmentsIn", "(III)I"⟩
def dkwX4_segmentsIn_4 : List UInt8 := [54, 5, 132, 6, 1, 167, 255, 198, 21, 5, 172]
abbrev dktX4_segmentsIn_4 : List UInt8 := dkwX4_segmentsIn_4 ++ []
def dkwX4_segmentsIn_3 : List UInt8 := [21, 4, 104, 28, 4, 96, 21, 4, 104, 29, 4, 96, 21, 4, 104, 182, 0, 112, 167, 0, 4, 3, 96]
abbrev dktX4_segmentsIn_3 : List UInt8 := dkwX4_segmentsIn_3 ++ dktX4_segmentsIn_4
def dkwX4_segmentsIn_2 : List UInt8 := [162, 0, 55, 21, 5, 42, 21, 6, 4, 182, 0, 42, 154, 0, 33, 42, 21, 6, 27, 28, 21, 4, 104, 29]
abbrev dktX4_segmentsIn_2 : List UInt8 := dkwX4_segmentsIn_2 ++ dktX4_segmentsIn_3
def dkwX4_segmentsIn_1 : List UInt8 := [158, 0, 5, 2, 172, 27, 184, 0, 61, 54, 4, 3, 54, 5, 3, 54, 6, 21, 6, 42, 180, 0, 39]
abbrev dktX4_segmentsIn_1 : List UInt8 := dkwX4_segmentsIn_1 ++ dktX4_segmentsIn_2
def dkwX4_segmentsIn_0 : List UInt8 := [42, 27, 28, 29, 184, 0, 176, 153, 0, 7, 3, 167, 0, 4, 4, 181, 0, 35, 42, 180, 0, 35]
abbrev dktX4_segmentsIn_0 : List UInt8 := dkwX4_segmentsIn_0 ++ dktX4_segmentsIn_1
theorem dksX4_segmentsIn_0 : cX4_segmentsIn.data.toList.drop 0 = dktX4_segmentsIn_0 := by decide +kernel
theorem dksX4_segmentsIn_1 : cX4_segmentsIn.data.toList.drop 22 = dktX4_segmentsIn_1 := dk_seg dksX4_segmentsIn_0 22 rfl rfl
theorem dksX4_segmentsIn_2 : cX4_segmentsIn.data.toList.drop 45 = dktX4_segmentsIn_2 := dk_seg dksX4_segmentsIn_1 23 rfl rfl
theorem dksX4_segmentsIn_3 : cX4_segmentsIn.data.toList.drop 69 = dktX4_segmentsIn_3 := dk_seg dksX4_segmentsIn_2 24 rfl rfl
theorem dksX4_segmentsIn_4 : cX4_segmentsIn.data.toList.drop 92 = dktX4_segmentsIn_4 := dk_seg dksX4_segmentsIn_3 23 rfl rfl
theorem dX4_segmentsIn_0 : decode cX4_segmentsIn 0 = .ok (.aload_n 0, 1) := dk_42 (dk_at dksX4_segmentsIn_0 0 rfl rfl)
theorem dX4_segmentsIn_1 : decode cX4_segmentsIn 1 = .ok (.iload_n 1, 1) := dk_27 (dk_at dksX4_segmentsIn_0 1 rfl rfl)
theorem dX4_segmentsIn_2 : decode cX4_segmentsIn 2 = .ok (.iload_n 2, 1) := dk_28 (dk_at dksX4_segmentsIn_0 2 rfl rfl)
theorem dX4_segmentsIn_3 : decode cX4_segmentsIn 3 = .ok (.iload_n 3, 1) := dk_29 (dk_at dksX4_segmentsIn_0 3 rfl rfl)
theorem dX4_segmentsIn_4 : decode cX4_segmentsIn 4 = .ok (.invokestatic 176, 3) := dk_184 0 176 (dk_at dksX4_segmentsIn_0 4 rfl rfl)
theorem dX4_segmentsIn_7 : decode cX4_segmentsIn 7 = .ok (.ifCond .eq 7, 3) := dk_153 0 7 (dk_at dksX4_segmentsIn_0 7 rfl rfl)
theorem dX4_segmentsIn_10 : decode cX4_segmentsIn 10 = .ok (.iconst 0, 1) := dk_3 (dk_at dksX4_segmentsIn_0 10 rfl rfl)
theorem dX4_segmentsIn_11 : decode cX4_segmentsIn 11 = .ok (.goto 4, 3) := dk_167 0 4 (dk_at dksX4_segmentsIn_0 11 rfl rfl)
theorem dX4_segmentsIn_14 : decode cX4_segmentsIn 14 = .ok (.iconst 1, 1) := dk_4 (dk_at dksX4_segmentsIn_0 14 rfl rfl)
theorem dX4_segmentsIn_15 : decode cX4_segmentsIn 15 = .ok (.putfield 35, 3) := dk_181 0 35 (dk_at dksX4_segmentsIn_0 15 rfl rfl)
theorem dX4_segmentsIn_18 : decode cX4_segmentsIn 18 = .ok (.aload_n 0, 1) := dk_42 (dk_at dksX4_segmentsIn_0 18 rfl rfl)
theorem dX4_segmentsIn_19 : decode cX4_segmentsIn 19 = .ok (.getfield 35, 3) := dk_180 0 35 (dk_at dksX4_segmentsIn_0 19 rfl rfl)
theorem dX4_segmentsIn_22 : decode cX4_segmentsIn 22 = .ok (.ifCond .le 5, 3) := dk_158 0 5 (dk_at dksX4_segmentsIn_1 0 rfl rfl)
theorem dX4_segmentsIn_25 : decode cX4_segmentsIn 25 = .ok (.iconst (-1), 1) := dk_2 (dk_at dksX4_segmentsIn_1 3 rfl rfl)
theorem dX4_segmentsIn_26 : decode cX4_segmentsIn 26 = .ok (.ireturn, 1) := dk_172 (dk_at dksX4_segmentsIn_1 4 rfl rfl)
theorem dX4_segmentsIn_27 : decode cX4_segmentsIn 27 = .ok (.iload_n 1, 1) := dk_27 (dk_at dksX4_segmentsIn_1 5 rfl rfl)
theorem dX4_segmentsIn_28 : decode cX4_segmentsIn 28 = .ok (.invokestatic 61, 3) := dk_184 0 61 (dk_at dksX4_segmentsIn_1 6 rfl rfl)
theorem dX4_segmentsIn_31 : decode cX4_segmentsIn 31 = .ok (.istore 4, 2) := dk_54 4 (dk_at dksX4_segmentsIn_1 9 rfl rfl)
theorem dX4_segmentsIn_33 : decode cX4_segmentsIn 33 = .ok (.iconst 0, 1) := dk_3 (dk_at dksX4_segmentsIn_1 11 rfl rfl)
theorem dX4_segmentsIn_34 : decode cX4_segmentsIn 34 = .ok (.istore 5, 2) := dk_54 5 (dk_at dksX4_segmentsIn_1 12 rfl rfl)
theorem dX4_segmentsIn_36 : decode cX4_segmentsIn 36 = .ok (.iconst 0, 1) := dk_3 (dk_at dksX4_segmentsIn_1 14 rfl rfl)
theorem dX4_segmentsIn_37 : decode cX4_segmentsIn 37 = .ok (.istore 6, 2) := dk_54 6 (dk_at dksX4_segmentsIn_1 15 rfl rfl)
theorem dX4_segmentsIn_39 : decode cX4_segmentsIn 39 = .ok (.iload 6, 2) := dk_21 6 (dk_at dksX4_segmentsIn_1 17 rfl rfl)
theorem dX4_segmentsIn_41 : decode cX4_segmentsIn 41 = .ok (.aload_n 0, 1) := dk_42 (dk_at dksX4_segmentsIn_1 19 rfl rfl)
theorem dX4_segmentsIn_42 : decode cX4_segmentsIn 42 = .ok (.getfield 39, 3) := dk_180 0 39 (dk_at dksX4_segmentsIn_1 20 rfl rfl)
theorem dX4_segmentsIn_45 : decode cX4_segmentsIn 45 = .ok (.if_icmp .ge 55, 3) := dk_162 0 55 (dk_at dksX4_segmentsIn_2 0 rfl rfl)
theorem dX4_segmentsIn_48 : decode cX4_segmentsIn 48 = .ok (.iload 5, 2) := dk_21 5 (dk_at dksX4_segmentsIn_2 3 rfl rfl)
theorem dX4_segmentsIn_50 : decode cX4_segmentsIn 50 = .ok (.aload_n 0, 1) := dk_42 (dk_at dksX4_segmentsIn_2 5 rfl rfl)
theorem dX4_segmentsIn_51 : decode cX4_segmentsIn 51 = .ok (.iload 6, 2) := dk_21 6 (dk_at dksX4_segmentsIn_2 6 rfl rfl)
theorem dX4_segmentsIn_53 : decode cX4_segmentsIn 53 = .ok (.iconst 1, 1) := dk_4 (dk_at dksX4_segmentsIn_2 8 rfl rfl)
theorem dX4_segmentsIn_54 : decode cX4_segmentsIn 54 = .ok (.invokevirtual 42, 3) := dk_182 0 42 (dk_at dksX4_segmentsIn_2 9 rfl rfl)
theorem dX4_segmentsIn_57 : decode cX4_segmentsIn 57 = .ok (.ifCond .ne 33, 3) := dk_154 0 33 (dk_at dksX4_segmentsIn_2 12 rfl rfl)
theorem dX4_segmentsIn_60 : decode cX4_segmentsIn 60 = .ok (.aload_n 0, 1) := dk_42 (dk_at dksX4_segmentsIn_2 15 rfl rfl)
theorem dX4_segmentsIn_61 : decode cX4_segmentsIn 61 = .ok (.iload 6, 2) := dk_21 6 (dk_at dksX4_segmentsIn_2 16 rfl rfl)
theorem dX4_segmentsIn_63 : decode cX4_segmentsIn 63 = .ok (.iload_n 1, 1) := dk_27 (dk_at dksX4_segmentsIn_2 18 rfl rfl)
theorem dX4_segmentsIn_64 : decode cX4_segmentsIn 64 = .ok (.iload_n 2, 1) := dk_28 (dk_at dksX4_segmentsIn_2 19 rfl rfl)
theorem dX4_segmentsIn_65 : decode cX4_segmentsIn 65 = .ok (.iload 4, 2) := dk_21 4 (dk_at dksX4_segmentsIn_2 20 rfl rfl)
theorem dX4_segmentsIn_67 : decode cX4_segmentsIn 67 = .ok (.imul, 1) := dk_104 (dk_at dksX4_segmentsIn_2 22 rfl rfl)
theorem dX4_segmentsIn_68 : decode cX4_segmentsIn 68 = .ok (.iload_n 3, 1) := dk_29 (dk_at dksX4_segmentsIn_2 23 rfl rfl)
theorem dX4_segmentsIn_69 : decode cX4_segmentsIn 69 = .ok (.iload 4, 2) := dk_21 4 (dk_at dksX4_segmentsIn_3 0 rfl rfl)
theorem dX4_segmentsIn_71 : decode cX4_segmentsIn 71 = .ok (.imul, 1) := dk_104 (dk_at dksX4_segmentsIn_3 2 rfl rfl)
theorem dX4_segmentsIn_72 : decode cX4_segmentsIn 72 = .ok (.iload_n 2, 1) := dk_28 (dk_at dksX4_segmentsIn_3 3 rfl rfl)
theorem dX4_segmentsIn_73 : decode cX4_segmentsIn 73 = .ok (.iconst 1, 1) := dk_4 (dk_at dksX4_segmentsIn_3 4 rfl rfl)
theorem dX4_segmentsIn_74 : decode cX4_segmentsIn 74 = .ok (.iadd, 1) := dk_96 (dk_at dksX4_segmentsIn_3 5 rfl rfl)
theorem dX4_segmentsIn_75 : decode cX4_segmentsIn 75 = .ok (.iload 4, 2) := dk_21 4 (dk_at dksX4_segmentsIn_3 6 rfl rfl)
theorem dX4_segmentsIn_77 : decode cX4_segmentsIn 77 = .ok (.imul, 1) := dk_104 (dk_at dksX4_segmentsIn_3 8 rfl rfl)
theorem dX4_segmentsIn_78 : decode cX4_segmentsIn 78 = .ok (.iload_n 3, 1) := dk_29 (dk_at dksX4_segmentsIn_3 9 rfl rfl)
theorem dX4_segmentsIn_79 : decode cX4_segmentsIn 79 = .ok (.iconst 1, 1) := dk_4 (dk_at dksX4_segmentsIn_3 10 rfl rfl)
theorem dX4_segmentsIn_80 : decode cX4_segmentsIn 80 = .ok (.iadd, 1) := dk_96 (dk_at dksX4_segmentsIn_3 11 rfl rfl)
theorem dX4_segmentsIn_81 : decode cX4_segmentsIn 81 = .ok (.iload 4, 2) := dk_21 4 (dk_at dksX4_segmentsIn_3 12 rfl rfl)
theorem dX4_segmentsIn_83 : decode cX4_segmentsIn 83 = .ok (.imul, 1) := dk_104 (dk_at dksX4_segmentsIn_3 14 rfl rfl)
theorem dX4_segmentsIn_84 : decode cX4_segmentsIn 84 = .ok (.invokevirtual 112, 3) := dk_182 0 112 (dk_at dksX4_segmentsIn_3 15 rfl rfl)
theorem dX4_segmentsIn_87 : decode cX4_segmentsIn 87 = .ok (.goto 4, 3) := dk_167 0 4 (dk_at dksX4_segmentsIn_3 18 rfl rfl)
theorem dX4_segmentsIn_90 : decode cX4_segmentsIn 90 = .ok (.iconst 0, 1) := dk_3 (dk_at dksX4_segmentsIn_3 21 rfl rfl)
theorem dX4_segmentsIn_91 : decode cX4_segmentsIn 91 = .ok (.iadd, 1) := dk_96 (dk_at dksX4_segmentsIn_3 22 rfl rfl)
theorem dX4_segmentsIn_92 : decode cX4_segmentsIn 92 = .ok (.istore 5, 2) := dk_54 5 (dk_at dksX4_segmentsIn_4 0 rfl rfl)
theorem dX4_segmentsIn_94 : decode cX4_segmentsIn 94 = .ok (.iinc 6 1, 3) := dk_132 6 1 (dk_at dksX4_segmentsIn_4 2 rfl rfl)
theorem dX4_segmentsIn_97 : decode cX4_segmentsIn 97 = .ok (.goto (-58), 3) := dk_167 255 198 (dk_at dksX4_segmentsIn_4 5 rfl rfl)
theorem dX4_segmentsIn_100 : decode cX4_segmentsIn 100 = .ok (.iload 5, 2) := dk_21 5 (dk_at dksX4_segmentsIn_4 8 rfl rfl)
theorem dX4_segmentsIn_102 : decode cX4_segmentsIn 102 = .ok (.ireturn, 1) := dk_172 (dk_at dksX4_segmentsIn_4 10 rfl rfl)
abbrev cX4_placeOf : ByteArray := prog_18_method_72_code
def yX4_placeOf : MethodName := ⟨RX4, "placeOf", "(II)C"⟩
def dkwX4_placeOf_1 : List UInt8 := [172]
abbrev dktX4_placeOf_1 : List UInt8 := dkwX4_placeOf_1 ++ []
def dkwX4_placeOf_0 : List UInt8 := [42, 27, 28, 182, 0, 227, 153, 0, 16, 42, 180, 0, 25, 42, 27, 182, 0, 138, 52, 167, 0, 5, 16, 32]
abbrev dktX4_placeOf_0 : List UInt8 := dkwX4_placeOf_0 ++ dktX4_placeOf_1
theorem dksX4_placeOf_0 : cX4_placeOf.data.toList.drop 0 = dktX4_placeOf_0 := by decide +kernel
theorem dksX4_placeOf_1 : cX4_placeOf.data.toList.drop 24 = dktX4_placeOf_1 := dk_seg dksX4_placeOf_0 24 rfl rfl
theorem dX4_placeOf_0 : decode cX4_placeOf 0 = .ok (.aload_n 0, 1) := dk_42 (dk_at dksX4_placeOf_0 0 rfl rfl)
theorem dX4_placeOf_1 : decode cX4_placeOf 1 = .ok (.iload_n 1, 1) := dk_27 (dk_at dksX4_placeOf_0 1 rfl rfl)
theorem dX4_placeOf_2 : decode cX4_placeOf 2 = .ok (.iload_n 2, 1) := dk_28 (dk_at dksX4_placeOf_0 2 rfl rfl)
theorem dX4_placeOf_3 : decode cX4_placeOf 3 = .ok (.invokevirtual 227, 3) := dk_182 0 227 (dk_at dksX4_placeOf_0 3 rfl rfl)
theorem dX4_placeOf_6 : decode cX4_placeOf 6 = .ok (.ifCond .eq 16, 3) := dk_153 0 16 (dk_at dksX4_placeOf_0 6 rfl rfl)
theorem dX4_placeOf_9 : decode cX4_placeOf 9 = .ok (.aload_n 0, 1) := dk_42 (dk_at dksX4_placeOf_0 9 rfl rfl)
theorem dX4_placeOf_10 : decode cX4_placeOf 10 = .ok (.getfield 25, 3) := dk_180 0 25 (dk_at dksX4_placeOf_0 10 rfl rfl)
theorem dX4_placeOf_13 : decode cX4_placeOf 13 = .ok (.aload_n 0, 1) := dk_42 (dk_at dksX4_placeOf_0 13 rfl rfl)
theorem dX4_placeOf_14 : decode cX4_placeOf 14 = .ok (.iload_n 1, 1) := dk_27 (dk_at dksX4_placeOf_0 14 rfl rfl)
theorem dX4_placeOf_15 : decode cX4_placeOf 15 = .ok (.invokevirtual 138, 3) := dk_182 0 138 (dk_at dksX4_placeOf_0 15 rfl rfl)
theorem dX4_placeOf_18 : decode cX4_placeOf 18 = .ok (.caload, 1) := dk_52 (dk_at dksX4_placeOf_0 18 rfl rfl)
theorem dX4_placeOf_19 : decode cX4_placeOf 19 = .ok (.goto 5, 3) := dk_167 0 5 (dk_at dksX4_placeOf_0 19 rfl rfl)
theorem dX4_placeOf_22 : decode cX4_placeOf 22 = .ok (.bipush 32, 2) := dk_16 32 (dk_at dksX4_placeOf_0 22 rfl rfl)
theorem dX4_placeOf_24 : decode cX4_placeOf 24 = .ok (.ireturn, 1) := dk_172 (dk_at dksX4_placeOf_1 0 rfl rfl)
abbrev cX4_isAsked : ByteArray := prog_18_method_71_code
def yX4_isAsked : MethodName := ⟨RX4, "isAsked", "(II)Z"⟩
def dkwX4_isAsked_3 : List UInt8 := [172]
abbrev dktX4_isAsked_3 : List UInt8 := dkwX4_isAsked_3 ++ []
def dkwX4_isAsked_2 : List UInt8 := [180, 0, 35, 154, 0, 9, 42, 28, 182, 0, 224, 87, 42, 180, 0, 35, 154, 0, 7, 4, 167, 0, 4, 3]
abbrev dktX4_isAsked_2 : List UInt8 := dkwX4_isAsked_2 ++ dktX4_isAsked_3
def dkwX4_isAsked_1 : List UInt8 := [154, 0, 7, 5, 167, 0, 15, 28, 184, 0, 54, 154, 0, 7, 6, 167, 0, 4, 3, 181, 0, 35, 42]
abbrev dktX4_isAsked_1 : List UInt8 := dkwX4_isAsked_1 ++ dktX4_isAsked_2
def dkwX4_isAsked_0 : List UInt8 := [42, 27, 182, 0, 138, 62, 42, 29, 2, 160, 0, 7, 4, 167, 0, 28, 42, 29, 8, 182, 0, 42]
abbrev dktX4_isAsked_0 : List UInt8 := dkwX4_isAsked_0 ++ dktX4_isAsked_1
theorem dksX4_isAsked_0 : cX4_isAsked.data.toList.drop 0 = dktX4_isAsked_0 := by decide +kernel
theorem dksX4_isAsked_1 : cX4_isAsked.data.toList.drop 22 = dktX4_isAsked_1 := dk_seg dksX4_isAsked_0 22 rfl rfl
theorem dksX4_isAsked_2 : cX4_isAsked.data.toList.drop 45 = dktX4_isAsked_2 := dk_seg dksX4_isAsked_1 23 rfl rfl
theorem dksX4_isAsked_3 : cX4_isAsked.data.toList.drop 69 = dktX4_isAsked_3 := dk_seg dksX4_isAsked_2 24 rfl rfl
theorem dX4_isAsked_0 : decode cX4_isAsked 0 = .ok (.aload_n 0, 1) := dk_42 (dk_at dksX4_isAsked_0 0 rfl rfl)
theorem dX4_isAsked_1 : decode cX4_isAsked 1 = .ok (.iload_n 1, 1) := dk_27 (dk_at dksX4_isAsked_0 1 rfl rfl)
theorem dX4_isAsked_2 : decode cX4_isAsked 2 = .ok (.invokevirtual 138, 3) := dk_182 0 138 (dk_at dksX4_isAsked_0 2 rfl rfl)
theorem dX4_isAsked_5 : decode cX4_isAsked 5 = .ok (.istore_n 3, 1) := dk_62 (dk_at dksX4_isAsked_0 5 rfl rfl)
theorem dX4_isAsked_6 : decode cX4_isAsked 6 = .ok (.aload_n 0, 1) := dk_42 (dk_at dksX4_isAsked_0 6 rfl rfl)
theorem dX4_isAsked_7 : decode cX4_isAsked 7 = .ok (.iload_n 3, 1) := dk_29 (dk_at dksX4_isAsked_0 7 rfl rfl)
theorem dX4_isAsked_8 : decode cX4_isAsked 8 = .ok (.iconst (-1), 1) := dk_2 (dk_at dksX4_isAsked_0 8 rfl rfl)
theorem dX4_isAsked_9 : decode cX4_isAsked 9 = .ok (.if_icmp .ne 7, 3) := dk_160 0 7 (dk_at dksX4_isAsked_0 9 rfl rfl)
theorem dX4_isAsked_12 : decode cX4_isAsked 12 = .ok (.iconst 1, 1) := dk_4 (dk_at dksX4_isAsked_0 12 rfl rfl)
theorem dX4_isAsked_13 : decode cX4_isAsked 13 = .ok (.goto 28, 3) := dk_167 0 28 (dk_at dksX4_isAsked_0 13 rfl rfl)
theorem dX4_isAsked_16 : decode cX4_isAsked 16 = .ok (.aload_n 0, 1) := dk_42 (dk_at dksX4_isAsked_0 16 rfl rfl)
theorem dX4_isAsked_17 : decode cX4_isAsked 17 = .ok (.iload_n 3, 1) := dk_29 (dk_at dksX4_isAsked_0 17 rfl rfl)
theorem dX4_isAsked_18 : decode cX4_isAsked 18 = .ok (.iconst 5, 1) := dk_8 (dk_at dksX4_isAsked_0 18 rfl rfl)
theorem dX4_isAsked_19 : decode cX4_isAsked 19 = .ok (.invokevirtual 42, 3) := dk_182 0 42 (dk_at dksX4_isAsked_0 19 rfl rfl)
theorem dX4_isAsked_22 : decode cX4_isAsked 22 = .ok (.ifCond .ne 7, 3) := dk_154 0 7 (dk_at dksX4_isAsked_1 0 rfl rfl)
theorem dX4_isAsked_25 : decode cX4_isAsked 25 = .ok (.iconst 2, 1) := dk_5 (dk_at dksX4_isAsked_1 3 rfl rfl)
theorem dX4_isAsked_26 : decode cX4_isAsked 26 = .ok (.goto 15, 3) := dk_167 0 15 (dk_at dksX4_isAsked_1 4 rfl rfl)
theorem dX4_isAsked_29 : decode cX4_isAsked 29 = .ok (.iload_n 2, 1) := dk_28 (dk_at dksX4_isAsked_1 7 rfl rfl)
theorem dX4_isAsked_30 : decode cX4_isAsked 30 = .ok (.invokestatic 54, 3) := dk_184 0 54 (dk_at dksX4_isAsked_1 8 rfl rfl)
theorem dX4_isAsked_33 : decode cX4_isAsked 33 = .ok (.ifCond .ne 7, 3) := dk_154 0 7 (dk_at dksX4_isAsked_1 11 rfl rfl)
theorem dX4_isAsked_36 : decode cX4_isAsked 36 = .ok (.iconst 3, 1) := dk_6 (dk_at dksX4_isAsked_1 14 rfl rfl)
theorem dX4_isAsked_37 : decode cX4_isAsked 37 = .ok (.goto 4, 3) := dk_167 0 4 (dk_at dksX4_isAsked_1 15 rfl rfl)
theorem dX4_isAsked_40 : decode cX4_isAsked 40 = .ok (.iconst 0, 1) := dk_3 (dk_at dksX4_isAsked_1 18 rfl rfl)
theorem dX4_isAsked_41 : decode cX4_isAsked 41 = .ok (.putfield 35, 3) := dk_181 0 35 (dk_at dksX4_isAsked_1 19 rfl rfl)
theorem dX4_isAsked_44 : decode cX4_isAsked 44 = .ok (.aload_n 0, 1) := dk_42 (dk_at dksX4_isAsked_1 22 rfl rfl)
theorem dX4_isAsked_45 : decode cX4_isAsked 45 = .ok (.getfield 35, 3) := dk_180 0 35 (dk_at dksX4_isAsked_2 0 rfl rfl)
theorem dX4_isAsked_48 : decode cX4_isAsked 48 = .ok (.ifCond .ne 9, 3) := dk_154 0 9 (dk_at dksX4_isAsked_2 3 rfl rfl)
theorem dX4_isAsked_51 : decode cX4_isAsked 51 = .ok (.aload_n 0, 1) := dk_42 (dk_at dksX4_isAsked_2 6 rfl rfl)
theorem dX4_isAsked_52 : decode cX4_isAsked 52 = .ok (.iload_n 2, 1) := dk_28 (dk_at dksX4_isAsked_2 7 rfl rfl)
theorem dX4_isAsked_53 : decode cX4_isAsked 53 = .ok (.invokevirtual 224, 3) := dk_182 0 224 (dk_at dksX4_isAsked_2 8 rfl rfl)
theorem dX4_isAsked_56 : decode cX4_isAsked 56 = .ok (.pop, 1) := dk_87 (dk_at dksX4_isAsked_2 11 rfl rfl)
theorem dX4_isAsked_57 : decode cX4_isAsked 57 = .ok (.aload_n 0, 1) := dk_42 (dk_at dksX4_isAsked_2 12 rfl rfl)
theorem dX4_isAsked_58 : decode cX4_isAsked 58 = .ok (.getfield 35, 3) := dk_180 0 35 (dk_at dksX4_isAsked_2 13 rfl rfl)
theorem dX4_isAsked_61 : decode cX4_isAsked 61 = .ok (.ifCond .ne 7, 3) := dk_154 0 7 (dk_at dksX4_isAsked_2 16 rfl rfl)
theorem dX4_isAsked_64 : decode cX4_isAsked 64 = .ok (.iconst 1, 1) := dk_4 (dk_at dksX4_isAsked_2 19 rfl rfl)
theorem dX4_isAsked_65 : decode cX4_isAsked 65 = .ok (.goto 4, 3) := dk_167 0 4 (dk_at dksX4_isAsked_2 20 rfl rfl)
theorem dX4_isAsked_68 : decode cX4_isAsked 68 = .ok (.iconst 0, 1) := dk_3 (dk_at dksX4_isAsked_2 23 rfl rfl)
theorem dX4_isAsked_69 : decode cX4_isAsked 69 = .ok (.ireturn, 1) := dk_172 (dk_at dksX4_isAsked_3 0 rfl rfl)
abbrev cX4_laysAll : ByteArray := prog_18_method_70_code
def yX4_laysAll : MethodName := ⟨RX4, "laysAll", "(I)I"⟩
def dkwX4_laysAll_6 : List UInt8 := [96, 62, 167, 255, 119, 29, 172]
abbrev dktX4_laysAll_6 : List UInt8 := dkwX4_laysAll_6 ++ []
def dkwX4_laysAll_5 : List UInt8 := [4, 21, 4, 120, 128, 61, 29, 42, 180, 0, 25, 21, 4, 52, 16, 45, 160, 0, 7, 3, 167, 0, 4, 4]
abbrev dktX4_laysAll_5 : List UInt8 := dkwX4_laysAll_5 ++ dktX4_laysAll_6
def dkwX4_laysAll_4 : List UInt8 := [132, 5, 255, 167, 255, 183, 21, 4, 2, 159, 255, 160, 42, 21, 4, 16, 8, 27, 122, 28, 182, 0, 220, 28]
abbrev dktX4_laysAll_4 : List UInt8 := dkwX4_laysAll_4 ++ dktX4_laysAll_5
def dkwX4_laysAll_3 : List UInt8 := [182, 0, 42, 42, 21, 4, 16, 6, 182, 0, 42, 161, 0, 8, 21, 5, 167, 0, 5, 21, 4, 54, 4]
abbrev dktX4_laysAll_3 : List UInt8 := dkwX4_laysAll_3 ++ dktX4_laysAll_4
def dkwX4_laysAll_2 : List UInt8 := [4, 167, 0, 4, 3, 54, 6, 21, 6, 153, 0, 33, 21, 4, 2, 159, 0, 22, 42, 21, 5, 16, 6]
abbrev dktX4_laysAll_2 : List UInt8 := dkwX4_laysAll_2 ++ dktX4_laysAll_3
def dkwX4_laysAll_1 : List UInt8 := [21, 5, 155, 0, 74, 42, 21, 5, 8, 182, 0, 42, 158, 0, 16, 28, 21, 5, 122, 4, 126, 154, 0, 7]
abbrev dktX4_laysAll_1 : List UInt8 := dkwX4_laysAll_1 ++ dktX4_laysAll_2
def dkwX4_laysAll_0 : List UInt8 := [3, 61, 3, 62, 3, 54, 4, 21, 4, 2, 159, 0, 137, 2, 54, 4, 42, 180, 0, 39, 4, 100, 54, 5]
abbrev dktX4_laysAll_0 : List UInt8 := dkwX4_laysAll_0 ++ dktX4_laysAll_1
theorem dksX4_laysAll_0 : cX4_laysAll.data.toList.drop 0 = dktX4_laysAll_0 := by decide +kernel
theorem dksX4_laysAll_1 : cX4_laysAll.data.toList.drop 24 = dktX4_laysAll_1 := dk_seg dksX4_laysAll_0 24 rfl rfl
theorem dksX4_laysAll_2 : cX4_laysAll.data.toList.drop 48 = dktX4_laysAll_2 := dk_seg dksX4_laysAll_1 24 rfl rfl
theorem dksX4_laysAll_3 : cX4_laysAll.data.toList.drop 71 = dktX4_laysAll_3 := dk_seg dksX4_laysAll_2 23 rfl rfl
theorem dksX4_laysAll_4 : cX4_laysAll.data.toList.drop 94 = dktX4_laysAll_4 := dk_seg dksX4_laysAll_3 23 rfl rfl
theorem dksX4_laysAll_5 : cX4_laysAll.data.toList.drop 118 = dktX4_laysAll_5 := dk_seg dksX4_laysAll_4 24 rfl rfl
theorem dksX4_laysAll_6 : cX4_laysAll.data.toList.drop 142 = dktX4_laysAll_6 := dk_seg dksX4_laysAll_5 24 rfl rfl
theorem dX4_laysAll_0 : decode cX4_laysAll 0 = .ok (.iconst 0, 1) := dk_3 (dk_at dksX4_laysAll_0 0 rfl rfl)
theorem dX4_laysAll_1 : decode cX4_laysAll 1 = .ok (.istore_n 2, 1) := dk_61 (dk_at dksX4_laysAll_0 1 rfl rfl)
theorem dX4_laysAll_2 : decode cX4_laysAll 2 = .ok (.iconst 0, 1) := dk_3 (dk_at dksX4_laysAll_0 2 rfl rfl)
theorem dX4_laysAll_3 : decode cX4_laysAll 3 = .ok (.istore_n 3, 1) := dk_62 (dk_at dksX4_laysAll_0 3 rfl rfl)
theorem dX4_laysAll_4 : decode cX4_laysAll 4 = .ok (.iconst 0, 1) := dk_3 (dk_at dksX4_laysAll_0 4 rfl rfl)
theorem dX4_laysAll_5 : decode cX4_laysAll 5 = .ok (.istore 4, 2) := dk_54 4 (dk_at dksX4_laysAll_0 5 rfl rfl)
theorem dX4_laysAll_7 : decode cX4_laysAll 7 = .ok (.iload 4, 2) := dk_21 4 (dk_at dksX4_laysAll_0 7 rfl rfl)
theorem dX4_laysAll_9 : decode cX4_laysAll 9 = .ok (.iconst (-1), 1) := dk_2 (dk_at dksX4_laysAll_0 9 rfl rfl)
theorem dX4_laysAll_10 : decode cX4_laysAll 10 = .ok (.if_icmp .eq 137, 3) := dk_159 0 137 (dk_at dksX4_laysAll_0 10 rfl rfl)
theorem dX4_laysAll_13 : decode cX4_laysAll 13 = .ok (.iconst (-1), 1) := dk_2 (dk_at dksX4_laysAll_0 13 rfl rfl)
theorem dX4_laysAll_14 : decode cX4_laysAll 14 = .ok (.istore 4, 2) := dk_54 4 (dk_at dksX4_laysAll_0 14 rfl rfl)
theorem dX4_laysAll_16 : decode cX4_laysAll 16 = .ok (.aload_n 0, 1) := dk_42 (dk_at dksX4_laysAll_0 16 rfl rfl)
theorem dX4_laysAll_17 : decode cX4_laysAll 17 = .ok (.getfield 39, 3) := dk_180 0 39 (dk_at dksX4_laysAll_0 17 rfl rfl)
theorem dX4_laysAll_20 : decode cX4_laysAll 20 = .ok (.iconst 1, 1) := dk_4 (dk_at dksX4_laysAll_0 20 rfl rfl)
theorem dX4_laysAll_21 : decode cX4_laysAll 21 = .ok (.isub, 1) := dk_100 (dk_at dksX4_laysAll_0 21 rfl rfl)
theorem dX4_laysAll_22 : decode cX4_laysAll 22 = .ok (.istore 5, 2) := dk_54 5 (dk_at dksX4_laysAll_0 22 rfl rfl)
theorem dX4_laysAll_24 : decode cX4_laysAll 24 = .ok (.iload 5, 2) := dk_21 5 (dk_at dksX4_laysAll_1 0 rfl rfl)
theorem dX4_laysAll_26 : decode cX4_laysAll 26 = .ok (.ifCond .lt 74, 3) := dk_155 0 74 (dk_at dksX4_laysAll_1 2 rfl rfl)
theorem dX4_laysAll_29 : decode cX4_laysAll 29 = .ok (.aload_n 0, 1) := dk_42 (dk_at dksX4_laysAll_1 5 rfl rfl)
theorem dX4_laysAll_30 : decode cX4_laysAll 30 = .ok (.iload 5, 2) := dk_21 5 (dk_at dksX4_laysAll_1 6 rfl rfl)
theorem dX4_laysAll_32 : decode cX4_laysAll 32 = .ok (.iconst 5, 1) := dk_8 (dk_at dksX4_laysAll_1 8 rfl rfl)
theorem dX4_laysAll_33 : decode cX4_laysAll 33 = .ok (.invokevirtual 42, 3) := dk_182 0 42 (dk_at dksX4_laysAll_1 9 rfl rfl)
theorem dX4_laysAll_36 : decode cX4_laysAll 36 = .ok (.ifCond .le 16, 3) := dk_158 0 16 (dk_at dksX4_laysAll_1 12 rfl rfl)
theorem dX4_laysAll_39 : decode cX4_laysAll 39 = .ok (.iload_n 2, 1) := dk_28 (dk_at dksX4_laysAll_1 15 rfl rfl)
theorem dX4_laysAll_40 : decode cX4_laysAll 40 = .ok (.iload 5, 2) := dk_21 5 (dk_at dksX4_laysAll_1 16 rfl rfl)
theorem dX4_laysAll_42 : decode cX4_laysAll 42 = .ok (.ishr, 1) := dk_122 (dk_at dksX4_laysAll_1 18 rfl rfl)
theorem dX4_laysAll_43 : decode cX4_laysAll 43 = .ok (.iconst 1, 1) := dk_4 (dk_at dksX4_laysAll_1 19 rfl rfl)
theorem dX4_laysAll_44 : decode cX4_laysAll 44 = .ok (.iand, 1) := dk_126 (dk_at dksX4_laysAll_1 20 rfl rfl)
theorem dX4_laysAll_45 : decode cX4_laysAll 45 = .ok (.ifCond .ne 7, 3) := dk_154 0 7 (dk_at dksX4_laysAll_1 21 rfl rfl)
theorem dX4_laysAll_48 : decode cX4_laysAll 48 = .ok (.iconst 1, 1) := dk_4 (dk_at dksX4_laysAll_2 0 rfl rfl)
theorem dX4_laysAll_49 : decode cX4_laysAll 49 = .ok (.goto 4, 3) := dk_167 0 4 (dk_at dksX4_laysAll_2 1 rfl rfl)
theorem dX4_laysAll_52 : decode cX4_laysAll 52 = .ok (.iconst 0, 1) := dk_3 (dk_at dksX4_laysAll_2 4 rfl rfl)
theorem dX4_laysAll_53 : decode cX4_laysAll 53 = .ok (.istore 6, 2) := dk_54 6 (dk_at dksX4_laysAll_2 5 rfl rfl)
theorem dX4_laysAll_55 : decode cX4_laysAll 55 = .ok (.iload 6, 2) := dk_21 6 (dk_at dksX4_laysAll_2 7 rfl rfl)
theorem dX4_laysAll_57 : decode cX4_laysAll 57 = .ok (.ifCond .eq 33, 3) := dk_153 0 33 (dk_at dksX4_laysAll_2 9 rfl rfl)
theorem dX4_laysAll_60 : decode cX4_laysAll 60 = .ok (.iload 4, 2) := dk_21 4 (dk_at dksX4_laysAll_2 12 rfl rfl)
theorem dX4_laysAll_62 : decode cX4_laysAll 62 = .ok (.iconst (-1), 1) := dk_2 (dk_at dksX4_laysAll_2 14 rfl rfl)
theorem dX4_laysAll_63 : decode cX4_laysAll 63 = .ok (.if_icmp .eq 22, 3) := dk_159 0 22 (dk_at dksX4_laysAll_2 15 rfl rfl)
theorem dX4_laysAll_66 : decode cX4_laysAll 66 = .ok (.aload_n 0, 1) := dk_42 (dk_at dksX4_laysAll_2 18 rfl rfl)
theorem dX4_laysAll_67 : decode cX4_laysAll 67 = .ok (.iload 5, 2) := dk_21 5 (dk_at dksX4_laysAll_2 19 rfl rfl)
theorem dX4_laysAll_69 : decode cX4_laysAll 69 = .ok (.bipush 6, 2) := dk_16 6 (dk_at dksX4_laysAll_2 21 rfl rfl)
theorem dX4_laysAll_71 : decode cX4_laysAll 71 = .ok (.invokevirtual 42, 3) := dk_182 0 42 (dk_at dksX4_laysAll_3 0 rfl rfl)
theorem dX4_laysAll_74 : decode cX4_laysAll 74 = .ok (.aload_n 0, 1) := dk_42 (dk_at dksX4_laysAll_3 3 rfl rfl)
theorem dX4_laysAll_75 : decode cX4_laysAll 75 = .ok (.iload 4, 2) := dk_21 4 (dk_at dksX4_laysAll_3 4 rfl rfl)
theorem dX4_laysAll_77 : decode cX4_laysAll 77 = .ok (.bipush 6, 2) := dk_16 6 (dk_at dksX4_laysAll_3 6 rfl rfl)
theorem dX4_laysAll_79 : decode cX4_laysAll 79 = .ok (.invokevirtual 42, 3) := dk_182 0 42 (dk_at dksX4_laysAll_3 8 rfl rfl)
theorem dX4_laysAll_82 : decode cX4_laysAll 82 = .ok (.if_icmp .lt 8, 3) := dk_161 0 8 (dk_at dksX4_laysAll_3 11 rfl rfl)
theorem dX4_laysAll_85 : decode cX4_laysAll 85 = .ok (.iload 5, 2) := dk_21 5 (dk_at dksX4_laysAll_3 14 rfl rfl)
theorem dX4_laysAll_87 : decode cX4_laysAll 87 = .ok (.goto 5, 3) := dk_167 0 5 (dk_at dksX4_laysAll_3 16 rfl rfl)
theorem dX4_laysAll_90 : decode cX4_laysAll 90 = .ok (.iload 4, 2) := dk_21 4 (dk_at dksX4_laysAll_3 19 rfl rfl)
theorem dX4_laysAll_92 : decode cX4_laysAll 92 = .ok (.istore 4, 2) := dk_54 4 (dk_at dksX4_laysAll_3 21 rfl rfl)
theorem dX4_laysAll_94 : decode cX4_laysAll 94 = .ok (.iinc 5 (-1), 3) := dk_132 5 255 (dk_at dksX4_laysAll_4 0 rfl rfl)
theorem dX4_laysAll_97 : decode cX4_laysAll 97 = .ok (.goto (-73), 3) := dk_167 255 183 (dk_at dksX4_laysAll_4 3 rfl rfl)
theorem dX4_laysAll_100 : decode cX4_laysAll 100 = .ok (.iload 4, 2) := dk_21 4 (dk_at dksX4_laysAll_4 6 rfl rfl)
theorem dX4_laysAll_102 : decode cX4_laysAll 102 = .ok (.iconst (-1), 1) := dk_2 (dk_at dksX4_laysAll_4 8 rfl rfl)
theorem dX4_laysAll_103 : decode cX4_laysAll 103 = .ok (.if_icmp .eq (-96), 3) := dk_159 255 160 (dk_at dksX4_laysAll_4 9 rfl rfl)
theorem dX4_laysAll_106 : decode cX4_laysAll 106 = .ok (.aload_n 0, 1) := dk_42 (dk_at dksX4_laysAll_4 12 rfl rfl)
theorem dX4_laysAll_107 : decode cX4_laysAll 107 = .ok (.iload 4, 2) := dk_21 4 (dk_at dksX4_laysAll_4 13 rfl rfl)
theorem dX4_laysAll_109 : decode cX4_laysAll 109 = .ok (.bipush 8, 2) := dk_16 8 (dk_at dksX4_laysAll_4 15 rfl rfl)
theorem dX4_laysAll_111 : decode cX4_laysAll 111 = .ok (.iload_n 1, 1) := dk_27 (dk_at dksX4_laysAll_4 17 rfl rfl)
theorem dX4_laysAll_112 : decode cX4_laysAll 112 = .ok (.ishr, 1) := dk_122 (dk_at dksX4_laysAll_4 18 rfl rfl)
theorem dX4_laysAll_113 : decode cX4_laysAll 113 = .ok (.iload_n 2, 1) := dk_28 (dk_at dksX4_laysAll_4 19 rfl rfl)
theorem dX4_laysAll_114 : decode cX4_laysAll 114 = .ok (.invokevirtual 220, 3) := dk_182 0 220 (dk_at dksX4_laysAll_4 20 rfl rfl)
theorem dX4_laysAll_117 : decode cX4_laysAll 117 = .ok (.iload_n 2, 1) := dk_28 (dk_at dksX4_laysAll_4 23 rfl rfl)
theorem dX4_laysAll_118 : decode cX4_laysAll 118 = .ok (.iconst 1, 1) := dk_4 (dk_at dksX4_laysAll_5 0 rfl rfl)
theorem dX4_laysAll_119 : decode cX4_laysAll 119 = .ok (.iload 4, 2) := dk_21 4 (dk_at dksX4_laysAll_5 1 rfl rfl)
theorem dX4_laysAll_121 : decode cX4_laysAll 121 = .ok (.ishl, 1) := dk_120 (dk_at dksX4_laysAll_5 3 rfl rfl)
theorem dX4_laysAll_122 : decode cX4_laysAll 122 = .ok (.ior, 1) := dk_128 (dk_at dksX4_laysAll_5 4 rfl rfl)
theorem dX4_laysAll_123 : decode cX4_laysAll 123 = .ok (.istore_n 2, 1) := dk_61 (dk_at dksX4_laysAll_5 5 rfl rfl)
theorem dX4_laysAll_124 : decode cX4_laysAll 124 = .ok (.iload_n 3, 1) := dk_29 (dk_at dksX4_laysAll_5 6 rfl rfl)
theorem dX4_laysAll_125 : decode cX4_laysAll 125 = .ok (.aload_n 0, 1) := dk_42 (dk_at dksX4_laysAll_5 7 rfl rfl)
theorem dX4_laysAll_126 : decode cX4_laysAll 126 = .ok (.getfield 25, 3) := dk_180 0 25 (dk_at dksX4_laysAll_5 8 rfl rfl)
theorem dX4_laysAll_129 : decode cX4_laysAll 129 = .ok (.iload 4, 2) := dk_21 4 (dk_at dksX4_laysAll_5 11 rfl rfl)
theorem dX4_laysAll_131 : decode cX4_laysAll 131 = .ok (.caload, 1) := dk_52 (dk_at dksX4_laysAll_5 13 rfl rfl)
theorem dX4_laysAll_132 : decode cX4_laysAll 132 = .ok (.bipush 45, 2) := dk_16 45 (dk_at dksX4_laysAll_5 14 rfl rfl)
theorem dX4_laysAll_134 : decode cX4_laysAll 134 = .ok (.if_icmp .ne 7, 3) := dk_160 0 7 (dk_at dksX4_laysAll_5 16 rfl rfl)
theorem dX4_laysAll_137 : decode cX4_laysAll 137 = .ok (.iconst 0, 1) := dk_3 (dk_at dksX4_laysAll_5 19 rfl rfl)
theorem dX4_laysAll_138 : decode cX4_laysAll 138 = .ok (.goto 4, 3) := dk_167 0 4 (dk_at dksX4_laysAll_5 20 rfl rfl)
theorem dX4_laysAll_141 : decode cX4_laysAll 141 = .ok (.iconst 1, 1) := dk_4 (dk_at dksX4_laysAll_5 23 rfl rfl)
theorem dX4_laysAll_142 : decode cX4_laysAll 142 = .ok (.iadd, 1) := dk_96 (dk_at dksX4_laysAll_6 0 rfl rfl)
theorem dX4_laysAll_143 : decode cX4_laysAll 143 = .ok (.istore_n 3, 1) := dk_62 (dk_at dksX4_laysAll_6 1 rfl rfl)
theorem dX4_laysAll_144 : decode cX4_laysAll 144 = .ok (.goto (-137), 3) := dk_167 255 119 (dk_at dksX4_laysAll_6 2 rfl rfl)
theorem dX4_laysAll_147 : decode cX4_laysAll 147 = .ok (.iload_n 3, 1) := dk_29 (dk_at dksX4_laysAll_6 5 rfl rfl)
theorem dX4_laysAll_148 : decode cX4_laysAll 148 = .ok (.ireturn, 1) := dk_172 (dk_at dksX4_laysAll_6 6 rfl rfl)
abbrev cX4_lays : ByteArray := prog_18_method_69_code
def yX4_lays : MethodName := ⟨RX4, "lays", "(III)V"⟩
def dkwX4_lays_8 : List UInt8 := [132, 7, 255, 167, 255, 113, 177]
abbrev dktX4_lays_8 : List UInt8 := dkwX4_lays_8 ++ []
def dkwX4_lays_7 : List UInt8 := [167, 0, 5, 16, 98, 85, 42, 180, 0, 29, 27, 21, 8, 79, 42, 180, 0, 32, 27, 21, 9, 79]
abbrev dktX4_lays_7 : List UInt8 := dkwX4_lays_7 ++ dktX4_lays_8
def dkwX4_lays_6 : List UInt8 := [167, 0, 27, 21, 7, 4, 160, 0, 8, 16, 108, 167, 0, 16, 21, 7, 5, 160, 0, 8, 16, 97]
abbrev dktX4_lays_6 : List UInt8 := dkwX4_lays_6 ++ dktX4_lays_7
def dkwX4_lays_5 : List UInt8 := [21, 8, 21, 9, 28, 29, 182, 0, 217, 153, 0, 59, 42, 180, 0, 25, 27, 21, 7, 154, 0, 8, 16, 114]
abbrev dktX4_lays_5 : List UInt8 := dkwX4_lays_5 ++ dktX4_lays_6
def dkwX4_lays_4 : List UInt8 := [167, 0, 20, 21, 7, 5, 160, 0, 8, 21, 6, 167, 0, 9, 21, 6, 5, 28, 104, 100, 54, 9, 42, 27]
abbrev dktX4_lays_4 : List UInt8 := dkwX4_lays_4 ++ dktX4_lays_5
def dkwX4_lays_3 : List UInt8 := [167, 0, 10, 21, 5, 21, 4, 5, 108, 100, 54, 8, 21, 7, 5, 162, 0, 10, 21, 6, 28, 100]
abbrev dktX4_lays_3 : List UInt8 := dkwX4_lays_3 ++ dktX4_lays_4
def dkwX4_lays_2 : List UInt8 := [155, 0, 144, 21, 7, 154, 0, 8, 21, 5, 167, 0, 24, 21, 7, 4, 160, 0, 11, 21, 5, 21, 4, 100]
abbrev dktX4_lays_2 : List UInt8 := dkwX4_lays_2 ++ dktX4_lays_3
def dkwX4_lays_1 : List UInt8 := [27, 42, 180, 0, 16, 182, 0, 213, 54, 6, 42, 180, 0, 25, 27, 16, 45, 85, 6, 54, 7, 21, 7]
abbrev dktX4_lays_1 : List UInt8 := dkwX4_lays_1 ++ dktX4_lays_2
def dkwX4_lays_0 : List UInt8 := [5, 28, 104, 42, 27, 8, 182, 0, 42, 104, 54, 4, 42, 27, 42, 180, 0, 13, 182, 0, 213, 54, 5, 42]
abbrev dktX4_lays_0 : List UInt8 := dkwX4_lays_0 ++ dktX4_lays_1
theorem dksX4_lays_0 : cX4_lays.data.toList.drop 0 = dktX4_lays_0 := by decide +kernel
theorem dksX4_lays_1 : cX4_lays.data.toList.drop 24 = dktX4_lays_1 := dk_seg dksX4_lays_0 24 rfl rfl
theorem dksX4_lays_2 : cX4_lays.data.toList.drop 47 = dktX4_lays_2 := dk_seg dksX4_lays_1 23 rfl rfl
theorem dksX4_lays_3 : cX4_lays.data.toList.drop 71 = dktX4_lays_3 := dk_seg dksX4_lays_2 24 rfl rfl
theorem dksX4_lays_4 : cX4_lays.data.toList.drop 93 = dktX4_lays_4 := dk_seg dksX4_lays_3 22 rfl rfl
theorem dksX4_lays_5 : cX4_lays.data.toList.drop 117 = dktX4_lays_5 := dk_seg dksX4_lays_4 24 rfl rfl
theorem dksX4_lays_6 : cX4_lays.data.toList.drop 141 = dktX4_lays_6 := dk_seg dksX4_lays_5 24 rfl rfl
theorem dksX4_lays_7 : cX4_lays.data.toList.drop 163 = dktX4_lays_7 := dk_seg dksX4_lays_6 22 rfl rfl
theorem dksX4_lays_8 : cX4_lays.data.toList.drop 185 = dktX4_lays_8 := dk_seg dksX4_lays_7 22 rfl rfl
theorem dX4_lays_0 : decode cX4_lays 0 = .ok (.iconst 2, 1) := dk_5 (dk_at dksX4_lays_0 0 rfl rfl)
theorem dX4_lays_1 : decode cX4_lays 1 = .ok (.iload_n 2, 1) := dk_28 (dk_at dksX4_lays_0 1 rfl rfl)
theorem dX4_lays_2 : decode cX4_lays 2 = .ok (.imul, 1) := dk_104 (dk_at dksX4_lays_0 2 rfl rfl)
theorem dX4_lays_3 : decode cX4_lays 3 = .ok (.aload_n 0, 1) := dk_42 (dk_at dksX4_lays_0 3 rfl rfl)
theorem dX4_lays_4 : decode cX4_lays 4 = .ok (.iload_n 1, 1) := dk_27 (dk_at dksX4_lays_0 4 rfl rfl)
theorem dX4_lays_5 : decode cX4_lays 5 = .ok (.iconst 5, 1) := dk_8 (dk_at dksX4_lays_0 5 rfl rfl)
theorem dX4_lays_6 : decode cX4_lays 6 = .ok (.invokevirtual 42, 3) := dk_182 0 42 (dk_at dksX4_lays_0 6 rfl rfl)
theorem dX4_lays_9 : decode cX4_lays 9 = .ok (.imul, 1) := dk_104 (dk_at dksX4_lays_0 9 rfl rfl)
theorem dX4_lays_10 : decode cX4_lays 10 = .ok (.istore 4, 2) := dk_54 4 (dk_at dksX4_lays_0 10 rfl rfl)
theorem dX4_lays_12 : decode cX4_lays 12 = .ok (.aload_n 0, 1) := dk_42 (dk_at dksX4_lays_0 12 rfl rfl)
theorem dX4_lays_13 : decode cX4_lays 13 = .ok (.iload_n 1, 1) := dk_27 (dk_at dksX4_lays_0 13 rfl rfl)
theorem dX4_lays_14 : decode cX4_lays 14 = .ok (.aload_n 0, 1) := dk_42 (dk_at dksX4_lays_0 14 rfl rfl)
theorem dX4_lays_15 : decode cX4_lays 15 = .ok (.getfield 13, 3) := dk_180 0 13 (dk_at dksX4_lays_0 15 rfl rfl)
theorem dX4_lays_18 : decode cX4_lays 18 = .ok (.invokevirtual 213, 3) := dk_182 0 213 (dk_at dksX4_lays_0 18 rfl rfl)
theorem dX4_lays_21 : decode cX4_lays 21 = .ok (.istore 5, 2) := dk_54 5 (dk_at dksX4_lays_0 21 rfl rfl)
theorem dX4_lays_23 : decode cX4_lays 23 = .ok (.aload_n 0, 1) := dk_42 (dk_at dksX4_lays_0 23 rfl rfl)
theorem dX4_lays_24 : decode cX4_lays 24 = .ok (.iload_n 1, 1) := dk_27 (dk_at dksX4_lays_1 0 rfl rfl)
theorem dX4_lays_25 : decode cX4_lays 25 = .ok (.aload_n 0, 1) := dk_42 (dk_at dksX4_lays_1 1 rfl rfl)
theorem dX4_lays_26 : decode cX4_lays 26 = .ok (.getfield 16, 3) := dk_180 0 16 (dk_at dksX4_lays_1 2 rfl rfl)
theorem dX4_lays_29 : decode cX4_lays 29 = .ok (.invokevirtual 213, 3) := dk_182 0 213 (dk_at dksX4_lays_1 5 rfl rfl)
theorem dX4_lays_32 : decode cX4_lays 32 = .ok (.istore 6, 2) := dk_54 6 (dk_at dksX4_lays_1 8 rfl rfl)
theorem dX4_lays_34 : decode cX4_lays 34 = .ok (.aload_n 0, 1) := dk_42 (dk_at dksX4_lays_1 10 rfl rfl)
theorem dX4_lays_35 : decode cX4_lays 35 = .ok (.getfield 25, 3) := dk_180 0 25 (dk_at dksX4_lays_1 11 rfl rfl)
theorem dX4_lays_38 : decode cX4_lays 38 = .ok (.iload_n 1, 1) := dk_27 (dk_at dksX4_lays_1 14 rfl rfl)
theorem dX4_lays_39 : decode cX4_lays 39 = .ok (.bipush 45, 2) := dk_16 45 (dk_at dksX4_lays_1 15 rfl rfl)
theorem dX4_lays_41 : decode cX4_lays 41 = .ok (.castore, 1) := dk_85 (dk_at dksX4_lays_1 17 rfl rfl)
theorem dX4_lays_42 : decode cX4_lays 42 = .ok (.iconst 3, 1) := dk_6 (dk_at dksX4_lays_1 18 rfl rfl)
theorem dX4_lays_43 : decode cX4_lays 43 = .ok (.istore 7, 2) := dk_54 7 (dk_at dksX4_lays_1 19 rfl rfl)
theorem dX4_lays_45 : decode cX4_lays 45 = .ok (.iload 7, 2) := dk_21 7 (dk_at dksX4_lays_1 21 rfl rfl)
theorem dX4_lays_47 : decode cX4_lays 47 = .ok (.ifCond .lt 144, 3) := dk_155 0 144 (dk_at dksX4_lays_2 0 rfl rfl)
theorem dX4_lays_50 : decode cX4_lays 50 = .ok (.iload 7, 2) := dk_21 7 (dk_at dksX4_lays_2 3 rfl rfl)
theorem dX4_lays_52 : decode cX4_lays 52 = .ok (.ifCond .ne 8, 3) := dk_154 0 8 (dk_at dksX4_lays_2 5 rfl rfl)
theorem dX4_lays_55 : decode cX4_lays 55 = .ok (.iload 5, 2) := dk_21 5 (dk_at dksX4_lays_2 8 rfl rfl)
theorem dX4_lays_57 : decode cX4_lays 57 = .ok (.goto 24, 3) := dk_167 0 24 (dk_at dksX4_lays_2 10 rfl rfl)
theorem dX4_lays_60 : decode cX4_lays 60 = .ok (.iload 7, 2) := dk_21 7 (dk_at dksX4_lays_2 13 rfl rfl)
theorem dX4_lays_62 : decode cX4_lays 62 = .ok (.iconst 1, 1) := dk_4 (dk_at dksX4_lays_2 15 rfl rfl)
theorem dX4_lays_63 : decode cX4_lays 63 = .ok (.if_icmp .ne 11, 3) := dk_160 0 11 (dk_at dksX4_lays_2 16 rfl rfl)
theorem dX4_lays_66 : decode cX4_lays 66 = .ok (.iload 5, 2) := dk_21 5 (dk_at dksX4_lays_2 19 rfl rfl)
theorem dX4_lays_68 : decode cX4_lays 68 = .ok (.iload 4, 2) := dk_21 4 (dk_at dksX4_lays_2 21 rfl rfl)
theorem dX4_lays_70 : decode cX4_lays 70 = .ok (.isub, 1) := dk_100 (dk_at dksX4_lays_2 23 rfl rfl)
theorem dX4_lays_71 : decode cX4_lays 71 = .ok (.goto 10, 3) := dk_167 0 10 (dk_at dksX4_lays_3 0 rfl rfl)
theorem dX4_lays_74 : decode cX4_lays 74 = .ok (.iload 5, 2) := dk_21 5 (dk_at dksX4_lays_3 3 rfl rfl)
theorem dX4_lays_76 : decode cX4_lays 76 = .ok (.iload 4, 2) := dk_21 4 (dk_at dksX4_lays_3 5 rfl rfl)
theorem dX4_lays_78 : decode cX4_lays 78 = .ok (.iconst 2, 1) := dk_5 (dk_at dksX4_lays_3 7 rfl rfl)
theorem dX4_lays_79 : decode cX4_lays 79 = .ok (.idiv, 1) := dk_108 (dk_at dksX4_lays_3 8 rfl rfl)
theorem dX4_lays_80 : decode cX4_lays 80 = .ok (.isub, 1) := dk_100 (dk_at dksX4_lays_3 9 rfl rfl)
theorem dX4_lays_81 : decode cX4_lays 81 = .ok (.istore 8, 2) := dk_54 8 (dk_at dksX4_lays_3 10 rfl rfl)
theorem dX4_lays_83 : decode cX4_lays 83 = .ok (.iload 7, 2) := dk_21 7 (dk_at dksX4_lays_3 12 rfl rfl)
theorem dX4_lays_85 : decode cX4_lays 85 = .ok (.iconst 2, 1) := dk_5 (dk_at dksX4_lays_3 14 rfl rfl)
theorem dX4_lays_86 : decode cX4_lays 86 = .ok (.if_icmp .ge 10, 3) := dk_162 0 10 (dk_at dksX4_lays_3 15 rfl rfl)
theorem dX4_lays_89 : decode cX4_lays 89 = .ok (.iload 6, 2) := dk_21 6 (dk_at dksX4_lays_3 18 rfl rfl)
theorem dX4_lays_91 : decode cX4_lays 91 = .ok (.iload_n 2, 1) := dk_28 (dk_at dksX4_lays_3 20 rfl rfl)
theorem dX4_lays_92 : decode cX4_lays 92 = .ok (.isub, 1) := dk_100 (dk_at dksX4_lays_3 21 rfl rfl)
theorem dX4_lays_93 : decode cX4_lays 93 = .ok (.goto 20, 3) := dk_167 0 20 (dk_at dksX4_lays_4 0 rfl rfl)
theorem dX4_lays_96 : decode cX4_lays 96 = .ok (.iload 7, 2) := dk_21 7 (dk_at dksX4_lays_4 3 rfl rfl)
theorem dX4_lays_98 : decode cX4_lays 98 = .ok (.iconst 2, 1) := dk_5 (dk_at dksX4_lays_4 5 rfl rfl)
theorem dX4_lays_99 : decode cX4_lays 99 = .ok (.if_icmp .ne 8, 3) := dk_160 0 8 (dk_at dksX4_lays_4 6 rfl rfl)
theorem dX4_lays_102 : decode cX4_lays 102 = .ok (.iload 6, 2) := dk_21 6 (dk_at dksX4_lays_4 9 rfl rfl)
theorem dX4_lays_104 : decode cX4_lays 104 = .ok (.goto 9, 3) := dk_167 0 9 (dk_at dksX4_lays_4 11 rfl rfl)
theorem dX4_lays_107 : decode cX4_lays 107 = .ok (.iload 6, 2) := dk_21 6 (dk_at dksX4_lays_4 14 rfl rfl)
theorem dX4_lays_109 : decode cX4_lays 109 = .ok (.iconst 2, 1) := dk_5 (dk_at dksX4_lays_4 16 rfl rfl)
theorem dX4_lays_110 : decode cX4_lays 110 = .ok (.iload_n 2, 1) := dk_28 (dk_at dksX4_lays_4 17 rfl rfl)
theorem dX4_lays_111 : decode cX4_lays 111 = .ok (.imul, 1) := dk_104 (dk_at dksX4_lays_4 18 rfl rfl)
theorem dX4_lays_112 : decode cX4_lays 112 = .ok (.isub, 1) := dk_100 (dk_at dksX4_lays_4 19 rfl rfl)
theorem dX4_lays_113 : decode cX4_lays 113 = .ok (.istore 9, 2) := dk_54 9 (dk_at dksX4_lays_4 20 rfl rfl)
theorem dX4_lays_115 : decode cX4_lays 115 = .ok (.aload_n 0, 1) := dk_42 (dk_at dksX4_lays_4 22 rfl rfl)
theorem dX4_lays_116 : decode cX4_lays 116 = .ok (.iload_n 1, 1) := dk_27 (dk_at dksX4_lays_4 23 rfl rfl)
theorem dX4_lays_117 : decode cX4_lays 117 = .ok (.iload 8, 2) := dk_21 8 (dk_at dksX4_lays_5 0 rfl rfl)
theorem dX4_lays_119 : decode cX4_lays 119 = .ok (.iload 9, 2) := dk_21 9 (dk_at dksX4_lays_5 2 rfl rfl)
theorem dX4_lays_121 : decode cX4_lays 121 = .ok (.iload_n 2, 1) := dk_28 (dk_at dksX4_lays_5 4 rfl rfl)
theorem dX4_lays_122 : decode cX4_lays 122 = .ok (.iload_n 3, 1) := dk_29 (dk_at dksX4_lays_5 5 rfl rfl)
theorem dX4_lays_123 : decode cX4_lays 123 = .ok (.invokevirtual 217, 3) := dk_182 0 217 (dk_at dksX4_lays_5 6 rfl rfl)
theorem dX4_lays_126 : decode cX4_lays 126 = .ok (.ifCond .eq 59, 3) := dk_153 0 59 (dk_at dksX4_lays_5 9 rfl rfl)
theorem dX4_lays_129 : decode cX4_lays 129 = .ok (.aload_n 0, 1) := dk_42 (dk_at dksX4_lays_5 12 rfl rfl)
theorem dX4_lays_130 : decode cX4_lays 130 = .ok (.getfield 25, 3) := dk_180 0 25 (dk_at dksX4_lays_5 13 rfl rfl)
theorem dX4_lays_133 : decode cX4_lays 133 = .ok (.iload_n 1, 1) := dk_27 (dk_at dksX4_lays_5 16 rfl rfl)
theorem dX4_lays_134 : decode cX4_lays 134 = .ok (.iload 7, 2) := dk_21 7 (dk_at dksX4_lays_5 17 rfl rfl)
theorem dX4_lays_136 : decode cX4_lays 136 = .ok (.ifCond .ne 8, 3) := dk_154 0 8 (dk_at dksX4_lays_5 19 rfl rfl)
theorem dX4_lays_139 : decode cX4_lays 139 = .ok (.bipush 114, 2) := dk_16 114 (dk_at dksX4_lays_5 22 rfl rfl)
theorem dX4_lays_141 : decode cX4_lays 141 = .ok (.goto 27, 3) := dk_167 0 27 (dk_at dksX4_lays_6 0 rfl rfl)
theorem dX4_lays_144 : decode cX4_lays 144 = .ok (.iload 7, 2) := dk_21 7 (dk_at dksX4_lays_6 3 rfl rfl)
theorem dX4_lays_146 : decode cX4_lays 146 = .ok (.iconst 1, 1) := dk_4 (dk_at dksX4_lays_6 5 rfl rfl)
theorem dX4_lays_147 : decode cX4_lays 147 = .ok (.if_icmp .ne 8, 3) := dk_160 0 8 (dk_at dksX4_lays_6 6 rfl rfl)
theorem dX4_lays_150 : decode cX4_lays 150 = .ok (.bipush 108, 2) := dk_16 108 (dk_at dksX4_lays_6 9 rfl rfl)
theorem dX4_lays_152 : decode cX4_lays 152 = .ok (.goto 16, 3) := dk_167 0 16 (dk_at dksX4_lays_6 11 rfl rfl)
theorem dX4_lays_155 : decode cX4_lays 155 = .ok (.iload 7, 2) := dk_21 7 (dk_at dksX4_lays_6 14 rfl rfl)
theorem dX4_lays_157 : decode cX4_lays 157 = .ok (.iconst 2, 1) := dk_5 (dk_at dksX4_lays_6 16 rfl rfl)
theorem dX4_lays_158 : decode cX4_lays 158 = .ok (.if_icmp .ne 8, 3) := dk_160 0 8 (dk_at dksX4_lays_6 17 rfl rfl)
theorem dX4_lays_161 : decode cX4_lays 161 = .ok (.bipush 97, 2) := dk_16 97 (dk_at dksX4_lays_6 20 rfl rfl)
theorem dX4_lays_163 : decode cX4_lays 163 = .ok (.goto 5, 3) := dk_167 0 5 (dk_at dksX4_lays_7 0 rfl rfl)
theorem dX4_lays_166 : decode cX4_lays 166 = .ok (.bipush 98, 2) := dk_16 98 (dk_at dksX4_lays_7 3 rfl rfl)
theorem dX4_lays_168 : decode cX4_lays 168 = .ok (.castore, 1) := dk_85 (dk_at dksX4_lays_7 5 rfl rfl)
theorem dX4_lays_169 : decode cX4_lays 169 = .ok (.aload_n 0, 1) := dk_42 (dk_at dksX4_lays_7 6 rfl rfl)
theorem dX4_lays_170 : decode cX4_lays 170 = .ok (.getfield 29, 3) := dk_180 0 29 (dk_at dksX4_lays_7 7 rfl rfl)
theorem dX4_lays_173 : decode cX4_lays 173 = .ok (.iload_n 1, 1) := dk_27 (dk_at dksX4_lays_7 10 rfl rfl)
theorem dX4_lays_174 : decode cX4_lays 174 = .ok (.iload 8, 2) := dk_21 8 (dk_at dksX4_lays_7 11 rfl rfl)
theorem dX4_lays_176 : decode cX4_lays 176 = .ok (.iastore, 1) := dk_79 (dk_at dksX4_lays_7 13 rfl rfl)
theorem dX4_lays_177 : decode cX4_lays 177 = .ok (.aload_n 0, 1) := dk_42 (dk_at dksX4_lays_7 14 rfl rfl)
theorem dX4_lays_178 : decode cX4_lays 178 = .ok (.getfield 32, 3) := dk_180 0 32 (dk_at dksX4_lays_7 15 rfl rfl)
theorem dX4_lays_181 : decode cX4_lays 181 = .ok (.iload_n 1, 1) := dk_27 (dk_at dksX4_lays_7 18 rfl rfl)
theorem dX4_lays_182 : decode cX4_lays 182 = .ok (.iload 9, 2) := dk_21 9 (dk_at dksX4_lays_7 19 rfl rfl)
theorem dX4_lays_184 : decode cX4_lays 184 = .ok (.iastore, 1) := dk_79 (dk_at dksX4_lays_7 21 rfl rfl)
theorem dX4_lays_185 : decode cX4_lays 185 = .ok (.iinc 7 (-1), 3) := dk_132 7 255 (dk_at dksX4_lays_8 0 rfl rfl)
theorem dX4_lays_188 : decode cX4_lays 188 = .ok (.goto (-143), 3) := dk_167 255 113 (dk_at dksX4_lays_8 3 rfl rfl)
theorem dX4_lays_191 : decode cX4_lays 191 = .ok (.return_, 1) := dk_177 (dk_at dksX4_lays_8 6 rfl rfl)
abbrev cX4_middle : ByteArray := prog_18_method_67_code
def yX4_middle : MethodName := ⟨RX4, "middle", "(I[I)I"⟩
def dkwX4_middle_2 : List UInt8 := [46, 184, 0, 76, 54, 4, 132, 5, 1, 167, 255, 212, 29, 21, 4, 96, 172]
abbrev dktX4_middle_2 : List UInt8 := dkwX4_middle_2 ++ []
def dkwX4_middle_1 : List UInt8 := [29, 44, 16, 9, 27, 104, 21, 5, 96, 46, 184, 0, 71, 62, 21, 4, 44, 16, 9, 27, 104, 21, 5, 96]
abbrev dktX4_middle_1 : List UInt8 := dkwX4_middle_1 ++ dktX4_middle_2
def dkwX4_middle_0 : List UInt8 := [44, 16, 9, 27, 104, 46, 62, 29, 54, 4, 4, 54, 5, 21, 5, 42, 27, 5, 182, 0, 42, 162, 0, 39]
abbrev dktX4_middle_0 : List UInt8 := dkwX4_middle_0 ++ dktX4_middle_1
theorem dksX4_middle_0 : cX4_middle.data.toList.drop 0 = dktX4_middle_0 := by decide +kernel
theorem dksX4_middle_1 : cX4_middle.data.toList.drop 24 = dktX4_middle_1 := dk_seg dksX4_middle_0 24 rfl rfl
theorem dksX4_middle_2 : cX4_middle.data.toList.drop 48 = dktX4_middle_2 := dk_seg dksX4_middle_1 24 rfl rfl
theorem dX4_middle_0 : decode cX4_middle 0 = .ok (.aload_n 2, 1) := dk_44 (dk_at dksX4_middle_0 0 rfl rfl)
theorem dX4_middle_1 : decode cX4_middle 1 = .ok (.bipush 9, 2) := dk_16 9 (dk_at dksX4_middle_0 1 rfl rfl)
theorem dX4_middle_3 : decode cX4_middle 3 = .ok (.iload_n 1, 1) := dk_27 (dk_at dksX4_middle_0 3 rfl rfl)
theorem dX4_middle_4 : decode cX4_middle 4 = .ok (.imul, 1) := dk_104 (dk_at dksX4_middle_0 4 rfl rfl)
theorem dX4_middle_5 : decode cX4_middle 5 = .ok (.iaload, 1) := dk_46 (dk_at dksX4_middle_0 5 rfl rfl)
theorem dX4_middle_6 : decode cX4_middle 6 = .ok (.istore_n 3, 1) := dk_62 (dk_at dksX4_middle_0 6 rfl rfl)
theorem dX4_middle_7 : decode cX4_middle 7 = .ok (.iload_n 3, 1) := dk_29 (dk_at dksX4_middle_0 7 rfl rfl)
theorem dX4_middle_8 : decode cX4_middle 8 = .ok (.istore 4, 2) := dk_54 4 (dk_at dksX4_middle_0 8 rfl rfl)
theorem dX4_middle_10 : decode cX4_middle 10 = .ok (.iconst 1, 1) := dk_4 (dk_at dksX4_middle_0 10 rfl rfl)
theorem dX4_middle_11 : decode cX4_middle 11 = .ok (.istore 5, 2) := dk_54 5 (dk_at dksX4_middle_0 11 rfl rfl)
theorem dX4_middle_13 : decode cX4_middle 13 = .ok (.iload 5, 2) := dk_21 5 (dk_at dksX4_middle_0 13 rfl rfl)
theorem dX4_middle_15 : decode cX4_middle 15 = .ok (.aload_n 0, 1) := dk_42 (dk_at dksX4_middle_0 15 rfl rfl)
theorem dX4_middle_16 : decode cX4_middle 16 = .ok (.iload_n 1, 1) := dk_27 (dk_at dksX4_middle_0 16 rfl rfl)
theorem dX4_middle_17 : decode cX4_middle 17 = .ok (.iconst 2, 1) := dk_5 (dk_at dksX4_middle_0 17 rfl rfl)
theorem dX4_middle_18 : decode cX4_middle 18 = .ok (.invokevirtual 42, 3) := dk_182 0 42 (dk_at dksX4_middle_0 18 rfl rfl)
theorem dX4_middle_21 : decode cX4_middle 21 = .ok (.if_icmp .ge 39, 3) := dk_162 0 39 (dk_at dksX4_middle_0 21 rfl rfl)
theorem dX4_middle_24 : decode cX4_middle 24 = .ok (.iload_n 3, 1) := dk_29 (dk_at dksX4_middle_1 0 rfl rfl)
theorem dX4_middle_25 : decode cX4_middle 25 = .ok (.aload_n 2, 1) := dk_44 (dk_at dksX4_middle_1 1 rfl rfl)
theorem dX4_middle_26 : decode cX4_middle 26 = .ok (.bipush 9, 2) := dk_16 9 (dk_at dksX4_middle_1 2 rfl rfl)
theorem dX4_middle_28 : decode cX4_middle 28 = .ok (.iload_n 1, 1) := dk_27 (dk_at dksX4_middle_1 4 rfl rfl)
theorem dX4_middle_29 : decode cX4_middle 29 = .ok (.imul, 1) := dk_104 (dk_at dksX4_middle_1 5 rfl rfl)
theorem dX4_middle_30 : decode cX4_middle 30 = .ok (.iload 5, 2) := dk_21 5 (dk_at dksX4_middle_1 6 rfl rfl)
theorem dX4_middle_32 : decode cX4_middle 32 = .ok (.iadd, 1) := dk_96 (dk_at dksX4_middle_1 8 rfl rfl)
theorem dX4_middle_33 : decode cX4_middle 33 = .ok (.iaload, 1) := dk_46 (dk_at dksX4_middle_1 9 rfl rfl)
theorem dX4_middle_34 : decode cX4_middle 34 = .ok (.invokestatic 71, 3) := dk_184 0 71 (dk_at dksX4_middle_1 10 rfl rfl)
theorem dX4_middle_37 : decode cX4_middle 37 = .ok (.istore_n 3, 1) := dk_62 (dk_at dksX4_middle_1 13 rfl rfl)
theorem dX4_middle_38 : decode cX4_middle 38 = .ok (.iload 4, 2) := dk_21 4 (dk_at dksX4_middle_1 14 rfl rfl)
theorem dX4_middle_40 : decode cX4_middle 40 = .ok (.aload_n 2, 1) := dk_44 (dk_at dksX4_middle_1 16 rfl rfl)
theorem dX4_middle_41 : decode cX4_middle 41 = .ok (.bipush 9, 2) := dk_16 9 (dk_at dksX4_middle_1 17 rfl rfl)
theorem dX4_middle_43 : decode cX4_middle 43 = .ok (.iload_n 1, 1) := dk_27 (dk_at dksX4_middle_1 19 rfl rfl)
theorem dX4_middle_44 : decode cX4_middle 44 = .ok (.imul, 1) := dk_104 (dk_at dksX4_middle_1 20 rfl rfl)
theorem dX4_middle_45 : decode cX4_middle 45 = .ok (.iload 5, 2) := dk_21 5 (dk_at dksX4_middle_1 21 rfl rfl)
theorem dX4_middle_47 : decode cX4_middle 47 = .ok (.iadd, 1) := dk_96 (dk_at dksX4_middle_1 23 rfl rfl)
theorem dX4_middle_48 : decode cX4_middle 48 = .ok (.iaload, 1) := dk_46 (dk_at dksX4_middle_2 0 rfl rfl)
theorem dX4_middle_49 : decode cX4_middle 49 = .ok (.invokestatic 76, 3) := dk_184 0 76 (dk_at dksX4_middle_2 1 rfl rfl)
theorem dX4_middle_52 : decode cX4_middle 52 = .ok (.istore 4, 2) := dk_54 4 (dk_at dksX4_middle_2 4 rfl rfl)
theorem dX4_middle_54 : decode cX4_middle 54 = .ok (.iinc 5 1, 3) := dk_132 5 1 (dk_at dksX4_middle_2 6 rfl rfl)
theorem dX4_middle_57 : decode cX4_middle 57 = .ok (.goto (-44), 3) := dk_167 255 212 (dk_at dksX4_middle_2 9 rfl rfl)
theorem dX4_middle_60 : decode cX4_middle 60 = .ok (.iload_n 3, 1) := dk_29 (dk_at dksX4_middle_2 12 rfl rfl)
theorem dX4_middle_61 : decode cX4_middle 61 = .ok (.iload 4, 2) := dk_21 4 (dk_at dksX4_middle_2 13 rfl rfl)
theorem dX4_middle_63 : decode cX4_middle 63 = .ok (.iadd, 1) := dk_96 (dk_at dksX4_middle_2 15 rfl rfl)
theorem dX4_middle_64 : decode cX4_middle 64 = .ok (.ireturn, 1) := dk_172 (dk_at dksX4_middle_2 16 rfl rfl)
abbrev cX4_mayBe : ByteArray := prog_18_method_68_code
def yX4_mayBe : MethodName := ⟨RX4, "mayBe", "(IIIII)Z"⟩
def dkwX4_mayBe_8 : List UInt8 := [167, 0, 4, 3, 54, 7, 132, 8, 1, 167, 255, 115, 21, 7, 172]
abbrev dktX4_mayBe_8 : List UInt8 := dkwX4_mayBe_8 ++ []
def dkwX4_mayBe_7 : List UInt8 := [167, 0, 4, 3, 54, 10, 21, 7, 153, 0, 17, 21, 9, 153, 0, 8, 21, 10, 153, 0, 7, 4]
abbrev dktX4_mayBe_7 : List UInt8 := dkwX4_mayBe_7 ++ dktX4_mayBe_8
def dkwX4_mayBe_6 : List UInt8 := [104, 96, 162, 0, 19, 42, 180, 0, 32, 21, 8, 46, 29, 5, 21, 4, 104, 96, 161, 0, 7, 4]
abbrev dktX4_mayBe_6 : List UInt8 := dkwX4_mayBe_6 ++ dktX4_mayBe_7
def dkwX4_mayBe_5 : List UInt8 := [180, 0, 29, 21, 8, 46, 28, 21, 6, 96, 162, 0, 35, 29, 42, 180, 0, 32, 21, 8, 46, 5, 21, 4]
abbrev dktX4_mayBe_5 : List UInt8 := dkwX4_mayBe_5 ++ dktX4_mayBe_6
def dkwX4_mayBe_4 : List UInt8 := [180, 0, 29, 21, 8, 46, 5, 21, 4, 104, 42, 21, 8, 8, 182, 0, 42, 104, 96, 162, 0, 49, 42]
abbrev dktX4_mayBe_4 : List UInt8 := dkwX4_mayBe_4 ++ dktX4_mayBe_5
def dkwX4_mayBe_3 : List UInt8 := [160, 0, 19, 42, 180, 0, 25, 21, 8, 52, 16, 45, 159, 0, 7, 4, 167, 0, 4, 3, 54, 9, 28, 42]
abbrev dktX4_mayBe_3 : List UInt8 := dkwX4_mayBe_3 ++ dktX4_mayBe_4
def dkwX4_mayBe_2 : List UInt8 := [54, 7, 3, 54, 8, 21, 8, 42, 180, 0, 39, 162, 0, 138, 21, 5, 21, 8, 122, 4, 126, 4]
abbrev dktX4_mayBe_2 : List UInt8 := dkwX4_mayBe_2 ++ dktX4_mayBe_3
def dkwX4_mayBe_1 : List UInt8 := [96, 17, 0, 128, 163, 0, 19, 29, 5, 21, 4, 104, 96, 17, 0, 128, 163, 0, 7, 4, 167, 0, 4, 3]
abbrev dktX4_mayBe_1 : List UInt8 := dkwX4_mayBe_1 ++ dktX4_mayBe_2
def dkwX4_mayBe_0 : List UInt8 := [5, 21, 4, 104, 42, 27, 8, 182, 0, 42, 104, 54, 6, 28, 155, 0, 33, 29, 155, 0, 29, 28, 21, 6]
abbrev dktX4_mayBe_0 : List UInt8 := dkwX4_mayBe_0 ++ dktX4_mayBe_1
theorem dksX4_mayBe_0 : cX4_mayBe.data.toList.drop 0 = dktX4_mayBe_0 := by decide +kernel
theorem dksX4_mayBe_1 : cX4_mayBe.data.toList.drop 24 = dktX4_mayBe_1 := dk_seg dksX4_mayBe_0 24 rfl rfl
theorem dksX4_mayBe_2 : cX4_mayBe.data.toList.drop 48 = dktX4_mayBe_2 := dk_seg dksX4_mayBe_1 24 rfl rfl
theorem dksX4_mayBe_3 : cX4_mayBe.data.toList.drop 70 = dktX4_mayBe_3 := dk_seg dksX4_mayBe_2 22 rfl rfl
theorem dksX4_mayBe_4 : cX4_mayBe.data.toList.drop 94 = dktX4_mayBe_4 := dk_seg dksX4_mayBe_3 24 rfl rfl
theorem dksX4_mayBe_5 : cX4_mayBe.data.toList.drop 117 = dktX4_mayBe_5 := dk_seg dksX4_mayBe_4 23 rfl rfl
theorem dksX4_mayBe_6 : cX4_mayBe.data.toList.drop 141 = dktX4_mayBe_6 := dk_seg dksX4_mayBe_5 24 rfl rfl
theorem dksX4_mayBe_7 : cX4_mayBe.data.toList.drop 163 = dktX4_mayBe_7 := dk_seg dksX4_mayBe_6 22 rfl rfl
theorem dksX4_mayBe_8 : cX4_mayBe.data.toList.drop 185 = dktX4_mayBe_8 := dk_seg dksX4_mayBe_7 22 rfl rfl
theorem dX4_mayBe_0 : decode cX4_mayBe 0 = .ok (.iconst 2, 1) := dk_5 (dk_at dksX4_mayBe_0 0 rfl rfl)
theorem dX4_mayBe_1 : decode cX4_mayBe 1 = .ok (.iload 4, 2) := dk_21 4 (dk_at dksX4_mayBe_0 1 rfl rfl)
theorem dX4_mayBe_3 : decode cX4_mayBe 3 = .ok (.imul, 1) := dk_104 (dk_at dksX4_mayBe_0 3 rfl rfl)
theorem dX4_mayBe_4 : decode cX4_mayBe 4 = .ok (.aload_n 0, 1) := dk_42 (dk_at dksX4_mayBe_0 4 rfl rfl)
theorem dX4_mayBe_5 : decode cX4_mayBe 5 = .ok (.iload_n 1, 1) := dk_27 (dk_at dksX4_mayBe_0 5 rfl rfl)
theorem dX4_mayBe_6 : decode cX4_mayBe 6 = .ok (.iconst 5, 1) := dk_8 (dk_at dksX4_mayBe_0 6 rfl rfl)
theorem dX4_mayBe_7 : decode cX4_mayBe 7 = .ok (.invokevirtual 42, 3) := dk_182 0 42 (dk_at dksX4_mayBe_0 7 rfl rfl)
theorem dX4_mayBe_10 : decode cX4_mayBe 10 = .ok (.imul, 1) := dk_104 (dk_at dksX4_mayBe_0 10 rfl rfl)
theorem dX4_mayBe_11 : decode cX4_mayBe 11 = .ok (.istore 6, 2) := dk_54 6 (dk_at dksX4_mayBe_0 11 rfl rfl)
theorem dX4_mayBe_13 : decode cX4_mayBe 13 = .ok (.iload_n 2, 1) := dk_28 (dk_at dksX4_mayBe_0 13 rfl rfl)
theorem dX4_mayBe_14 : decode cX4_mayBe 14 = .ok (.ifCond .lt 33, 3) := dk_155 0 33 (dk_at dksX4_mayBe_0 14 rfl rfl)
theorem dX4_mayBe_17 : decode cX4_mayBe 17 = .ok (.iload_n 3, 1) := dk_29 (dk_at dksX4_mayBe_0 17 rfl rfl)
theorem dX4_mayBe_18 : decode cX4_mayBe 18 = .ok (.ifCond .lt 29, 3) := dk_155 0 29 (dk_at dksX4_mayBe_0 18 rfl rfl)
theorem dX4_mayBe_21 : decode cX4_mayBe 21 = .ok (.iload_n 2, 1) := dk_28 (dk_at dksX4_mayBe_0 21 rfl rfl)
theorem dX4_mayBe_22 : decode cX4_mayBe 22 = .ok (.iload 6, 2) := dk_21 6 (dk_at dksX4_mayBe_0 22 rfl rfl)
theorem dX4_mayBe_24 : decode cX4_mayBe 24 = .ok (.iadd, 1) := dk_96 (dk_at dksX4_mayBe_1 0 rfl rfl)
theorem dX4_mayBe_25 : decode cX4_mayBe 25 = .ok (.sipush 128, 3) := dk_17 0 128 (dk_at dksX4_mayBe_1 1 rfl rfl)
theorem dX4_mayBe_28 : decode cX4_mayBe 28 = .ok (.if_icmp .gt 19, 3) := dk_163 0 19 (dk_at dksX4_mayBe_1 4 rfl rfl)
theorem dX4_mayBe_31 : decode cX4_mayBe 31 = .ok (.iload_n 3, 1) := dk_29 (dk_at dksX4_mayBe_1 7 rfl rfl)
theorem dX4_mayBe_32 : decode cX4_mayBe 32 = .ok (.iconst 2, 1) := dk_5 (dk_at dksX4_mayBe_1 8 rfl rfl)
theorem dX4_mayBe_33 : decode cX4_mayBe 33 = .ok (.iload 4, 2) := dk_21 4 (dk_at dksX4_mayBe_1 9 rfl rfl)
theorem dX4_mayBe_35 : decode cX4_mayBe 35 = .ok (.imul, 1) := dk_104 (dk_at dksX4_mayBe_1 11 rfl rfl)
theorem dX4_mayBe_36 : decode cX4_mayBe 36 = .ok (.iadd, 1) := dk_96 (dk_at dksX4_mayBe_1 12 rfl rfl)
theorem dX4_mayBe_37 : decode cX4_mayBe 37 = .ok (.sipush 128, 3) := dk_17 0 128 (dk_at dksX4_mayBe_1 13 rfl rfl)
theorem dX4_mayBe_40 : decode cX4_mayBe 40 = .ok (.if_icmp .gt 7, 3) := dk_163 0 7 (dk_at dksX4_mayBe_1 16 rfl rfl)
theorem dX4_mayBe_43 : decode cX4_mayBe 43 = .ok (.iconst 1, 1) := dk_4 (dk_at dksX4_mayBe_1 19 rfl rfl)
theorem dX4_mayBe_44 : decode cX4_mayBe 44 = .ok (.goto 4, 3) := dk_167 0 4 (dk_at dksX4_mayBe_1 20 rfl rfl)
theorem dX4_mayBe_47 : decode cX4_mayBe 47 = .ok (.iconst 0, 1) := dk_3 (dk_at dksX4_mayBe_1 23 rfl rfl)
theorem dX4_mayBe_48 : decode cX4_mayBe 48 = .ok (.istore 7, 2) := dk_54 7 (dk_at dksX4_mayBe_2 0 rfl rfl)
theorem dX4_mayBe_50 : decode cX4_mayBe 50 = .ok (.iconst 0, 1) := dk_3 (dk_at dksX4_mayBe_2 2 rfl rfl)
theorem dX4_mayBe_51 : decode cX4_mayBe 51 = .ok (.istore 8, 2) := dk_54 8 (dk_at dksX4_mayBe_2 3 rfl rfl)
theorem dX4_mayBe_53 : decode cX4_mayBe 53 = .ok (.iload 8, 2) := dk_21 8 (dk_at dksX4_mayBe_2 5 rfl rfl)
theorem dX4_mayBe_55 : decode cX4_mayBe 55 = .ok (.aload_n 0, 1) := dk_42 (dk_at dksX4_mayBe_2 7 rfl rfl)
theorem dX4_mayBe_56 : decode cX4_mayBe 56 = .ok (.getfield 39, 3) := dk_180 0 39 (dk_at dksX4_mayBe_2 8 rfl rfl)
theorem dX4_mayBe_59 : decode cX4_mayBe 59 = .ok (.if_icmp .ge 138, 3) := dk_162 0 138 (dk_at dksX4_mayBe_2 11 rfl rfl)
theorem dX4_mayBe_62 : decode cX4_mayBe 62 = .ok (.iload 5, 2) := dk_21 5 (dk_at dksX4_mayBe_2 14 rfl rfl)
theorem dX4_mayBe_64 : decode cX4_mayBe 64 = .ok (.iload 8, 2) := dk_21 8 (dk_at dksX4_mayBe_2 16 rfl rfl)
theorem dX4_mayBe_66 : decode cX4_mayBe 66 = .ok (.ishr, 1) := dk_122 (dk_at dksX4_mayBe_2 18 rfl rfl)
theorem dX4_mayBe_67 : decode cX4_mayBe 67 = .ok (.iconst 1, 1) := dk_4 (dk_at dksX4_mayBe_2 19 rfl rfl)
theorem dX4_mayBe_68 : decode cX4_mayBe 68 = .ok (.iand, 1) := dk_126 (dk_at dksX4_mayBe_2 20 rfl rfl)
theorem dX4_mayBe_69 : decode cX4_mayBe 69 = .ok (.iconst 1, 1) := dk_4 (dk_at dksX4_mayBe_2 21 rfl rfl)
theorem dX4_mayBe_70 : decode cX4_mayBe 70 = .ok (.if_icmp .ne 19, 3) := dk_160 0 19 (dk_at dksX4_mayBe_3 0 rfl rfl)
theorem dX4_mayBe_73 : decode cX4_mayBe 73 = .ok (.aload_n 0, 1) := dk_42 (dk_at dksX4_mayBe_3 3 rfl rfl)
theorem dX4_mayBe_74 : decode cX4_mayBe 74 = .ok (.getfield 25, 3) := dk_180 0 25 (dk_at dksX4_mayBe_3 4 rfl rfl)
theorem dX4_mayBe_77 : decode cX4_mayBe 77 = .ok (.iload 8, 2) := dk_21 8 (dk_at dksX4_mayBe_3 7 rfl rfl)
theorem dX4_mayBe_79 : decode cX4_mayBe 79 = .ok (.caload, 1) := dk_52 (dk_at dksX4_mayBe_3 9 rfl rfl)
theorem dX4_mayBe_80 : decode cX4_mayBe 80 = .ok (.bipush 45, 2) := dk_16 45 (dk_at dksX4_mayBe_3 10 rfl rfl)
theorem dX4_mayBe_82 : decode cX4_mayBe 82 = .ok (.if_icmp .eq 7, 3) := dk_159 0 7 (dk_at dksX4_mayBe_3 12 rfl rfl)
theorem dX4_mayBe_85 : decode cX4_mayBe 85 = .ok (.iconst 1, 1) := dk_4 (dk_at dksX4_mayBe_3 15 rfl rfl)
theorem dX4_mayBe_86 : decode cX4_mayBe 86 = .ok (.goto 4, 3) := dk_167 0 4 (dk_at dksX4_mayBe_3 16 rfl rfl)
theorem dX4_mayBe_89 : decode cX4_mayBe 89 = .ok (.iconst 0, 1) := dk_3 (dk_at dksX4_mayBe_3 19 rfl rfl)
theorem dX4_mayBe_90 : decode cX4_mayBe 90 = .ok (.istore 9, 2) := dk_54 9 (dk_at dksX4_mayBe_3 20 rfl rfl)
theorem dX4_mayBe_92 : decode cX4_mayBe 92 = .ok (.iload_n 2, 1) := dk_28 (dk_at dksX4_mayBe_3 22 rfl rfl)
theorem dX4_mayBe_93 : decode cX4_mayBe 93 = .ok (.aload_n 0, 1) := dk_42 (dk_at dksX4_mayBe_3 23 rfl rfl)
theorem dX4_mayBe_94 : decode cX4_mayBe 94 = .ok (.getfield 29, 3) := dk_180 0 29 (dk_at dksX4_mayBe_4 0 rfl rfl)
theorem dX4_mayBe_97 : decode cX4_mayBe 97 = .ok (.iload 8, 2) := dk_21 8 (dk_at dksX4_mayBe_4 3 rfl rfl)
theorem dX4_mayBe_99 : decode cX4_mayBe 99 = .ok (.iaload, 1) := dk_46 (dk_at dksX4_mayBe_4 5 rfl rfl)
theorem dX4_mayBe_100 : decode cX4_mayBe 100 = .ok (.iconst 2, 1) := dk_5 (dk_at dksX4_mayBe_4 6 rfl rfl)
theorem dX4_mayBe_101 : decode cX4_mayBe 101 = .ok (.iload 4, 2) := dk_21 4 (dk_at dksX4_mayBe_4 7 rfl rfl)
theorem dX4_mayBe_103 : decode cX4_mayBe 103 = .ok (.imul, 1) := dk_104 (dk_at dksX4_mayBe_4 9 rfl rfl)
theorem dX4_mayBe_104 : decode cX4_mayBe 104 = .ok (.aload_n 0, 1) := dk_42 (dk_at dksX4_mayBe_4 10 rfl rfl)
theorem dX4_mayBe_105 : decode cX4_mayBe 105 = .ok (.iload 8, 2) := dk_21 8 (dk_at dksX4_mayBe_4 11 rfl rfl)
theorem dX4_mayBe_107 : decode cX4_mayBe 107 = .ok (.iconst 5, 1) := dk_8 (dk_at dksX4_mayBe_4 13 rfl rfl)
theorem dX4_mayBe_108 : decode cX4_mayBe 108 = .ok (.invokevirtual 42, 3) := dk_182 0 42 (dk_at dksX4_mayBe_4 14 rfl rfl)
theorem dX4_mayBe_111 : decode cX4_mayBe 111 = .ok (.imul, 1) := dk_104 (dk_at dksX4_mayBe_4 17 rfl rfl)
theorem dX4_mayBe_112 : decode cX4_mayBe 112 = .ok (.iadd, 1) := dk_96 (dk_at dksX4_mayBe_4 18 rfl rfl)
theorem dX4_mayBe_113 : decode cX4_mayBe 113 = .ok (.if_icmp .ge 49, 3) := dk_162 0 49 (dk_at dksX4_mayBe_4 19 rfl rfl)
theorem dX4_mayBe_116 : decode cX4_mayBe 116 = .ok (.aload_n 0, 1) := dk_42 (dk_at dksX4_mayBe_4 22 rfl rfl)
theorem dX4_mayBe_117 : decode cX4_mayBe 117 = .ok (.getfield 29, 3) := dk_180 0 29 (dk_at dksX4_mayBe_5 0 rfl rfl)
theorem dX4_mayBe_120 : decode cX4_mayBe 120 = .ok (.iload 8, 2) := dk_21 8 (dk_at dksX4_mayBe_5 3 rfl rfl)
theorem dX4_mayBe_122 : decode cX4_mayBe 122 = .ok (.iaload, 1) := dk_46 (dk_at dksX4_mayBe_5 5 rfl rfl)
theorem dX4_mayBe_123 : decode cX4_mayBe 123 = .ok (.iload_n 2, 1) := dk_28 (dk_at dksX4_mayBe_5 6 rfl rfl)
theorem dX4_mayBe_124 : decode cX4_mayBe 124 = .ok (.iload 6, 2) := dk_21 6 (dk_at dksX4_mayBe_5 7 rfl rfl)
theorem dX4_mayBe_126 : decode cX4_mayBe 126 = .ok (.iadd, 1) := dk_96 (dk_at dksX4_mayBe_5 9 rfl rfl)
theorem dX4_mayBe_127 : decode cX4_mayBe 127 = .ok (.if_icmp .ge 35, 3) := dk_162 0 35 (dk_at dksX4_mayBe_5 10 rfl rfl)
theorem dX4_mayBe_130 : decode cX4_mayBe 130 = .ok (.iload_n 3, 1) := dk_29 (dk_at dksX4_mayBe_5 13 rfl rfl)
theorem dX4_mayBe_131 : decode cX4_mayBe 131 = .ok (.aload_n 0, 1) := dk_42 (dk_at dksX4_mayBe_5 14 rfl rfl)
theorem dX4_mayBe_132 : decode cX4_mayBe 132 = .ok (.getfield 32, 3) := dk_180 0 32 (dk_at dksX4_mayBe_5 15 rfl rfl)
theorem dX4_mayBe_135 : decode cX4_mayBe 135 = .ok (.iload 8, 2) := dk_21 8 (dk_at dksX4_mayBe_5 18 rfl rfl)
theorem dX4_mayBe_137 : decode cX4_mayBe 137 = .ok (.iaload, 1) := dk_46 (dk_at dksX4_mayBe_5 20 rfl rfl)
theorem dX4_mayBe_138 : decode cX4_mayBe 138 = .ok (.iconst 2, 1) := dk_5 (dk_at dksX4_mayBe_5 21 rfl rfl)
theorem dX4_mayBe_139 : decode cX4_mayBe 139 = .ok (.iload 4, 2) := dk_21 4 (dk_at dksX4_mayBe_5 22 rfl rfl)
theorem dX4_mayBe_141 : decode cX4_mayBe 141 = .ok (.imul, 1) := dk_104 (dk_at dksX4_mayBe_6 0 rfl rfl)
theorem dX4_mayBe_142 : decode cX4_mayBe 142 = .ok (.iadd, 1) := dk_96 (dk_at dksX4_mayBe_6 1 rfl rfl)
theorem dX4_mayBe_143 : decode cX4_mayBe 143 = .ok (.if_icmp .ge 19, 3) := dk_162 0 19 (dk_at dksX4_mayBe_6 2 rfl rfl)
theorem dX4_mayBe_146 : decode cX4_mayBe 146 = .ok (.aload_n 0, 1) := dk_42 (dk_at dksX4_mayBe_6 5 rfl rfl)
theorem dX4_mayBe_147 : decode cX4_mayBe 147 = .ok (.getfield 32, 3) := dk_180 0 32 (dk_at dksX4_mayBe_6 6 rfl rfl)
theorem dX4_mayBe_150 : decode cX4_mayBe 150 = .ok (.iload 8, 2) := dk_21 8 (dk_at dksX4_mayBe_6 9 rfl rfl)
theorem dX4_mayBe_152 : decode cX4_mayBe 152 = .ok (.iaload, 1) := dk_46 (dk_at dksX4_mayBe_6 11 rfl rfl)
theorem dX4_mayBe_153 : decode cX4_mayBe 153 = .ok (.iload_n 3, 1) := dk_29 (dk_at dksX4_mayBe_6 12 rfl rfl)
theorem dX4_mayBe_154 : decode cX4_mayBe 154 = .ok (.iconst 2, 1) := dk_5 (dk_at dksX4_mayBe_6 13 rfl rfl)
theorem dX4_mayBe_155 : decode cX4_mayBe 155 = .ok (.iload 4, 2) := dk_21 4 (dk_at dksX4_mayBe_6 14 rfl rfl)
theorem dX4_mayBe_157 : decode cX4_mayBe 157 = .ok (.imul, 1) := dk_104 (dk_at dksX4_mayBe_6 16 rfl rfl)
theorem dX4_mayBe_158 : decode cX4_mayBe 158 = .ok (.iadd, 1) := dk_96 (dk_at dksX4_mayBe_6 17 rfl rfl)
theorem dX4_mayBe_159 : decode cX4_mayBe 159 = .ok (.if_icmp .lt 7, 3) := dk_161 0 7 (dk_at dksX4_mayBe_6 18 rfl rfl)
theorem dX4_mayBe_162 : decode cX4_mayBe 162 = .ok (.iconst 1, 1) := dk_4 (dk_at dksX4_mayBe_6 21 rfl rfl)
theorem dX4_mayBe_163 : decode cX4_mayBe 163 = .ok (.goto 4, 3) := dk_167 0 4 (dk_at dksX4_mayBe_7 0 rfl rfl)
theorem dX4_mayBe_166 : decode cX4_mayBe 166 = .ok (.iconst 0, 1) := dk_3 (dk_at dksX4_mayBe_7 3 rfl rfl)
theorem dX4_mayBe_167 : decode cX4_mayBe 167 = .ok (.istore 10, 2) := dk_54 10 (dk_at dksX4_mayBe_7 4 rfl rfl)
theorem dX4_mayBe_169 : decode cX4_mayBe 169 = .ok (.iload 7, 2) := dk_21 7 (dk_at dksX4_mayBe_7 6 rfl rfl)
theorem dX4_mayBe_171 : decode cX4_mayBe 171 = .ok (.ifCond .eq 17, 3) := dk_153 0 17 (dk_at dksX4_mayBe_7 8 rfl rfl)
theorem dX4_mayBe_174 : decode cX4_mayBe 174 = .ok (.iload 9, 2) := dk_21 9 (dk_at dksX4_mayBe_7 11 rfl rfl)
theorem dX4_mayBe_176 : decode cX4_mayBe 176 = .ok (.ifCond .eq 8, 3) := dk_153 0 8 (dk_at dksX4_mayBe_7 13 rfl rfl)
theorem dX4_mayBe_179 : decode cX4_mayBe 179 = .ok (.iload 10, 2) := dk_21 10 (dk_at dksX4_mayBe_7 16 rfl rfl)
theorem dX4_mayBe_181 : decode cX4_mayBe 181 = .ok (.ifCond .eq 7, 3) := dk_153 0 7 (dk_at dksX4_mayBe_7 18 rfl rfl)
theorem dX4_mayBe_184 : decode cX4_mayBe 184 = .ok (.iconst 1, 1) := dk_4 (dk_at dksX4_mayBe_7 21 rfl rfl)
theorem dX4_mayBe_185 : decode cX4_mayBe 185 = .ok (.goto 4, 3) := dk_167 0 4 (dk_at dksX4_mayBe_8 0 rfl rfl)
theorem dX4_mayBe_188 : decode cX4_mayBe 188 = .ok (.iconst 0, 1) := dk_3 (dk_at dksX4_mayBe_8 3 rfl rfl)
theorem dX4_mayBe_189 : decode cX4_mayBe 189 = .ok (.istore 7, 2) := dk_54 7 (dk_at dksX4_mayBe_8 4 rfl rfl)
theorem dX4_mayBe_191 : decode cX4_mayBe 191 = .ok (.iinc 8 1, 3) := dk_132 8 1 (dk_at dksX4_mayBe_8 6 rfl rfl)
theorem dX4_mayBe_194 : decode cX4_mayBe 194 = .ok (.goto (-141), 3) := dk_167 255 115 (dk_at dksX4_mayBe_8 9 rfl rfl)
theorem dX4_mayBe_197 : decode cX4_mayBe 197 = .ok (.iload 7, 2) := dk_21 7 (dk_at dksX4_mayBe_8 12 rfl rfl)
theorem dX4_mayBe_199 : decode cX4_mayBe 199 = .ok (.ireturn, 1) := dk_172 (dk_at dksX4_mayBe_8 14 rfl rfl)
abbrev cX4_labelLeft : ByteArray := prog_18_method_74_code
def yX4_labelLeft : MethodName := ⟨RX4, "labelLeft", "(II)I"⟩
def dkwX4_labelLeft_0 : List UInt8 := [42, 27, 28, 182, 0, 230, 153, 0, 16, 42, 180, 0, 29, 42, 27, 182, 0, 138, 46, 167, 0, 4, 2, 172]
abbrev dktX4_labelLeft_0 : List UInt8 := dkwX4_labelLeft_0 ++ []
theorem dksX4_labelLeft_0 : cX4_labelLeft.data.toList.drop 0 = dktX4_labelLeft_0 := by decide +kernel
theorem dX4_labelLeft_0 : decode cX4_labelLeft 0 = .ok (.aload_n 0, 1) := dk_42 (dk_at dksX4_labelLeft_0 0 rfl rfl)
theorem dX4_labelLeft_1 : decode cX4_labelLeft 1 = .ok (.iload_n 1, 1) := dk_27 (dk_at dksX4_labelLeft_0 1 rfl rfl)
theorem dX4_labelLeft_2 : decode cX4_labelLeft 2 = .ok (.iload_n 2, 1) := dk_28 (dk_at dksX4_labelLeft_0 2 rfl rfl)
theorem dX4_labelLeft_3 : decode cX4_labelLeft 3 = .ok (.invokevirtual 230, 3) := dk_182 0 230 (dk_at dksX4_labelLeft_0 3 rfl rfl)
theorem dX4_labelLeft_6 : decode cX4_labelLeft 6 = .ok (.ifCond .eq 16, 3) := dk_153 0 16 (dk_at dksX4_labelLeft_0 6 rfl rfl)
theorem dX4_labelLeft_9 : decode cX4_labelLeft 9 = .ok (.aload_n 0, 1) := dk_42 (dk_at dksX4_labelLeft_0 9 rfl rfl)
theorem dX4_labelLeft_10 : decode cX4_labelLeft 10 = .ok (.getfield 29, 3) := dk_180 0 29 (dk_at dksX4_labelLeft_0 10 rfl rfl)
theorem dX4_labelLeft_13 : decode cX4_labelLeft 13 = .ok (.aload_n 0, 1) := dk_42 (dk_at dksX4_labelLeft_0 13 rfl rfl)
theorem dX4_labelLeft_14 : decode cX4_labelLeft 14 = .ok (.iload_n 1, 1) := dk_27 (dk_at dksX4_labelLeft_0 14 rfl rfl)
theorem dX4_labelLeft_15 : decode cX4_labelLeft 15 = .ok (.invokevirtual 138, 3) := dk_182 0 138 (dk_at dksX4_labelLeft_0 15 rfl rfl)
theorem dX4_labelLeft_18 : decode cX4_labelLeft 18 = .ok (.iaload, 1) := dk_46 (dk_at dksX4_labelLeft_0 18 rfl rfl)
theorem dX4_labelLeft_19 : decode cX4_labelLeft 19 = .ok (.goto 4, 3) := dk_167 0 4 (dk_at dksX4_labelLeft_0 19 rfl rfl)
theorem dX4_labelLeft_22 : decode cX4_labelLeft 22 = .ok (.iconst (-1), 1) := dk_2 (dk_at dksX4_labelLeft_0 22 rfl rfl)
theorem dX4_labelLeft_23 : decode cX4_labelLeft 23 = .ok (.ireturn, 1) := dk_172 (dk_at dksX4_labelLeft_0 23 rfl rfl)
abbrev cX4_isShown : ByteArray := prog_18_method_73_code
def yX4_isShown : MethodName := ⟨RX4, "isShown", "(II)Z"⟩
def dkwX4_isShown_1 : List UInt8 := [4, 167, 0, 4, 3, 172]
abbrev dktX4_isShown_1 : List UInt8 := dkwX4_isShown_1 ++ []
def dkwX4_isShown_0 : List UInt8 := [42, 27, 28, 182, 0, 227, 153, 0, 22, 42, 180, 0, 25, 42, 27, 182, 0, 138, 52, 16, 45, 159, 0, 7]
abbrev dktX4_isShown_0 : List UInt8 := dkwX4_isShown_0 ++ dktX4_isShown_1
theorem dksX4_isShown_0 : cX4_isShown.data.toList.drop 0 = dktX4_isShown_0 := by decide +kernel
theorem dksX4_isShown_1 : cX4_isShown.data.toList.drop 24 = dktX4_isShown_1 := dk_seg dksX4_isShown_0 24 rfl rfl
theorem dX4_isShown_0 : decode cX4_isShown 0 = .ok (.aload_n 0, 1) := dk_42 (dk_at dksX4_isShown_0 0 rfl rfl)
theorem dX4_isShown_1 : decode cX4_isShown 1 = .ok (.iload_n 1, 1) := dk_27 (dk_at dksX4_isShown_0 1 rfl rfl)
theorem dX4_isShown_2 : decode cX4_isShown 2 = .ok (.iload_n 2, 1) := dk_28 (dk_at dksX4_isShown_0 2 rfl rfl)
theorem dX4_isShown_3 : decode cX4_isShown 3 = .ok (.invokevirtual 227, 3) := dk_182 0 227 (dk_at dksX4_isShown_0 3 rfl rfl)
theorem dX4_isShown_6 : decode cX4_isShown 6 = .ok (.ifCond .eq 22, 3) := dk_153 0 22 (dk_at dksX4_isShown_0 6 rfl rfl)
theorem dX4_isShown_9 : decode cX4_isShown 9 = .ok (.aload_n 0, 1) := dk_42 (dk_at dksX4_isShown_0 9 rfl rfl)
theorem dX4_isShown_10 : decode cX4_isShown 10 = .ok (.getfield 25, 3) := dk_180 0 25 (dk_at dksX4_isShown_0 10 rfl rfl)
theorem dX4_isShown_13 : decode cX4_isShown 13 = .ok (.aload_n 0, 1) := dk_42 (dk_at dksX4_isShown_0 13 rfl rfl)
theorem dX4_isShown_14 : decode cX4_isShown 14 = .ok (.iload_n 1, 1) := dk_27 (dk_at dksX4_isShown_0 14 rfl rfl)
theorem dX4_isShown_15 : decode cX4_isShown 15 = .ok (.invokevirtual 138, 3) := dk_182 0 138 (dk_at dksX4_isShown_0 15 rfl rfl)
theorem dX4_isShown_18 : decode cX4_isShown 18 = .ok (.caload, 1) := dk_52 (dk_at dksX4_isShown_0 18 rfl rfl)
theorem dX4_isShown_19 : decode cX4_isShown 19 = .ok (.bipush 45, 2) := dk_16 45 (dk_at dksX4_isShown_0 19 rfl rfl)
theorem dX4_isShown_21 : decode cX4_isShown 21 = .ok (.if_icmp .eq 7, 3) := dk_159 0 7 (dk_at dksX4_isShown_0 21 rfl rfl)
theorem dX4_isShown_24 : decode cX4_isShown 24 = .ok (.iconst 1, 1) := dk_4 (dk_at dksX4_isShown_1 0 rfl rfl)
theorem dX4_isShown_25 : decode cX4_isShown 25 = .ok (.goto 4, 3) := dk_167 0 4 (dk_at dksX4_isShown_1 1 rfl rfl)
theorem dX4_isShown_28 : decode cX4_isShown 28 = .ok (.iconst 0, 1) := dk_3 (dk_at dksX4_isShown_1 4 rfl rfl)
theorem dX4_isShown_29 : decode cX4_isShown 29 = .ok (.ireturn, 1) := dk_172 (dk_at dksX4_isShown_1 5 rfl rfl)
abbrev cX4_labelLow : ByteArray := prog_18_method_75_code
def yX4_labelLow : MethodName := ⟨RX4, "labelLow", "(II)I"⟩
def dkwX4_labelLow_0 : List UInt8 := [42, 27, 28, 182, 0, 230, 153, 0, 16, 42, 180, 0, 32, 42, 27, 182, 0, 138, 46, 167, 0, 4, 2, 172]
abbrev dktX4_labelLow_0 : List UInt8 := dkwX4_labelLow_0 ++ []
theorem dksX4_labelLow_0 : cX4_labelLow.data.toList.drop 0 = dktX4_labelLow_0 := by decide +kernel
theorem dX4_labelLow_0 : decode cX4_labelLow 0 = .ok (.aload_n 0, 1) := dk_42 (dk_at dksX4_labelLow_0 0 rfl rfl)
theorem dX4_labelLow_1 : decode cX4_labelLow 1 = .ok (.iload_n 1, 1) := dk_27 (dk_at dksX4_labelLow_0 1 rfl rfl)
theorem dX4_labelLow_2 : decode cX4_labelLow 2 = .ok (.iload_n 2, 1) := dk_28 (dk_at dksX4_labelLow_0 2 rfl rfl)
theorem dX4_labelLow_3 : decode cX4_labelLow 3 = .ok (.invokevirtual 230, 3) := dk_182 0 230 (dk_at dksX4_labelLow_0 3 rfl rfl)
theorem dX4_labelLow_6 : decode cX4_labelLow 6 = .ok (.ifCond .eq 16, 3) := dk_153 0 16 (dk_at dksX4_labelLow_0 6 rfl rfl)
theorem dX4_labelLow_9 : decode cX4_labelLow 9 = .ok (.aload_n 0, 1) := dk_42 (dk_at dksX4_labelLow_0 9 rfl rfl)
theorem dX4_labelLow_10 : decode cX4_labelLow 10 = .ok (.getfield 32, 3) := dk_180 0 32 (dk_at dksX4_labelLow_0 10 rfl rfl)
theorem dX4_labelLow_13 : decode cX4_labelLow 13 = .ok (.aload_n 0, 1) := dk_42 (dk_at dksX4_labelLow_0 13 rfl rfl)
theorem dX4_labelLow_14 : decode cX4_labelLow 14 = .ok (.iload_n 1, 1) := dk_27 (dk_at dksX4_labelLow_0 14 rfl rfl)
theorem dX4_labelLow_15 : decode cX4_labelLow 15 = .ok (.invokevirtual 138, 3) := dk_182 0 138 (dk_at dksX4_labelLow_0 15 rfl rfl)
theorem dX4_labelLow_18 : decode cX4_labelLow 18 = .ok (.iaload, 1) := dk_46 (dk_at dksX4_labelLow_0 18 rfl rfl)
theorem dX4_labelLow_19 : decode cX4_labelLow 19 = .ok (.goto 4, 3) := dk_167 0 4 (dk_at dksX4_labelLow_0 19 rfl rfl)
theorem dX4_labelLow_22 : decode cX4_labelLow 22 = .ok (.iconst (-1), 1) := dk_2 (dk_at dksX4_labelLow_0 22 rfl rfl)
theorem dX4_labelLow_23 : decode cX4_labelLow 23 = .ok (.ireturn, 1) := dk_172 (dk_at dksX4_labelLow_0 23 rfl rfl)
abbrev cX4_shownLabels : ByteArray := prog_18_method_76_code
def yX4_shownLabels : MethodName := ⟨RX4, "shownLabels", "(I)I"⟩
def dkwX4_shownLabels_1 : List UInt8 := [27, 182, 0, 224, 167, 0, 4, 2, 172]
abbrev dktX4_shownLabels_1 : List UInt8 := dkwX4_shownLabels_1 ++ []
def dkwX4_shownLabels_0 : List UInt8 := [42, 27, 184, 0, 54, 153, 0, 7, 3, 167, 0, 4, 4, 181, 0, 35, 42, 180, 0, 35, 154, 0, 11, 42]
abbrev dktX4_shownLabels_0 : List UInt8 := dkwX4_shownLabels_0 ++ dktX4_shownLabels_1
theorem dksX4_shownLabels_0 : cX4_shownLabels.data.toList.drop 0 = dktX4_shownLabels_0 := by decide +kernel
theorem dksX4_shownLabels_1 : cX4_shownLabels.data.toList.drop 24 = dktX4_shownLabels_1 := dk_seg dksX4_shownLabels_0 24 rfl rfl
theorem dX4_shownLabels_0 : decode cX4_shownLabels 0 = .ok (.aload_n 0, 1) := dk_42 (dk_at dksX4_shownLabels_0 0 rfl rfl)
theorem dX4_shownLabels_1 : decode cX4_shownLabels 1 = .ok (.iload_n 1, 1) := dk_27 (dk_at dksX4_shownLabels_0 1 rfl rfl)
theorem dX4_shownLabels_2 : decode cX4_shownLabels 2 = .ok (.invokestatic 54, 3) := dk_184 0 54 (dk_at dksX4_shownLabels_0 2 rfl rfl)
theorem dX4_shownLabels_5 : decode cX4_shownLabels 5 = .ok (.ifCond .eq 7, 3) := dk_153 0 7 (dk_at dksX4_shownLabels_0 5 rfl rfl)
theorem dX4_shownLabels_8 : decode cX4_shownLabels 8 = .ok (.iconst 0, 1) := dk_3 (dk_at dksX4_shownLabels_0 8 rfl rfl)
theorem dX4_shownLabels_9 : decode cX4_shownLabels 9 = .ok (.goto 4, 3) := dk_167 0 4 (dk_at dksX4_shownLabels_0 9 rfl rfl)
theorem dX4_shownLabels_12 : decode cX4_shownLabels 12 = .ok (.iconst 1, 1) := dk_4 (dk_at dksX4_shownLabels_0 12 rfl rfl)
theorem dX4_shownLabels_13 : decode cX4_shownLabels 13 = .ok (.putfield 35, 3) := dk_181 0 35 (dk_at dksX4_shownLabels_0 13 rfl rfl)
theorem dX4_shownLabels_16 : decode cX4_shownLabels 16 = .ok (.aload_n 0, 1) := dk_42 (dk_at dksX4_shownLabels_0 16 rfl rfl)
theorem dX4_shownLabels_17 : decode cX4_shownLabels 17 = .ok (.getfield 35, 3) := dk_180 0 35 (dk_at dksX4_shownLabels_0 17 rfl rfl)
theorem dX4_shownLabels_20 : decode cX4_shownLabels 20 = .ok (.ifCond .ne 11, 3) := dk_154 0 11 (dk_at dksX4_shownLabels_0 20 rfl rfl)
theorem dX4_shownLabels_23 : decode cX4_shownLabels 23 = .ok (.aload_n 0, 1) := dk_42 (dk_at dksX4_shownLabels_0 23 rfl rfl)
theorem dX4_shownLabels_24 : decode cX4_shownLabels 24 = .ok (.iload_n 1, 1) := dk_27 (dk_at dksX4_shownLabels_1 0 rfl rfl)
theorem dX4_shownLabels_25 : decode cX4_shownLabels 25 = .ok (.invokevirtual 224, 3) := dk_182 0 224 (dk_at dksX4_shownLabels_1 1 rfl rfl)
theorem dX4_shownLabels_28 : decode cX4_shownLabels 28 = .ok (.goto 4, 3) := dk_167 0 4 (dk_at dksX4_shownLabels_1 4 rfl rfl)
theorem dX4_shownLabels_31 : decode cX4_shownLabels 31 = .ok (.iconst (-1), 1) := dk_2 (dk_at dksX4_shownLabels_1 7 rfl rfl)
theorem dX4_shownLabels_32 : decode cX4_shownLabels 32 = .ok (.ireturn, 1) := dk_172 (dk_at dksX4_shownLabels_1 8 rfl rfl)
abbrev cX4_drawn : ByteArray := prog_18_method_77_code
def yX4_drawn : MethodName := ⟨RX4, "drawn", "()J"⟩
def dkwX4_drawn_0 : List UInt8 := [42, 3, 181, 0, 35, 42, 180, 0, 190, 173]
abbrev dktX4_drawn_0 : List UInt8 := dkwX4_drawn_0 ++ []
theorem dksX4_drawn_0 : cX4_drawn.data.toList.drop 0 = dktX4_drawn_0 := by decide +kernel
theorem dX4_drawn_0 : decode cX4_drawn 0 = .ok (.aload_n 0, 1) := dk_42 (dk_at dksX4_drawn_0 0 rfl rfl)
theorem dX4_drawn_1 : decode cX4_drawn 1 = .ok (.iconst 0, 1) := dk_3 (dk_at dksX4_drawn_0 1 rfl rfl)
theorem dX4_drawn_2 : decode cX4_drawn 2 = .ok (.putfield 35, 3) := dk_181 0 35 (dk_at dksX4_drawn_0 2 rfl rfl)
theorem dX4_drawn_5 : decode cX4_drawn 5 = .ok (.aload_n 0, 1) := dk_42 (dk_at dksX4_drawn_0 5 rfl rfl)
theorem dX4_drawn_6 : decode cX4_drawn 6 = .ok (.getfield 190, 3) := dk_180 0 190 (dk_at dksX4_drawn_0 6 rfl rfl)
theorem dX4_drawn_9 : decode cX4_drawn 9 = .ok (.lreturn, 1) := dk_173 (dk_at dksX4_drawn_0 9 rfl rfl)
abbrev cX4_meanKept : ByteArray := prog_18_method_78_code
def yX4_meanKept : MethodName := ⟨RX4, "meanKept", "(I)D"⟩
def dkwX4_meanKept_4 : List UInt8 := [181, 0, 35, 42, 180, 0, 35, 154, 0, 11, 29, 135, 28, 135, 111, 167, 0, 4, 14, 175]
abbrev dktX4_meanKept_4 : List UInt8 := dkwX4_meanKept_4 ++ []
def dkwX4_meanKept_3 : List UInt8 := [167, 255, 195, 42, 27, 184, 0, 54, 154, 0, 7, 4, 167, 0, 12, 28, 154, 0, 7, 5, 167, 0, 4, 3]
abbrev dktX4_meanKept_3 : List UInt8 := dkwX4_meanKept_3 ++ dktX4_meanKept_4
def dkwX4_meanKept_2 : List UInt8 := [184, 0, 54, 153, 0, 13, 42, 21, 4, 27, 182, 0, 173, 167, 0, 4, 3, 96, 62, 132, 4, 1]
abbrev dktX4_meanKept_2 : List UInt8 := dkwX4_meanKept_2 ++ dktX4_meanKept_3
def dkwX4_meanKept_1 : List UInt8 := [154, 0, 7, 4, 167, 0, 4, 3, 96, 61, 29, 42, 21, 4, 4, 182, 0, 42, 154, 0, 20, 27]
abbrev dktX4_meanKept_1 : List UInt8 := dkwX4_meanKept_1 ++ dktX4_meanKept_2
def dkwX4_meanKept_0 : List UInt8 := [3, 61, 3, 62, 3, 54, 4, 21, 4, 42, 180, 0, 39, 162, 0, 58, 28, 42, 21, 4, 4, 182, 0, 42]
abbrev dktX4_meanKept_0 : List UInt8 := dkwX4_meanKept_0 ++ dktX4_meanKept_1
theorem dksX4_meanKept_0 : cX4_meanKept.data.toList.drop 0 = dktX4_meanKept_0 := by decide +kernel
theorem dksX4_meanKept_1 : cX4_meanKept.data.toList.drop 24 = dktX4_meanKept_1 := dk_seg dksX4_meanKept_0 24 rfl rfl
theorem dksX4_meanKept_2 : cX4_meanKept.data.toList.drop 46 = dktX4_meanKept_2 := dk_seg dksX4_meanKept_1 22 rfl rfl
theorem dksX4_meanKept_3 : cX4_meanKept.data.toList.drop 68 = dktX4_meanKept_3 := dk_seg dksX4_meanKept_2 22 rfl rfl
theorem dksX4_meanKept_4 : cX4_meanKept.data.toList.drop 92 = dktX4_meanKept_4 := dk_seg dksX4_meanKept_3 24 rfl rfl
theorem dX4_meanKept_0 : decode cX4_meanKept 0 = .ok (.iconst 0, 1) := dk_3 (dk_at dksX4_meanKept_0 0 rfl rfl)
theorem dX4_meanKept_1 : decode cX4_meanKept 1 = .ok (.istore_n 2, 1) := dk_61 (dk_at dksX4_meanKept_0 1 rfl rfl)
theorem dX4_meanKept_2 : decode cX4_meanKept 2 = .ok (.iconst 0, 1) := dk_3 (dk_at dksX4_meanKept_0 2 rfl rfl)
theorem dX4_meanKept_3 : decode cX4_meanKept 3 = .ok (.istore_n 3, 1) := dk_62 (dk_at dksX4_meanKept_0 3 rfl rfl)
theorem dX4_meanKept_4 : decode cX4_meanKept 4 = .ok (.iconst 0, 1) := dk_3 (dk_at dksX4_meanKept_0 4 rfl rfl)
theorem dX4_meanKept_5 : decode cX4_meanKept 5 = .ok (.istore 4, 2) := dk_54 4 (dk_at dksX4_meanKept_0 5 rfl rfl)
theorem dX4_meanKept_7 : decode cX4_meanKept 7 = .ok (.iload 4, 2) := dk_21 4 (dk_at dksX4_meanKept_0 7 rfl rfl)
theorem dX4_meanKept_9 : decode cX4_meanKept 9 = .ok (.aload_n 0, 1) := dk_42 (dk_at dksX4_meanKept_0 9 rfl rfl)
theorem dX4_meanKept_10 : decode cX4_meanKept 10 = .ok (.getfield 39, 3) := dk_180 0 39 (dk_at dksX4_meanKept_0 10 rfl rfl)
theorem dX4_meanKept_13 : decode cX4_meanKept 13 = .ok (.if_icmp .ge 58, 3) := dk_162 0 58 (dk_at dksX4_meanKept_0 13 rfl rfl)
theorem dX4_meanKept_16 : decode cX4_meanKept 16 = .ok (.iload_n 2, 1) := dk_28 (dk_at dksX4_meanKept_0 16 rfl rfl)
theorem dX4_meanKept_17 : decode cX4_meanKept 17 = .ok (.aload_n 0, 1) := dk_42 (dk_at dksX4_meanKept_0 17 rfl rfl)
theorem dX4_meanKept_18 : decode cX4_meanKept 18 = .ok (.iload 4, 2) := dk_21 4 (dk_at dksX4_meanKept_0 18 rfl rfl)
theorem dX4_meanKept_20 : decode cX4_meanKept 20 = .ok (.iconst 1, 1) := dk_4 (dk_at dksX4_meanKept_0 20 rfl rfl)
theorem dX4_meanKept_21 : decode cX4_meanKept 21 = .ok (.invokevirtual 42, 3) := dk_182 0 42 (dk_at dksX4_meanKept_0 21 rfl rfl)
theorem dX4_meanKept_24 : decode cX4_meanKept 24 = .ok (.ifCond .ne 7, 3) := dk_154 0 7 (dk_at dksX4_meanKept_1 0 rfl rfl)
theorem dX4_meanKept_27 : decode cX4_meanKept 27 = .ok (.iconst 1, 1) := dk_4 (dk_at dksX4_meanKept_1 3 rfl rfl)
theorem dX4_meanKept_28 : decode cX4_meanKept 28 = .ok (.goto 4, 3) := dk_167 0 4 (dk_at dksX4_meanKept_1 4 rfl rfl)
theorem dX4_meanKept_31 : decode cX4_meanKept 31 = .ok (.iconst 0, 1) := dk_3 (dk_at dksX4_meanKept_1 7 rfl rfl)
theorem dX4_meanKept_32 : decode cX4_meanKept 32 = .ok (.iadd, 1) := dk_96 (dk_at dksX4_meanKept_1 8 rfl rfl)
theorem dX4_meanKept_33 : decode cX4_meanKept 33 = .ok (.istore_n 2, 1) := dk_61 (dk_at dksX4_meanKept_1 9 rfl rfl)
theorem dX4_meanKept_34 : decode cX4_meanKept 34 = .ok (.iload_n 3, 1) := dk_29 (dk_at dksX4_meanKept_1 10 rfl rfl)
theorem dX4_meanKept_35 : decode cX4_meanKept 35 = .ok (.aload_n 0, 1) := dk_42 (dk_at dksX4_meanKept_1 11 rfl rfl)
theorem dX4_meanKept_36 : decode cX4_meanKept 36 = .ok (.iload 4, 2) := dk_21 4 (dk_at dksX4_meanKept_1 12 rfl rfl)
theorem dX4_meanKept_38 : decode cX4_meanKept 38 = .ok (.iconst 1, 1) := dk_4 (dk_at dksX4_meanKept_1 14 rfl rfl)
theorem dX4_meanKept_39 : decode cX4_meanKept 39 = .ok (.invokevirtual 42, 3) := dk_182 0 42 (dk_at dksX4_meanKept_1 15 rfl rfl)
theorem dX4_meanKept_42 : decode cX4_meanKept 42 = .ok (.ifCond .ne 20, 3) := dk_154 0 20 (dk_at dksX4_meanKept_1 18 rfl rfl)
theorem dX4_meanKept_45 : decode cX4_meanKept 45 = .ok (.iload_n 1, 1) := dk_27 (dk_at dksX4_meanKept_1 21 rfl rfl)
theorem dX4_meanKept_46 : decode cX4_meanKept 46 = .ok (.invokestatic 54, 3) := dk_184 0 54 (dk_at dksX4_meanKept_2 0 rfl rfl)
theorem dX4_meanKept_49 : decode cX4_meanKept 49 = .ok (.ifCond .eq 13, 3) := dk_153 0 13 (dk_at dksX4_meanKept_2 3 rfl rfl)
theorem dX4_meanKept_52 : decode cX4_meanKept 52 = .ok (.aload_n 0, 1) := dk_42 (dk_at dksX4_meanKept_2 6 rfl rfl)
theorem dX4_meanKept_53 : decode cX4_meanKept 53 = .ok (.iload 4, 2) := dk_21 4 (dk_at dksX4_meanKept_2 7 rfl rfl)
theorem dX4_meanKept_55 : decode cX4_meanKept 55 = .ok (.iload_n 1, 1) := dk_27 (dk_at dksX4_meanKept_2 9 rfl rfl)
theorem dX4_meanKept_56 : decode cX4_meanKept 56 = .ok (.invokevirtual 173, 3) := dk_182 0 173 (dk_at dksX4_meanKept_2 10 rfl rfl)
theorem dX4_meanKept_59 : decode cX4_meanKept 59 = .ok (.goto 4, 3) := dk_167 0 4 (dk_at dksX4_meanKept_2 13 rfl rfl)
theorem dX4_meanKept_62 : decode cX4_meanKept 62 = .ok (.iconst 0, 1) := dk_3 (dk_at dksX4_meanKept_2 16 rfl rfl)
theorem dX4_meanKept_63 : decode cX4_meanKept 63 = .ok (.iadd, 1) := dk_96 (dk_at dksX4_meanKept_2 17 rfl rfl)
theorem dX4_meanKept_64 : decode cX4_meanKept 64 = .ok (.istore_n 3, 1) := dk_62 (dk_at dksX4_meanKept_2 18 rfl rfl)
theorem dX4_meanKept_65 : decode cX4_meanKept 65 = .ok (.iinc 4 1, 3) := dk_132 4 1 (dk_at dksX4_meanKept_2 19 rfl rfl)
theorem dX4_meanKept_68 : decode cX4_meanKept 68 = .ok (.goto (-61), 3) := dk_167 255 195 (dk_at dksX4_meanKept_3 0 rfl rfl)
theorem dX4_meanKept_71 : decode cX4_meanKept 71 = .ok (.aload_n 0, 1) := dk_42 (dk_at dksX4_meanKept_3 3 rfl rfl)
theorem dX4_meanKept_72 : decode cX4_meanKept 72 = .ok (.iload_n 1, 1) := dk_27 (dk_at dksX4_meanKept_3 4 rfl rfl)
theorem dX4_meanKept_73 : decode cX4_meanKept 73 = .ok (.invokestatic 54, 3) := dk_184 0 54 (dk_at dksX4_meanKept_3 5 rfl rfl)
theorem dX4_meanKept_76 : decode cX4_meanKept 76 = .ok (.ifCond .ne 7, 3) := dk_154 0 7 (dk_at dksX4_meanKept_3 8 rfl rfl)
theorem dX4_meanKept_79 : decode cX4_meanKept 79 = .ok (.iconst 1, 1) := dk_4 (dk_at dksX4_meanKept_3 11 rfl rfl)
theorem dX4_meanKept_80 : decode cX4_meanKept 80 = .ok (.goto 12, 3) := dk_167 0 12 (dk_at dksX4_meanKept_3 12 rfl rfl)
theorem dX4_meanKept_83 : decode cX4_meanKept 83 = .ok (.iload_n 2, 1) := dk_28 (dk_at dksX4_meanKept_3 15 rfl rfl)
theorem dX4_meanKept_84 : decode cX4_meanKept 84 = .ok (.ifCond .ne 7, 3) := dk_154 0 7 (dk_at dksX4_meanKept_3 16 rfl rfl)
theorem dX4_meanKept_87 : decode cX4_meanKept 87 = .ok (.iconst 2, 1) := dk_5 (dk_at dksX4_meanKept_3 19 rfl rfl)
theorem dX4_meanKept_88 : decode cX4_meanKept 88 = .ok (.goto 4, 3) := dk_167 0 4 (dk_at dksX4_meanKept_3 20 rfl rfl)
theorem dX4_meanKept_91 : decode cX4_meanKept 91 = .ok (.iconst 0, 1) := dk_3 (dk_at dksX4_meanKept_3 23 rfl rfl)
theorem dX4_meanKept_92 : decode cX4_meanKept 92 = .ok (.putfield 35, 3) := dk_181 0 35 (dk_at dksX4_meanKept_4 0 rfl rfl)
theorem dX4_meanKept_95 : decode cX4_meanKept 95 = .ok (.aload_n 0, 1) := dk_42 (dk_at dksX4_meanKept_4 3 rfl rfl)
theorem dX4_meanKept_96 : decode cX4_meanKept 96 = .ok (.getfield 35, 3) := dk_180 0 35 (dk_at dksX4_meanKept_4 4 rfl rfl)
theorem dX4_meanKept_99 : decode cX4_meanKept 99 = .ok (.ifCond .ne 11, 3) := dk_154 0 11 (dk_at dksX4_meanKept_4 7 rfl rfl)
theorem dX4_meanKept_102 : decode cX4_meanKept 102 = .ok (.iload_n 3, 1) := dk_29 (dk_at dksX4_meanKept_4 10 rfl rfl)
theorem dX4_meanKept_103 : decode cX4_meanKept 103 = .ok (.i2d, 1) := dk_135 (dk_at dksX4_meanKept_4 11 rfl rfl)
theorem dX4_meanKept_104 : decode cX4_meanKept 104 = .ok (.iload_n 2, 1) := dk_28 (dk_at dksX4_meanKept_4 12 rfl rfl)
theorem dX4_meanKept_105 : decode cX4_meanKept 105 = .ok (.i2d, 1) := dk_135 (dk_at dksX4_meanKept_4 13 rfl rfl)
theorem dX4_meanKept_106 : decode cX4_meanKept 106 = .ok (.ddiv, 1) := dk_111 (dk_at dksX4_meanKept_4 14 rfl rfl)
theorem dX4_meanKept_107 : decode cX4_meanKept 107 = .ok (.goto 4, 3) := dk_167 0 4 (dk_at dksX4_meanKept_4 15 rfl rfl)
theorem dX4_meanKept_110 : decode cX4_meanKept 110 = .ok (.dconst 0, 1) := dk_14 (dk_at dksX4_meanKept_4 18 rfl rfl)
theorem dX4_meanKept_111 : decode cX4_meanKept 111 = .ok (.dreturn, 1) := dk_175 (dk_at dksX4_meanKept_4 19 rfl rfl)
abbrev cX4_isFresh : ByteArray := prog_18_method_79_code
def yX4_isFresh : MethodName := ⟨RX4, "isFresh", "()Z"⟩
def dkwX4_isFresh_0 : List UInt8 := [42, 3, 181, 0, 35, 4, 172]
abbrev dktX4_isFresh_0 : List UInt8 := dkwX4_isFresh_0 ++ []
theorem dksX4_isFresh_0 : cX4_isFresh.data.toList.drop 0 = dktX4_isFresh_0 := by decide +kernel
theorem dX4_isFresh_0 : decode cX4_isFresh 0 = .ok (.aload_n 0, 1) := dk_42 (dk_at dksX4_isFresh_0 0 rfl rfl)
theorem dX4_isFresh_1 : decode cX4_isFresh 1 = .ok (.iconst 0, 1) := dk_3 (dk_at dksX4_isFresh_0 1 rfl rfl)
theorem dX4_isFresh_2 : decode cX4_isFresh 2 = .ok (.putfield 35, 3) := dk_181 0 35 (dk_at dksX4_isFresh_0 2 rfl rfl)
theorem dX4_isFresh_5 : decode cX4_isFresh 5 = .ok (.iconst 1, 1) := dk_4 (dk_at dksX4_isFresh_0 5 rfl rfl)
theorem dX4_isFresh_6 : decode cX4_isFresh 6 = .ok (.ireturn, 1) := dk_172 (dk_at dksX4_isFresh_0 6 rfl rfl)
theorem q69 : (Jvm.Cond.initialized "TileServerModel") ∈ lw_all := lw_g (lw_at lw_m1 8 rfl) rfl
theorem q555 : (Jvm.Cond.selects "TileServerModel" ({ cls := "java/lang/Object", name := "getClass", desc := "()Ljava/lang/Class;" } : Jvm.MethodName) ({ cls := "java/lang/Object", name := "getClass", desc := "()Ljava/lang/Class;" } : Jvm.MethodName)) ∈ lw_all := lw_g (lw_at lw_m3 14 rfl) rfl
theorem q981 : (Jvm.Cond.selects "TileServerModel" ({ cls := "java/lang/Object", name := "equals", desc := "(Ljava/lang/Object;)Z" } : Jvm.MethodName) ({ cls := "java/lang/Object", name := "equals", desc := "(Ljava/lang/Object;)Z" } : Jvm.MethodName)) ∈ lw_all := lw_g (lw_at lw_m4 200 rfl) rfl
theorem q1595 : (Jvm.Cond.instantiable "TileServerModel" (16 : Nat)) ∈ lw_all := lw_g (lw_at lw_m7 94 rfl) rfl
theorem q1597 : (Jvm.Cond.instanceMethod ({ cls := "TileServerModel", name := "<init>", desc := "()V" } : Jvm.MethodName)) ∈ lw_all := lw_g (lw_at lw_m7 96 rfl) rfl
theorem q1598 : (Jvm.Cond.code ({ cls := "TileServerModel", name := "<init>", desc := "()V" } : Jvm.MethodName) prog_18_method_1_code (1 : Nat) (Option.none : Option Jvm.ClassFile.FieldType)) ∈ lw_all := lw_g (lw_at lw_m7 97 rfl) rfl
theorem q1599 : (Jvm.Cond.methodLink "TileServerModel" (1 : Nat) ({ cls := "java/lang/Object", name := "<init>", desc := "()V" } : Jvm.MethodName)) ∈ lw_all := lw_g (lw_at lw_m7 98 rfl) rfl
theorem q1600 : (Jvm.Cond.fieldLink "TileServerModel" (9 : Nat) "TileServerModel" "m" "[I") ∈ lw_all := lw_g (lw_at lw_m7 99 rfl) rfl
theorem q1601 : (Jvm.Cond.fieldLink "TileServerModel" (39 : Nat) "TileServerModel" "many" "I") ∈ lw_all := lw_g (lw_at lw_m7 100 rfl) rfl
theorem q1602 : (Jvm.Cond.fieldLink "TileServerModel" (123 : Nat) "TileServerModel" "lastNumber" "I") ∈ lw_all := lw_g (lw_at lw_m7 101 rfl) rfl
theorem q1603 : (Jvm.Cond.fieldLink "TileServerModel" (13 : Nat) "TileServerModel" "xs" "[I") ∈ lw_all := lw_g (lw_at lw_m7 102 rfl) rfl
theorem q1604 : (Jvm.Cond.fieldLink "TileServerModel" (16 : Nat) "TileServerModel" "ys" "[I") ∈ lw_all := lw_g (lw_at lw_m7 103 rfl) rfl
theorem q1605 : (Jvm.Cond.fieldLink "TileServerModel" (19 : Nat) "TileServerModel" "tolerances" "[I") ∈ lw_all := lw_g (lw_at lw_m7 104 rfl) rfl
theorem q1606 : (Jvm.Cond.fieldLink "TileServerModel" (22 : Nat) "TileServerModel" "cache" "[I") ∈ lw_all := lw_g (lw_at lw_m7 105 rfl) rfl
theorem q1607 : (Jvm.Cond.fieldLink "TileServerModel" (58 : Nat) "TileServerModel" "held" "I") ∈ lw_all := lw_g (lw_at lw_m7 106 rfl) rfl
theorem q1608 : (Jvm.Cond.fieldLink "TileServerModel" (161 : Nat) "TileServerModel" "clock" "I") ∈ lw_all := lw_g (lw_at lw_m7 107 rfl) rfl
theorem q1609 : (Jvm.Cond.fieldLink "TileServerModel" (197 : Nat) "TileServerModel" "hit" "I") ∈ lw_all := lw_g (lw_at lw_m7 108 rfl) rfl
theorem q1610 : (Jvm.Cond.fieldLink "TileServerModel" (187 : Nat) "TileServerModel" "missed" "I") ∈ lw_all := lw_g (lw_at lw_m7 109 rfl) rfl
theorem q1611 : (Jvm.Cond.fieldLink "TileServerModel" (190 : Nat) "TileServerModel" "drawnMany" "J") ∈ lw_all := lw_g (lw_at lw_m7 110 rfl) rfl
theorem q1612 : (Jvm.Cond.fieldLink "TileServerModel" (35 : Nat) "TileServerModel" "thrown" "I") ∈ lw_all := lw_g (lw_at lw_m7 111 rfl) rfl
theorem q1613 : (Jvm.Cond.fieldLink "TileServerModel" (25 : Nat) "TileServerModel" "places" "[C") ∈ lw_all := lw_g (lw_at lw_m7 112 rfl) rfl
theorem q1614 : (Jvm.Cond.fieldLink "TileServerModel" (29 : Nat) "TileServerModel" "lefts" "[I") ∈ lw_all := lw_g (lw_at lw_m7 113 rfl) rfl
theorem q1615 : (Jvm.Cond.fieldLink "TileServerModel" (32 : Nat) "TileServerModel" "lows" "[I") ∈ lw_all := lw_g (lw_at lw_m7 114 rfl) rfl
theorem q1616 : (Jvm.Cond.laysFinal "TileServerModel" "TileServerModel" "m" "[I") ∈ lw_all := lw_g (lw_at lw_m7 115 rfl) rfl
theorem q1617 : (Jvm.Cond.soleField "TileServerModel" "m") ∈ lw_all := lw_g (lw_at lw_m7 116 rfl) rfl
theorem q1618 : (Jvm.Cond.lays "TileServerModel" "TileServerModel" "many" "I") ∈ lw_all := lw_g (lw_at lw_m7 117 rfl) rfl
theorem q1619 : (Jvm.Cond.soleField "TileServerModel" "many") ∈ lw_all := lw_g (lw_at lw_m7 118 rfl) rfl
theorem q1620 : (Jvm.Cond.lays "TileServerModel" "TileServerModel" "lastNumber" "I") ∈ lw_all := lw_g (lw_at lw_m7 119 rfl) rfl
theorem q1621 : (Jvm.Cond.soleField "TileServerModel" "lastNumber") ∈ lw_all := lw_g (lw_at lw_m7 120 rfl) rfl
theorem q1622 : (Jvm.Cond.laysFinal "TileServerModel" "TileServerModel" "xs" "[I") ∈ lw_all := lw_g (lw_at lw_m7 121 rfl) rfl
theorem q1623 : (Jvm.Cond.soleField "TileServerModel" "xs") ∈ lw_all := lw_g (lw_at lw_m7 122 rfl) rfl
theorem q1624 : (Jvm.Cond.laysFinal "TileServerModel" "TileServerModel" "ys" "[I") ∈ lw_all := lw_g (lw_at lw_m7 123 rfl) rfl
theorem q1625 : (Jvm.Cond.soleField "TileServerModel" "ys") ∈ lw_all := lw_g (lw_at lw_m7 124 rfl) rfl
theorem q1626 : (Jvm.Cond.laysFinal "TileServerModel" "TileServerModel" "tolerances" "[I") ∈ lw_all := lw_g (lw_at lw_m7 125 rfl) rfl
theorem q1627 : (Jvm.Cond.soleField "TileServerModel" "tolerances") ∈ lw_all := lw_g (lw_at lw_m7 126 rfl) rfl
theorem q1628 : (Jvm.Cond.laysFinal "TileServerModel" "TileServerModel" "cache" "[I") ∈ lw_all := lw_g (lw_at lw_m7 127 rfl) rfl
theorem q1629 : (Jvm.Cond.soleField "TileServerModel" "cache") ∈ lw_all := lw_g (lw_at lw_m7 128 rfl) rfl
theorem q1630 : (Jvm.Cond.lays "TileServerModel" "TileServerModel" "held" "I") ∈ lw_all := lw_g (lw_at lw_m7 129 rfl) rfl
theorem q1631 : (Jvm.Cond.soleField "TileServerModel" "held") ∈ lw_all := lw_g (lw_at lw_m7 130 rfl) rfl
theorem q1632 : (Jvm.Cond.lays "TileServerModel" "TileServerModel" "clock" "I") ∈ lw_all := lw_g (lw_at lw_m7 131 rfl) rfl
theorem q1633 : (Jvm.Cond.soleField "TileServerModel" "clock") ∈ lw_all := lw_g (lw_at lw_m7 132 rfl) rfl
theorem q1634 : (Jvm.Cond.lays "TileServerModel" "TileServerModel" "hit" "I") ∈ lw_all := lw_g (lw_at lw_m7 133 rfl) rfl
theorem q1635 : (Jvm.Cond.soleField "TileServerModel" "hit") ∈ lw_all := lw_g (lw_at lw_m7 134 rfl) rfl
theorem q1636 : (Jvm.Cond.lays "TileServerModel" "TileServerModel" "missed" "I") ∈ lw_all := lw_g (lw_at lw_m7 135 rfl) rfl
theorem q1637 : (Jvm.Cond.soleField "TileServerModel" "missed") ∈ lw_all := lw_g (lw_at lw_m7 136 rfl) rfl
theorem q1638 : (Jvm.Cond.lays "TileServerModel" "TileServerModel" "drawnMany" "J") ∈ lw_all := lw_g (lw_at lw_m7 137 rfl) rfl
theorem q1639 : (Jvm.Cond.soleField "TileServerModel" "drawnMany") ∈ lw_all := lw_g (lw_at lw_m7 138 rfl) rfl
theorem q1640 : (Jvm.Cond.lays "TileServerModel" "TileServerModel" "thrown" "I") ∈ lw_all := lw_g (lw_at lw_m7 139 rfl) rfl
theorem q1641 : (Jvm.Cond.soleField "TileServerModel" "thrown") ∈ lw_all := lw_g (lw_at lw_m7 140 rfl) rfl
theorem q1642 : (Jvm.Cond.laysFinal "TileServerModel" "TileServerModel" "places" "[C") ∈ lw_all := lw_g (lw_at lw_m7 141 rfl) rfl
theorem q1643 : (Jvm.Cond.soleField "TileServerModel" "places") ∈ lw_all := lw_g (lw_at lw_m7 142 rfl) rfl
theorem q1644 : (Jvm.Cond.laysFinal "TileServerModel" "TileServerModel" "lefts" "[I") ∈ lw_all := lw_g (lw_at lw_m7 143 rfl) rfl
theorem q1645 : (Jvm.Cond.soleField "TileServerModel" "lefts") ∈ lw_all := lw_g (lw_at lw_m7 144 rfl) rfl
theorem q1646 : (Jvm.Cond.laysFinal "TileServerModel" "TileServerModel" "lows" "[I") ∈ lw_all := lw_g (lw_at lw_m7 145 rfl) rfl
theorem q1647 : (Jvm.Cond.soleField "TileServerModel" "lows") ∈ lw_all := lw_g (lw_at lw_m7 146 rfl) rfl
theorem q1648 : (Jvm.Cond.superclass "TileServerModel" "java/lang/Object") ∈ lw_all := lw_g (lw_at lw_m7 147 rfl) rfl
theorem q1651 : (Jvm.Cond.instanceMethod ({ cls := "TileServerModel", name := "thrown", desc := "()I" } : Jvm.MethodName)) ∈ lw_all := lw_g (lw_at lw_m7 150 rfl) rfl
theorem q1652 : (Jvm.Cond.selects "TileServerModel" ({ cls := "TileServerModel", name := "thrown", desc := "()I" } : Jvm.MethodName) ({ cls := "TileServerModel", name := "thrown", desc := "()I" } : Jvm.MethodName)) ∈ lw_all := lw_g (lw_at lw_m7 151 rfl) rfl
theorem q1653 : (Jvm.Cond.code ({ cls := "TileServerModel", name := "thrown", desc := "()I" } : Jvm.MethodName) prog_18_method_2_code (1 : Nat) (Option.some Jvm.ClassFile.FieldType.int)) ∈ lw_all := lw_g (lw_at lw_m7 152 rfl) rfl
theorem q1655 : (Jvm.Cond.instanceMethod ({ cls := "TileServerModel", name := "addLine", desc := "(IIII)I" } : Jvm.MethodName)) ∈ lw_all := lw_g (lw_at lw_m7 154 rfl) rfl
theorem q1656 : (Jvm.Cond.selects "TileServerModel" ({ cls := "TileServerModel", name := "addLine", desc := "(IIII)I" } : Jvm.MethodName) ({ cls := "TileServerModel", name := "addLine", desc := "(IIII)I" } : Jvm.MethodName)) ∈ lw_all := lw_g (lw_at lw_m7 155 rfl) rfl
theorem q1657 : (Jvm.Cond.code ({ cls := "TileServerModel", name := "addLine", desc := "(IIII)I" } : Jvm.MethodName) prog_18_method_29_code (7 : Nat) (Option.some Jvm.ClassFile.FieldType.int)) ∈ lw_all := lw_g (lw_at lw_m7 156 rfl) rfl
theorem q1658 : (Jvm.Cond.methodLink "TileServerModel" (126 : Nat) ({ cls := "TileServerModel", name := "isCoordinate", desc := "(I)Z" } : Jvm.MethodName)) ∈ lw_all := lw_g (lw_at lw_m7 157 rfl) rfl
theorem q1659 : (Jvm.Cond.static ({ cls := "TileServerModel", name := "isCoordinate", desc := "(I)Z" } : Jvm.MethodName)) ∈ lw_all := lw_g (lw_at lw_m7 158 rfl) rfl
theorem q1660 : (Jvm.Cond.code ({ cls := "TileServerModel", name := "isCoordinate", desc := "(I)Z" } : Jvm.MethodName) prog_18_method_8_code (1 : Nat) (Option.some Jvm.ClassFile.FieldType.boolean)) ∈ lw_all := lw_g (lw_at lw_m7 159 rfl) rfl
theorem q1661 : (Jvm.Cond.constantLong "TileServerModel" (46 : Nat) (64 : Int64)) ∈ lw_all := lw_g (lw_at lw_m7 160 rfl) rfl
theorem q1662 : (Jvm.Cond.methodLink "TileServerModel" (48 : Nat) ({ cls := "TileServerModel", name := "in", desc := "(JJJ)Z" } : Jvm.MethodName)) ∈ lw_all := lw_g (lw_at lw_m7 161 rfl) rfl
theorem q1663 : (Jvm.Cond.static ({ cls := "TileServerModel", name := "in", desc := "(JJJ)Z" } : Jvm.MethodName)) ∈ lw_all := lw_g (lw_at lw_m7 162 rfl) rfl
theorem q1664 : (Jvm.Cond.code ({ cls := "TileServerModel", name := "in", desc := "(JJJ)Z" } : Jvm.MethodName) prog_18_method_3_code (6 : Nat) (Option.some Jvm.ClassFile.FieldType.boolean)) ∈ lw_all := lw_g (lw_at lw_m7 163 rfl) rfl
theorem q1665 : (Jvm.Cond.methodLink "TileServerModel" (129 : Nat) ({ cls := "TileServerModel", name := "begins", desc := "(IIIII)I" } : Jvm.MethodName)) ∈ lw_all := lw_g (lw_at lw_m7 164 rfl) rfl
theorem q1666 : (Jvm.Cond.privateMethod ({ cls := "TileServerModel", name := "begins", desc := "(IIIII)I" } : Jvm.MethodName)) ∈ lw_tbl := lw_at lw_m7 165 rfl
theorem q1667 : (Jvm.Cond.instanceMethod ({ cls := "TileServerModel", name := "begins", desc := "(IIIII)I" } : Jvm.MethodName)) ∈ lw_all := lw_g (lw_at lw_m7 166 rfl) rfl
theorem q1668 : (Jvm.Cond.code ({ cls := "TileServerModel", name := "begins", desc := "(IIIII)I" } : Jvm.MethodName) prog_18_method_27_code (7 : Nat) (Option.some Jvm.ClassFile.FieldType.int)) ∈ lw_all := lw_g (lw_at lw_m7 167 rfl) rfl
theorem q1669 : (Jvm.Cond.methodLink "TileServerModel" (132 : Nat) ({ cls := "TileServerModel", name := "puts", desc := "(III)I" } : Jvm.MethodName)) ∈ lw_all := lw_g (lw_at lw_m7 168 rfl) rfl
theorem q1670 : (Jvm.Cond.privateMethod ({ cls := "TileServerModel", name := "puts", desc := "(III)I" } : Jvm.MethodName)) ∈ lw_tbl := lw_at lw_m7 169 rfl
theorem q1671 : (Jvm.Cond.instanceMethod ({ cls := "TileServerModel", name := "puts", desc := "(III)I" } : Jvm.MethodName)) ∈ lw_all := lw_g (lw_at lw_m7 170 rfl) rfl
theorem q1672 : (Jvm.Cond.code ({ cls := "TileServerModel", name := "puts", desc := "(III)I" } : Jvm.MethodName) prog_18_method_28_code (5 : Nat) (Option.some Jvm.ClassFile.FieldType.int)) ∈ lw_all := lw_g (lw_at lw_m7 171 rfl) rfl
theorem q1673 : (Jvm.Cond.methodLink "TileServerModel" (42 : Nat) ({ cls := "TileServerModel", name := "of", desc := "(II)I" } : Jvm.MethodName)) ∈ lw_all := lw_g (lw_at lw_m7 172 rfl) rfl
theorem q1674 : (Jvm.Cond.privateMethod ({ cls := "TileServerModel", name := "of", desc := "(II)I" } : Jvm.MethodName)) ∈ lw_tbl := lw_at lw_m7 173 rfl
theorem q1675 : (Jvm.Cond.instanceMethod ({ cls := "TileServerModel", name := "of", desc := "(II)I" } : Jvm.MethodName)) ∈ lw_all := lw_g (lw_at lw_m7 174 rfl) rfl
theorem q1676 : (Jvm.Cond.code ({ cls := "TileServerModel", name := "of", desc := "(II)I" } : Jvm.MethodName) prog_18_method_4_code (3 : Nat) (Option.some Jvm.ClassFile.FieldType.int)) ∈ lw_all := lw_g (lw_at lw_m7 175 rfl) rfl
theorem q1677 : (Jvm.Cond.methodLink "TileServerModel" (135 : Nat) ({ cls := "TileServerModel", name := "leave", desc := "(I)I" } : Jvm.MethodName)) ∈ lw_all := lw_g (lw_at lw_m7 176 rfl) rfl
theorem q1678 : (Jvm.Cond.privateMethod ({ cls := "TileServerModel", name := "leave", desc := "(I)I" } : Jvm.MethodName)) ∈ lw_tbl := lw_at lw_m7 177 rfl
theorem q1679 : (Jvm.Cond.instanceMethod ({ cls := "TileServerModel", name := "leave", desc := "(I)I" } : Jvm.MethodName)) ∈ lw_all := lw_g (lw_at lw_m7 178 rfl) rfl
theorem q1680 : (Jvm.Cond.code ({ cls := "TileServerModel", name := "leave", desc := "(I)I" } : Jvm.MethodName) prog_18_method_16_code (9 : Nat) (Option.some Jvm.ClassFile.FieldType.int)) ∈ lw_all := lw_g (lw_at lw_m7 179 rfl) rfl
theorem q1681 : (Jvm.Cond.methodLink "TileServerModel" (65 : Nat) ({ cls := "TileServerModel", name := "x", desc := "(II)I" } : Jvm.MethodName)) ∈ lw_all := lw_g (lw_at lw_m7 180 rfl) rfl
theorem q1682 : (Jvm.Cond.privateMethod ({ cls := "TileServerModel", name := "x", desc := "(II)I" } : Jvm.MethodName)) ∈ lw_tbl := lw_at lw_m7 181 rfl
theorem q1683 : (Jvm.Cond.instanceMethod ({ cls := "TileServerModel", name := "x", desc := "(II)I" } : Jvm.MethodName)) ∈ lw_all := lw_g (lw_at lw_m7 182 rfl) rfl
theorem q1684 : (Jvm.Cond.code ({ cls := "TileServerModel", name := "x", desc := "(II)I" } : Jvm.MethodName) prog_18_method_5_code (3 : Nat) (Option.some Jvm.ClassFile.FieldType.int)) ∈ lw_all := lw_g (lw_at lw_m7 183 rfl) rfl
theorem q1685 : (Jvm.Cond.methodLink "TileServerModel" (68 : Nat) ({ cls := "TileServerModel", name := "y", desc := "(II)I" } : Jvm.MethodName)) ∈ lw_all := lw_g (lw_at lw_m7 184 rfl) rfl
theorem q1686 : (Jvm.Cond.privateMethod ({ cls := "TileServerModel", name := "y", desc := "(II)I" } : Jvm.MethodName)) ∈ lw_tbl := lw_at lw_m7 185 rfl
theorem q1687 : (Jvm.Cond.instanceMethod ({ cls := "TileServerModel", name := "y", desc := "(II)I" } : Jvm.MethodName)) ∈ lw_all := lw_g (lw_at lw_m7 186 rfl) rfl
theorem q1688 : (Jvm.Cond.code ({ cls := "TileServerModel", name := "y", desc := "(II)I" } : Jvm.MethodName) prog_18_method_6_code (3 : Nat) (Option.some Jvm.ClassFile.FieldType.int)) ∈ lw_all := lw_g (lw_at lw_m7 187 rfl) rfl
theorem q1689 : (Jvm.Cond.methodLink "TileServerModel" (71 : Nat) ({ cls := "java/lang/Math", name := "min", desc := "(II)I" } : Jvm.MethodName)) ∈ lw_all := lw_g (lw_at lw_m7 188 rfl) rfl
theorem q1690 : (Jvm.Cond.methodLink "TileServerModel" (76 : Nat) ({ cls := "java/lang/Math", name := "max", desc := "(II)I" } : Jvm.MethodName)) ∈ lw_all := lw_g (lw_at lw_m7 189 rfl) rfl
theorem q1691 : (Jvm.Cond.methodLink "TileServerModel" (79 : Nat) ({ cls := "TileServerModel", name := "isMet", desc := "(IIIII)Z" } : Jvm.MethodName)) ∈ lw_all := lw_g (lw_at lw_m7 190 rfl) rfl
theorem q1692 : (Jvm.Cond.privateMethod ({ cls := "TileServerModel", name := "isMet", desc := "(IIIII)Z" } : Jvm.MethodName)) ∈ lw_tbl := lw_at lw_m7 191 rfl
theorem q1693 : (Jvm.Cond.instanceMethod ({ cls := "TileServerModel", name := "isMet", desc := "(IIIII)Z" } : Jvm.MethodName)) ∈ lw_all := lw_g (lw_at lw_m7 192 rfl) rfl
theorem q1694 : (Jvm.Cond.code ({ cls := "TileServerModel", name := "isMet", desc := "(IIIII)Z" } : Jvm.MethodName) prog_18_method_15_code (9 : Nat) (Option.some Jvm.ClassFile.FieldType.boolean)) ∈ lw_all := lw_g (lw_at lw_m7 193 rfl) rfl
theorem q1695 : (Jvm.Cond.methodLink "TileServerModel" (61 : Nat) ({ cls := "TileServerModel", name := "tileSide", desc := "(I)I" } : Jvm.MethodName)) ∈ lw_all := lw_g (lw_at lw_m7 194 rfl) rfl
theorem q1696 : (Jvm.Cond.static ({ cls := "TileServerModel", name := "tileSide", desc := "(I)I" } : Jvm.MethodName)) ∈ lw_all := lw_g (lw_at lw_m7 195 rfl) rfl
theorem q1697 : (Jvm.Cond.code ({ cls := "TileServerModel", name := "tileSide", desc := "(I)I" } : Jvm.MethodName) prog_18_method_11_code (1 : Nat) (Option.some Jvm.ClassFile.FieldType.int)) ∈ lw_all := lw_g (lw_at lw_m7 196 rfl) rfl
theorem q1698 : (Jvm.Cond.methodLink "TileServerModel" (83 : Nat) ({ cls := "TileServerModel", name := "drops", desc := "(I)V" } : Jvm.MethodName)) ∈ lw_all := lw_g (lw_at lw_m7 197 rfl) rfl
theorem q1699 : (Jvm.Cond.privateMethod ({ cls := "TileServerModel", name := "drops", desc := "(I)V" } : Jvm.MethodName)) ∈ lw_tbl := lw_at lw_m7 198 rfl
theorem q1700 : (Jvm.Cond.instanceMethod ({ cls := "TileServerModel", name := "drops", desc := "(I)V" } : Jvm.MethodName)) ∈ lw_all := lw_g (lw_at lw_m7 199 rfl) rfl
theorem q1701 : (Jvm.Cond.code ({ cls := "TileServerModel", name := "drops", desc := "(I)V" } : Jvm.MethodName) prog_18_method_13_code (3 : Nat) (Option.none : Option Jvm.ClassFile.FieldType)) ∈ lw_all := lw_g (lw_at lw_m7 200 rfl) rfl
theorem q1703 : (Jvm.Cond.instanceMethod ({ cls := "TileServerModel", name := "extend", desc := "(III)I" } : Jvm.MethodName)) ∈ lw_all := lw_g (lw_at lw_m7 202 rfl) rfl
theorem q1704 : (Jvm.Cond.selects "TileServerModel" ({ cls := "TileServerModel", name := "extend", desc := "(III)I" } : Jvm.MethodName) ({ cls := "TileServerModel", name := "extend", desc := "(III)I" } : Jvm.MethodName)) ∈ lw_all := lw_g (lw_at lw_m7 203 rfl) rfl
theorem q1705 : (Jvm.Cond.code ({ cls := "TileServerModel", name := "extend", desc := "(III)I" } : Jvm.MethodName) prog_18_method_32_code (5 : Nat) (Option.some Jvm.ClassFile.FieldType.int)) ∈ lw_all := lw_g (lw_at lw_m7 204 rfl) rfl
theorem q1706 : (Jvm.Cond.methodLink "TileServerModel" (141 : Nat) ({ cls := "TileServerModel", name := "isLine", desc := "(I)Z" } : Jvm.MethodName)) ∈ lw_all := lw_g (lw_at lw_m7 205 rfl) rfl
theorem q1707 : (Jvm.Cond.privateMethod ({ cls := "TileServerModel", name := "isLine", desc := "(I)Z" } : Jvm.MethodName)) ∈ lw_tbl := lw_at lw_m7 206 rfl
theorem q1708 : (Jvm.Cond.instanceMethod ({ cls := "TileServerModel", name := "isLine", desc := "(I)Z" } : Jvm.MethodName)) ∈ lw_all := lw_g (lw_at lw_m7 207 rfl) rfl
theorem q1709 : (Jvm.Cond.code ({ cls := "TileServerModel", name := "isLine", desc := "(I)Z" } : Jvm.MethodName) prog_18_method_30_code (3 : Nat) (Option.some Jvm.ClassFile.FieldType.boolean)) ∈ lw_all := lw_g (lw_at lw_m7 208 rfl) rfl
theorem q1710 : (Jvm.Cond.methodLink "TileServerModel" (138 : Nat) ({ cls := "TileServerModel", name := "slot", desc := "(I)I" } : Jvm.MethodName)) ∈ lw_all := lw_g (lw_at lw_m7 209 rfl) rfl
theorem q1711 : (Jvm.Cond.privateMethod ({ cls := "TileServerModel", name := "slot", desc := "(I)I" } : Jvm.MethodName)) ∈ lw_tbl := lw_at lw_m7 210 rfl
theorem q1712 : (Jvm.Cond.instanceMethod ({ cls := "TileServerModel", name := "slot", desc := "(I)I" } : Jvm.MethodName)) ∈ lw_all := lw_g (lw_at lw_m7 211 rfl) rfl
theorem q1713 : (Jvm.Cond.code ({ cls := "TileServerModel", name := "slot", desc := "(I)I" } : Jvm.MethodName) prog_18_method_7_code (3 : Nat) (Option.some Jvm.ClassFile.FieldType.int)) ∈ lw_all := lw_g (lw_at lw_m7 212 rfl) rfl
theorem q1715 : (Jvm.Cond.instanceMethod ({ cls := "TileServerModel", name := "movePoint", desc := "(IIII)I" } : Jvm.MethodName)) ∈ lw_all := lw_g (lw_at lw_m7 214 rfl) rfl
theorem q1716 : (Jvm.Cond.selects "TileServerModel" ({ cls := "TileServerModel", name := "movePoint", desc := "(IIII)I" } : Jvm.MethodName) ({ cls := "TileServerModel", name := "movePoint", desc := "(IIII)I" } : Jvm.MethodName)) ∈ lw_all := lw_g (lw_at lw_m7 215 rfl) rfl
theorem q1717 : (Jvm.Cond.code ({ cls := "TileServerModel", name := "movePoint", desc := "(IIII)I" } : Jvm.MethodName) prog_18_method_34_code (7 : Nat) (Option.some Jvm.ClassFile.FieldType.int)) ∈ lw_all := lw_g (lw_at lw_m7 216 rfl) rfl
theorem q1718 : (Jvm.Cond.methodLink "TileServerModel" (144 : Nat) ({ cls := "TileServerModel", name := "isPoint", desc := "(II)Z" } : Jvm.MethodName)) ∈ lw_all := lw_g (lw_at lw_m7 217 rfl) rfl
theorem q1719 : (Jvm.Cond.privateMethod ({ cls := "TileServerModel", name := "isPoint", desc := "(II)Z" } : Jvm.MethodName)) ∈ lw_tbl := lw_at lw_m7 218 rfl
theorem q1720 : (Jvm.Cond.instanceMethod ({ cls := "TileServerModel", name := "isPoint", desc := "(II)Z" } : Jvm.MethodName)) ∈ lw_all := lw_g (lw_at lw_m7 219 rfl) rfl
theorem q1721 : (Jvm.Cond.code ({ cls := "TileServerModel", name := "isPoint", desc := "(II)Z" } : Jvm.MethodName) prog_18_method_33_code (3 : Nat) (Option.some Jvm.ClassFile.FieldType.boolean)) ∈ lw_all := lw_g (lw_at lw_m7 220 rfl) rfl
theorem q1723 : (Jvm.Cond.instanceMethod ({ cls := "TileServerModel", name := "dropPoint", desc := "(II)I" } : Jvm.MethodName)) ∈ lw_all := lw_g (lw_at lw_m7 222 rfl) rfl
theorem q1724 : (Jvm.Cond.selects "TileServerModel" ({ cls := "TileServerModel", name := "dropPoint", desc := "(II)I" } : Jvm.MethodName) ({ cls := "TileServerModel", name := "dropPoint", desc := "(II)I" } : Jvm.MethodName)) ∈ lw_all := lw_g (lw_at lw_m7 223 rfl) rfl
theorem q1725 : (Jvm.Cond.code ({ cls := "TileServerModel", name := "dropPoint", desc := "(II)I" } : Jvm.MethodName) prog_18_method_35_code (6 : Nat) (Option.some Jvm.ClassFile.FieldType.int)) ∈ lw_all := lw_g (lw_at lw_m7 224 rfl) rfl
theorem q1727 : (Jvm.Cond.instanceMethod ({ cls := "TileServerModel", name := "addArea", desc := "(IIII)I" } : Jvm.MethodName)) ∈ lw_all := lw_g (lw_at lw_m7 226 rfl) rfl
theorem q1728 : (Jvm.Cond.selects "TileServerModel" ({ cls := "TileServerModel", name := "addArea", desc := "(IIII)I" } : Jvm.MethodName) ({ cls := "TileServerModel", name := "addArea", desc := "(IIII)I" } : Jvm.MethodName)) ∈ lw_all := lw_g (lw_at lw_m7 227 rfl) rfl
theorem q1729 : (Jvm.Cond.code ({ cls := "TileServerModel", name := "addArea", desc := "(IIII)I" } : Jvm.MethodName) prog_18_method_36_code (6 : Nat) (Option.some Jvm.ClassFile.FieldType.int)) ∈ lw_all := lw_g (lw_at lw_m7 228 rfl) rfl
theorem q1730 : (Jvm.Cond.constantLong "TileServerModel" (148 : Nat) (20 : Int64)) ∈ lw_all := lw_g (lw_at lw_m7 229 rfl) rfl
theorem q1731 : (Jvm.Cond.constantLong "TileServerModel" (150 : Nat) (2 : Int64)) ∈ lw_all := lw_g (lw_at lw_m7 230 rfl) rfl
theorem q1733 : (Jvm.Cond.instanceMethod ({ cls := "TileServerModel", name := "moveArea", desc := "(III)I" } : Jvm.MethodName)) ∈ lw_all := lw_g (lw_at lw_m7 232 rfl) rfl
theorem q1734 : (Jvm.Cond.selects "TileServerModel" ({ cls := "TileServerModel", name := "moveArea", desc := "(III)I" } : Jvm.MethodName) ({ cls := "TileServerModel", name := "moveArea", desc := "(III)I" } : Jvm.MethodName)) ∈ lw_all := lw_g (lw_at lw_m7 233 rfl) rfl
theorem q1735 : (Jvm.Cond.code ({ cls := "TileServerModel", name := "moveArea", desc := "(III)I" } : Jvm.MethodName) prog_18_method_37_code (6 : Nat) (Option.some Jvm.ClassFile.FieldType.int)) ∈ lw_all := lw_g (lw_at lw_m7 234 rfl) rfl
theorem q1736 : (Jvm.Cond.methodLink "TileServerModel" (152 : Nat) ({ cls := "TileServerModel", name := "isArea", desc := "(I)Z" } : Jvm.MethodName)) ∈ lw_all := lw_g (lw_at lw_m7 235 rfl) rfl
theorem q1737 : (Jvm.Cond.privateMethod ({ cls := "TileServerModel", name := "isArea", desc := "(I)Z" } : Jvm.MethodName)) ∈ lw_tbl := lw_at lw_m7 236 rfl
theorem q1738 : (Jvm.Cond.instanceMethod ({ cls := "TileServerModel", name := "isArea", desc := "(I)Z" } : Jvm.MethodName)) ∈ lw_all := lw_g (lw_at lw_m7 237 rfl) rfl
theorem q1739 : (Jvm.Cond.code ({ cls := "TileServerModel", name := "isArea", desc := "(I)Z" } : Jvm.MethodName) prog_18_method_31_code (3 : Nat) (Option.some Jvm.ClassFile.FieldType.boolean)) ∈ lw_all := lw_g (lw_at lw_m7 238 rfl) rfl
theorem q1741 : (Jvm.Cond.instanceMethod ({ cls := "TileServerModel", name := "remove", desc := "(I)I" } : Jvm.MethodName)) ∈ lw_all := lw_g (lw_at lw_m8 0 rfl) rfl
theorem q1742 : (Jvm.Cond.selects "TileServerModel" ({ cls := "TileServerModel", name := "remove", desc := "(I)I" } : Jvm.MethodName) ({ cls := "TileServerModel", name := "remove", desc := "(I)I" } : Jvm.MethodName)) ∈ lw_all := lw_g (lw_at lw_m8 1 rfl) rfl
theorem q1743 : (Jvm.Cond.code ({ cls := "TileServerModel", name := "remove", desc := "(I)I" } : Jvm.MethodName) prog_18_method_38_code (4 : Nat) (Option.some Jvm.ClassFile.FieldType.int)) ∈ lw_all := lw_g (lw_at lw_m8 2 rfl) rfl
theorem q1745 : (Jvm.Cond.instanceMethod ({ cls := "TileServerModel", name := "setLabel", desc := "(III)I" } : Jvm.MethodName)) ∈ lw_all := lw_g (lw_at lw_m8 4 rfl) rfl
theorem q1746 : (Jvm.Cond.selects "TileServerModel" ({ cls := "TileServerModel", name := "setLabel", desc := "(III)I" } : Jvm.MethodName) ({ cls := "TileServerModel", name := "setLabel", desc := "(III)I" } : Jvm.MethodName)) ∈ lw_all := lw_g (lw_at lw_m8 5 rfl) rfl
theorem q1747 : (Jvm.Cond.code ({ cls := "TileServerModel", name := "setLabel", desc := "(III)I" } : Jvm.MethodName) prog_18_method_39_code (6 : Nat) (Option.some Jvm.ClassFile.FieldType.int)) ∈ lw_all := lw_g (lw_at lw_m8 6 rfl) rfl
theorem q1748 : (Jvm.Cond.constantLong "TileServerModel" (155 : Nat) (8 : Int64)) ∈ lw_all := lw_g (lw_at lw_m8 7 rfl) rfl
theorem q1749 : (Jvm.Cond.constantLong "TileServerModel" (157 : Nat) (9 : Int64)) ∈ lw_all := lw_g (lw_at lw_m8 8 rfl) rfl
theorem q1751 : (Jvm.Cond.instanceMethod ({ cls := "TileServerModel", name := "setTolerance", desc := "(II)I" } : Jvm.MethodName)) ∈ lw_all := lw_g (lw_at lw_m8 10 rfl) rfl
theorem q1752 : (Jvm.Cond.selects "TileServerModel" ({ cls := "TileServerModel", name := "setTolerance", desc := "(II)I" } : Jvm.MethodName) ({ cls := "TileServerModel", name := "setTolerance", desc := "(II)I" } : Jvm.MethodName)) ∈ lw_all := lw_g (lw_at lw_m8 11 rfl) rfl
theorem q1753 : (Jvm.Cond.code ({ cls := "TileServerModel", name := "setTolerance", desc := "(II)I" } : Jvm.MethodName) prog_18_method_40_code (4 : Nat) (Option.some Jvm.ClassFile.FieldType.int)) ∈ lw_all := lw_g (lw_at lw_m8 12 rfl) rfl
theorem q1754 : (Jvm.Cond.methodLink "TileServerModel" (54 : Nat) ({ cls := "TileServerModel", name := "isLevel", desc := "(I)Z" } : Jvm.MethodName)) ∈ lw_all := lw_g (lw_at lw_m8 13 rfl) rfl
theorem q1755 : (Jvm.Cond.static ({ cls := "TileServerModel", name := "isLevel", desc := "(I)Z" } : Jvm.MethodName)) ∈ lw_all := lw_g (lw_at lw_m8 14 rfl) rfl
theorem q1756 : (Jvm.Cond.code ({ cls := "TileServerModel", name := "isLevel", desc := "(I)Z" } : Jvm.MethodName) prog_18_method_9_code (1 : Nat) (Option.some Jvm.ClassFile.FieldType.boolean)) ∈ lw_all := lw_g (lw_at lw_m8 15 rfl) rfl
theorem q1757 : (Jvm.Cond.constantLong "TileServerModel" (52 : Nat) (3 : Int64)) ∈ lw_all := lw_g (lw_at lw_m8 16 rfl) rfl
theorem q1759 : (Jvm.Cond.instanceMethod ({ cls := "TileServerModel", name := "pass", desc := "(I)I" } : Jvm.MethodName)) ∈ lw_all := lw_g (lw_at lw_m8 18 rfl) rfl
theorem q1760 : (Jvm.Cond.selects "TileServerModel" ({ cls := "TileServerModel", name := "pass", desc := "(I)I" } : Jvm.MethodName) ({ cls := "TileServerModel", name := "pass", desc := "(I)I" } : Jvm.MethodName)) ∈ lw_all := lw_g (lw_at lw_m8 19 rfl) rfl
theorem q1761 : (Jvm.Cond.code ({ cls := "TileServerModel", name := "pass", desc := "(I)I" } : Jvm.MethodName) prog_18_method_41_code (4 : Nat) (Option.some Jvm.ClassFile.FieldType.int)) ∈ lw_all := lw_g (lw_at lw_m8 20 rfl) rfl
theorem q1762 : (Jvm.Cond.constantLong "TileServerModel" (159 : Nat) (99 : Int64)) ∈ lw_all := lw_g (lw_at lw_m8 21 rfl) rfl
theorem q1764 : (Jvm.Cond.instanceMethod ({ cls := "TileServerModel", name := "clock", desc := "()I" } : Jvm.MethodName)) ∈ lw_all := lw_g (lw_at lw_m8 23 rfl) rfl
theorem q1765 : (Jvm.Cond.selects "TileServerModel" ({ cls := "TileServerModel", name := "clock", desc := "()I" } : Jvm.MethodName) ({ cls := "TileServerModel", name := "clock", desc := "()I" } : Jvm.MethodName)) ∈ lw_all := lw_g (lw_at lw_m8 24 rfl) rfl
theorem q1766 : (Jvm.Cond.code ({ cls := "TileServerModel", name := "clock", desc := "()I" } : Jvm.MethodName) prog_18_method_42_code (1 : Nat) (Option.some Jvm.ClassFile.FieldType.int)) ∈ lw_all := lw_g (lw_at lw_m8 25 rfl) rfl
theorem q1768 : (Jvm.Cond.instanceMethod ({ cls := "TileServerModel", name := "shapes", desc := "()I" } : Jvm.MethodName)) ∈ lw_all := lw_g (lw_at lw_m8 27 rfl) rfl
theorem q1769 : (Jvm.Cond.selects "TileServerModel" ({ cls := "TileServerModel", name := "shapes", desc := "()I" } : Jvm.MethodName) ({ cls := "TileServerModel", name := "shapes", desc := "()I" } : Jvm.MethodName)) ∈ lw_all := lw_g (lw_at lw_m8 28 rfl) rfl
theorem q1770 : (Jvm.Cond.code ({ cls := "TileServerModel", name := "shapes", desc := "()I" } : Jvm.MethodName) prog_18_method_43_code (1 : Nat) (Option.some Jvm.ClassFile.FieldType.int)) ∈ lw_all := lw_g (lw_at lw_m8 29 rfl) rfl
theorem q1772 : (Jvm.Cond.instanceMethod ({ cls := "TileServerModel", name := "kindOf", desc := "(I)C" } : Jvm.MethodName)) ∈ lw_all := lw_g (lw_at lw_m8 31 rfl) rfl
theorem q1773 : (Jvm.Cond.selects "TileServerModel" ({ cls := "TileServerModel", name := "kindOf", desc := "(I)C" } : Jvm.MethodName) ({ cls := "TileServerModel", name := "kindOf", desc := "(I)C" } : Jvm.MethodName)) ∈ lw_all := lw_g (lw_at lw_m8 32 rfl) rfl
theorem q1774 : (Jvm.Cond.code ({ cls := "TileServerModel", name := "kindOf", desc := "(I)C" } : Jvm.MethodName) prog_18_method_44_code (3 : Nat) (Option.some Jvm.ClassFile.FieldType.char)) ∈ lw_all := lw_g (lw_at lw_m8 33 rfl) rfl
theorem q1776 : (Jvm.Cond.instanceMethod ({ cls := "TileServerModel", name := "points", desc := "(I)I" } : Jvm.MethodName)) ∈ lw_all := lw_g (lw_at lw_m8 35 rfl) rfl
theorem q1777 : (Jvm.Cond.selects "TileServerModel" ({ cls := "TileServerModel", name := "points", desc := "(I)I" } : Jvm.MethodName) ({ cls := "TileServerModel", name := "points", desc := "(I)I" } : Jvm.MethodName)) ∈ lw_all := lw_g (lw_at lw_m8 36 rfl) rfl
theorem q1778 : (Jvm.Cond.code ({ cls := "TileServerModel", name := "points", desc := "(I)I" } : Jvm.MethodName) prog_18_method_45_code (2 : Nat) (Option.some Jvm.ClassFile.FieldType.int)) ∈ lw_all := lw_g (lw_at lw_m8 37 rfl) rfl
theorem q1780 : (Jvm.Cond.instanceMethod ({ cls := "TileServerModel", name := "xOf", desc := "(II)I" } : Jvm.MethodName)) ∈ lw_all := lw_g (lw_at lw_m8 39 rfl) rfl
theorem q1781 : (Jvm.Cond.selects "TileServerModel" ({ cls := "TileServerModel", name := "xOf", desc := "(II)I" } : Jvm.MethodName) ({ cls := "TileServerModel", name := "xOf", desc := "(II)I" } : Jvm.MethodName)) ∈ lw_all := lw_g (lw_at lw_m8 40 rfl) rfl
theorem q1782 : (Jvm.Cond.code ({ cls := "TileServerModel", name := "xOf", desc := "(II)I" } : Jvm.MethodName) prog_18_method_46_code (3 : Nat) (Option.some Jvm.ClassFile.FieldType.int)) ∈ lw_all := lw_g (lw_at lw_m8 41 rfl) rfl
theorem q1784 : (Jvm.Cond.instanceMethod ({ cls := "TileServerModel", name := "yOf", desc := "(II)I" } : Jvm.MethodName)) ∈ lw_all := lw_g (lw_at lw_m8 43 rfl) rfl
theorem q1785 : (Jvm.Cond.selects "TileServerModel" ({ cls := "TileServerModel", name := "yOf", desc := "(II)I" } : Jvm.MethodName) ({ cls := "TileServerModel", name := "yOf", desc := "(II)I" } : Jvm.MethodName)) ∈ lw_all := lw_g (lw_at lw_m8 44 rfl) rfl
theorem q1786 : (Jvm.Cond.code ({ cls := "TileServerModel", name := "yOf", desc := "(II)I" } : Jvm.MethodName) prog_18_method_47_code (3 : Nat) (Option.some Jvm.ClassFile.FieldType.int)) ∈ lw_all := lw_g (lw_at lw_m8 45 rfl) rfl
theorem q1788 : (Jvm.Cond.instanceMethod ({ cls := "TileServerModel", name := "isKept", desc := "(III)Z" } : Jvm.MethodName)) ∈ lw_all := lw_g (lw_at lw_m8 47 rfl) rfl
theorem q1789 : (Jvm.Cond.selects "TileServerModel" ({ cls := "TileServerModel", name := "isKept", desc := "(III)Z" } : Jvm.MethodName) ({ cls := "TileServerModel", name := "isKept", desc := "(III)Z" } : Jvm.MethodName)) ∈ lw_all := lw_g (lw_at lw_m8 48 rfl) rfl
theorem q1790 : (Jvm.Cond.code ({ cls := "TileServerModel", name := "isKept", desc := "(III)Z" } : Jvm.MethodName) prog_18_method_48_code (4 : Nat) (Option.some Jvm.ClassFile.FieldType.boolean)) ∈ lw_all := lw_g (lw_at lw_m8 49 rfl) rfl
theorem q1791 : (Jvm.Cond.methodLink "TileServerModel" (105 : Nat) ({ cls := "TileServerModel", name := "kept", desc := "(II)I" } : Jvm.MethodName)) ∈ lw_all := lw_g (lw_at lw_m8 50 rfl) rfl
theorem q1792 : (Jvm.Cond.privateMethod ({ cls := "TileServerModel", name := "kept", desc := "(II)I" } : Jvm.MethodName)) ∈ lw_tbl := lw_at lw_m8 51 rfl
theorem q1793 : (Jvm.Cond.instanceMethod ({ cls := "TileServerModel", name := "kept", desc := "(II)I" } : Jvm.MethodName)) ∈ lw_all := lw_g (lw_at lw_m8 52 rfl) rfl
theorem q1794 : (Jvm.Cond.code ({ cls := "TileServerModel", name := "kept", desc := "(II)I" } : Jvm.MethodName) prog_18_method_21_code (8 : Nat) (Option.some Jvm.ClassFile.FieldType.int)) ∈ lw_all := lw_g (lw_at lw_m8 53 rfl) rfl
theorem q1795 : (Jvm.Cond.methodLink "TileServerModel" (98 : Nat) ({ cls := "TileServerModel", name := "nextKept", desc := "(II)I" } : Jvm.MethodName)) ∈ lw_all := lw_g (lw_at lw_m8 54 rfl) rfl
theorem q1796 : (Jvm.Cond.privateMethod ({ cls := "TileServerModel", name := "nextKept", desc := "(II)I" } : Jvm.MethodName)) ∈ lw_tbl := lw_at lw_m8 55 rfl
theorem q1797 : (Jvm.Cond.instanceMethod ({ cls := "TileServerModel", name := "nextKept", desc := "(II)I" } : Jvm.MethodName)) ∈ lw_all := lw_g (lw_at lw_m8 56 rfl) rfl
theorem q1798 : (Jvm.Cond.code ({ cls := "TileServerModel", name := "nextKept", desc := "(II)I" } : Jvm.MethodName) prog_18_method_20_code (4 : Nat) (Option.some Jvm.ClassFile.FieldType.int)) ∈ lw_all := lw_g (lw_at lw_m8 57 rfl) rfl
theorem q1799 : (Jvm.Cond.methodLink "TileServerModel" (101 : Nat) ({ cls := "TileServerModel", name := "farthest", desc := "(IIII)I" } : Jvm.MethodName)) ∈ lw_all := lw_g (lw_at lw_m8 58 rfl) rfl
theorem q1800 : (Jvm.Cond.privateMethod ({ cls := "TileServerModel", name := "farthest", desc := "(IIII)I" } : Jvm.MethodName)) ∈ lw_tbl := lw_at lw_m8 59 rfl
theorem q1801 : (Jvm.Cond.instanceMethod ({ cls := "TileServerModel", name := "farthest", desc := "(IIII)I" } : Jvm.MethodName)) ∈ lw_all := lw_g (lw_at lw_m8 60 rfl) rfl
theorem q1802 : (Jvm.Cond.code ({ cls := "TileServerModel", name := "farthest", desc := "(IIII)I" } : Jvm.MethodName) prog_18_method_19_code (10 : Nat) (Option.some Jvm.ClassFile.FieldType.int)) ∈ lw_all := lw_g (lw_at lw_m8 61 rfl) rfl
theorem q1803 : (Jvm.Cond.methodLink "TileServerModel" (87 : Nat) ({ cls := "TileServerModel", name := "squared", desc := "(III)I" } : Jvm.MethodName)) ∈ lw_all := lw_g (lw_at lw_m8 62 rfl) rfl
theorem q1804 : (Jvm.Cond.privateMethod ({ cls := "TileServerModel", name := "squared", desc := "(III)I" } : Jvm.MethodName)) ∈ lw_tbl := lw_at lw_m8 63 rfl
theorem q1805 : (Jvm.Cond.instanceMethod ({ cls := "TileServerModel", name := "squared", desc := "(III)I" } : Jvm.MethodName)) ∈ lw_all := lw_g (lw_at lw_m8 64 rfl) rfl
theorem q1806 : (Jvm.Cond.code ({ cls := "TileServerModel", name := "squared", desc := "(III)I" } : Jvm.MethodName) prog_18_method_18_code (6 : Nat) (Option.some Jvm.ClassFile.FieldType.int)) ∈ lw_all := lw_g (lw_at lw_m8 65 rfl) rfl
theorem q1807 : (Jvm.Cond.methodLink "TileServerModel" (91 : Nat) ({ cls := "TileServerModel", name := "cross", desc := "(IIIII)I" } : Jvm.MethodName)) ∈ lw_all := lw_g (lw_at lw_m8 66 rfl) rfl
theorem q1808 : (Jvm.Cond.privateMethod ({ cls := "TileServerModel", name := "cross", desc := "(IIIII)I" } : Jvm.MethodName)) ∈ lw_tbl := lw_at lw_m8 67 rfl
theorem q1809 : (Jvm.Cond.instanceMethod ({ cls := "TileServerModel", name := "cross", desc := "(IIIII)I" } : Jvm.MethodName)) ∈ lw_all := lw_g (lw_at lw_m8 68 rfl) rfl
theorem q1810 : (Jvm.Cond.code ({ cls := "TileServerModel", name := "cross", desc := "(IIIII)I" } : Jvm.MethodName) prog_18_method_17_code (6 : Nat) (Option.some Jvm.ClassFile.FieldType.int)) ∈ lw_all := lw_g (lw_at lw_m8 69 rfl) rfl
theorem q1811 : (Jvm.Cond.methodLink "TileServerModel" (95 : Nat) ({ cls := "java/lang/Math", name := "abs", desc := "(I)I" } : Jvm.MethodName)) ∈ lw_all := lw_g (lw_at lw_m8 70 rfl) rfl
theorem q1813 : (Jvm.Cond.instanceMethod ({ cls := "TileServerModel", name := "isKeptByMarks", desc := "(III)Z" } : Jvm.MethodName)) ∈ lw_all := lw_g (lw_at lw_m8 72 rfl) rfl
theorem q1814 : (Jvm.Cond.selects "TileServerModel" ({ cls := "TileServerModel", name := "isKeptByMarks", desc := "(III)Z" } : Jvm.MethodName) ({ cls := "TileServerModel", name := "isKeptByMarks", desc := "(III)Z" } : Jvm.MethodName)) ∈ lw_all := lw_g (lw_at lw_m8 73 rfl) rfl
theorem q1815 : (Jvm.Cond.code ({ cls := "TileServerModel", name := "isKeptByMarks", desc := "(III)Z" } : Jvm.MethodName) prog_18_method_49_code (4 : Nat) (Option.some Jvm.ClassFile.FieldType.boolean)) ∈ lw_all := lw_g (lw_at lw_m8 74 rfl) rfl
theorem q1816 : (Jvm.Cond.methodLink "TileServerModel" (164 : Nat) ({ cls := "TileServerModel", name := "isKept", desc := "(III)Z" } : Jvm.MethodName)) ∈ lw_all := lw_g (lw_at lw_m8 75 rfl) rfl
theorem q1818 : (Jvm.Cond.instanceMethod ({ cls := "TileServerModel", name := "keptPoints", desc := "(II)I" } : Jvm.MethodName)) ∈ lw_all := lw_g (lw_at lw_m8 77 rfl) rfl
theorem q1819 : (Jvm.Cond.selects "TileServerModel" ({ cls := "TileServerModel", name := "keptPoints", desc := "(II)I" } : Jvm.MethodName) ({ cls := "TileServerModel", name := "keptPoints", desc := "(II)I" } : Jvm.MethodName)) ∈ lw_all := lw_g (lw_at lw_m8 78 rfl) rfl
theorem q1820 : (Jvm.Cond.code ({ cls := "TileServerModel", name := "keptPoints", desc := "(II)I" } : Jvm.MethodName) prog_18_method_51_code (3 : Nat) (Option.some Jvm.ClassFile.FieldType.int)) ∈ lw_all := lw_g (lw_at lw_m8 79 rfl) rfl
theorem q1821 : (Jvm.Cond.methodLink "TileServerModel" (173 : Nat) ({ cls := "TileServerModel", name := "keptMany", desc := "(II)I" } : Jvm.MethodName)) ∈ lw_all := lw_g (lw_at lw_m8 80 rfl) rfl
theorem q1822 : (Jvm.Cond.privateMethod ({ cls := "TileServerModel", name := "keptMany", desc := "(II)I" } : Jvm.MethodName)) ∈ lw_tbl := lw_at lw_m8 81 rfl
theorem q1823 : (Jvm.Cond.instanceMethod ({ cls := "TileServerModel", name := "keptMany", desc := "(II)I" } : Jvm.MethodName)) ∈ lw_all := lw_g (lw_at lw_m8 82 rfl) rfl
theorem q1824 : (Jvm.Cond.code ({ cls := "TileServerModel", name := "keptMany", desc := "(II)I" } : Jvm.MethodName) prog_18_method_50_code (3 : Nat) (Option.some Jvm.ClassFile.FieldType.int)) ∈ lw_all := lw_g (lw_at lw_m8 83 rfl) rfl
theorem q1825 : (Jvm.Cond.methodLink "TileServerModel" (168 : Nat) ({ cls := "java/lang/Integer", name := "bitCount", desc := "(I)I" } : Jvm.MethodName)) ∈ lw_all := lw_g (lw_at lw_m8 84 rfl) rfl
theorem q1832 : (Jvm.Cond.instanceMethod ({ cls := "TileServerModel", name := "cellAt", desc := "(IIIII)I" } : Jvm.MethodName)) ∈ lw_all := lw_g (lw_at lw_m8 91 rfl) rfl
theorem q1833 : (Jvm.Cond.selects "TileServerModel" ({ cls := "TileServerModel", name := "cellAt", desc := "(IIIII)I" } : Jvm.MethodName) ({ cls := "TileServerModel", name := "cellAt", desc := "(IIIII)I" } : Jvm.MethodName)) ∈ lw_all := lw_g (lw_at lw_m8 92 rfl) rfl
theorem q1834 : (Jvm.Cond.code ({ cls := "TileServerModel", name := "cellAt", desc := "(IIIII)I" } : Jvm.MethodName) prog_18_method_53_code (9 : Nat) (Option.some Jvm.ClassFile.FieldType.int)) ∈ lw_all := lw_g (lw_at lw_m8 93 rfl) rfl
theorem q1835 : (Jvm.Cond.methodLink "TileServerModel" (181 : Nat) ({ cls := "TileServerModel", name := "isCell", desc := "(IIIII)Z" } : Jvm.MethodName)) ∈ lw_all := lw_g (lw_at lw_m8 94 rfl) rfl
theorem q1836 : (Jvm.Cond.privateMethod ({ cls := "TileServerModel", name := "isCell", desc := "(IIIII)Z" } : Jvm.MethodName)) ∈ lw_tbl := lw_at lw_m8 95 rfl
theorem q1837 : (Jvm.Cond.instanceMethod ({ cls := "TileServerModel", name := "isCell", desc := "(IIIII)Z" } : Jvm.MethodName)) ∈ lw_all := lw_g (lw_at lw_m8 96 rfl) rfl
theorem q1838 : (Jvm.Cond.code ({ cls := "TileServerModel", name := "isCell", desc := "(IIIII)Z" } : Jvm.MethodName) prog_18_method_52_code (6 : Nat) (Option.some Jvm.ClassFile.FieldType.boolean)) ∈ lw_all := lw_g (lw_at lw_m8 97 rfl) rfl
theorem q1839 : (Jvm.Cond.methodLink "TileServerModel" (176 : Nat) ({ cls := "TileServerModel", name := "isTile", desc := "(III)Z" } : Jvm.MethodName)) ∈ lw_all := lw_g (lw_at lw_m8 98 rfl) rfl
theorem q1840 : (Jvm.Cond.static ({ cls := "TileServerModel", name := "isTile", desc := "(III)Z" } : Jvm.MethodName)) ∈ lw_all := lw_g (lw_at lw_m8 99 rfl) rfl
theorem q1841 : (Jvm.Cond.code ({ cls := "TileServerModel", name := "isTile", desc := "(III)Z" } : Jvm.MethodName) prog_18_method_10_code (3 : Nat) (Option.some Jvm.ClassFile.FieldType.boolean)) ∈ lw_all := lw_g (lw_at lw_m8 100 rfl) rfl
theorem q1842 : (Jvm.Cond.constantLong "TileServerModel" (179 : Nat) (7 : Int64)) ∈ lw_all := lw_g (lw_at lw_m8 101 rfl) rfl
theorem q1843 : (Jvm.Cond.methodLink "TileServerModel" (184 : Nat) ({ cls := "TileServerModel", name := "heldAt", desc := "(III)I" } : Jvm.MethodName)) ∈ lw_all := lw_g (lw_at lw_m8 102 rfl) rfl
theorem q1844 : (Jvm.Cond.privateMethod ({ cls := "TileServerModel", name := "heldAt", desc := "(III)I" } : Jvm.MethodName)) ∈ lw_tbl := lw_at lw_m8 103 rfl
theorem q1845 : (Jvm.Cond.instanceMethod ({ cls := "TileServerModel", name := "heldAt", desc := "(III)I" } : Jvm.MethodName)) ∈ lw_all := lw_g (lw_at lw_m8 104 rfl) rfl
theorem q1846 : (Jvm.Cond.code ({ cls := "TileServerModel", name := "heldAt", desc := "(III)I" } : Jvm.MethodName) prog_18_method_12_code (5 : Nat) (Option.some Jvm.ClassFile.FieldType.int)) ∈ lw_all := lw_g (lw_at lw_m8 105 rfl) rfl
theorem q1847 : (Jvm.Cond.methodLink "TileServerModel" (194 : Nat) ({ cls := "TileServerModel", name := "drawing", desc := "(IIIII)I" } : Jvm.MethodName)) ∈ lw_all := lw_g (lw_at lw_m8 106 rfl) rfl
theorem q1848 : (Jvm.Cond.privateMethod ({ cls := "TileServerModel", name := "drawing", desc := "(IIIII)I" } : Jvm.MethodName)) ∈ lw_tbl := lw_at lw_m8 107 rfl
theorem q1849 : (Jvm.Cond.instanceMethod ({ cls := "TileServerModel", name := "drawing", desc := "(IIIII)I" } : Jvm.MethodName)) ∈ lw_all := lw_g (lw_at lw_m8 108 rfl) rfl
theorem q1850 : (Jvm.Cond.code ({ cls := "TileServerModel", name := "drawing", desc := "(IIIII)I" } : Jvm.MethodName) prog_18_method_26_code (11 : Nat) (Option.some Jvm.ClassFile.FieldType.int)) ∈ lw_all := lw_g (lw_at lw_m8 109 rfl) rfl
theorem q1851 : (Jvm.Cond.methodLink "TileServerModel" (119 : Nat) ({ cls := "TileServerModel", name := "shows", desc := "(IIIIII)Z" } : Jvm.MethodName)) ∈ lw_all := lw_g (lw_at lw_m8 110 rfl) rfl
theorem q1852 : (Jvm.Cond.privateMethod ({ cls := "TileServerModel", name := "shows", desc := "(IIIIII)Z" } : Jvm.MethodName)) ∈ lw_tbl := lw_at lw_m8 111 rfl
theorem q1853 : (Jvm.Cond.instanceMethod ({ cls := "TileServerModel", name := "shows", desc := "(IIIIII)Z" } : Jvm.MethodName)) ∈ lw_all := lw_g (lw_at lw_m8 112 rfl) rfl
theorem q1854 : (Jvm.Cond.code ({ cls := "TileServerModel", name := "shows", desc := "(IIIIII)Z" } : Jvm.MethodName) prog_18_method_25_code (9 : Nat) (Option.some Jvm.ClassFile.FieldType.boolean)) ∈ lw_all := lw_g (lw_at lw_m8 113 rfl) rfl
theorem q1855 : (Jvm.Cond.methodLink "TileServerModel" (112 : Nat) ({ cls := "TileServerModel", name := "met", desc := "(IIIIII)I" } : Jvm.MethodName)) ∈ lw_all := lw_g (lw_at lw_m8 114 rfl) rfl
theorem q1856 : (Jvm.Cond.privateMethod ({ cls := "TileServerModel", name := "met", desc := "(IIIIII)I" } : Jvm.MethodName)) ∈ lw_tbl := lw_at lw_m8 115 rfl
theorem q1857 : (Jvm.Cond.instanceMethod ({ cls := "TileServerModel", name := "met", desc := "(IIIIII)I" } : Jvm.MethodName)) ∈ lw_all := lw_g (lw_at lw_m8 116 rfl) rfl
theorem q1858 : (Jvm.Cond.code ({ cls := "TileServerModel", name := "met", desc := "(IIIIII)I" } : Jvm.MethodName) prog_18_method_23_code (11 : Nat) (Option.some Jvm.ClassFile.FieldType.int)) ∈ lw_all := lw_g (lw_at lw_m8 117 rfl) rfl
theorem q1859 : (Jvm.Cond.methodLink "TileServerModel" (108 : Nat) ({ cls := "TileServerModel", name := "meets", desc := "(IIIIIII)Z" } : Jvm.MethodName)) ∈ lw_all := lw_g (lw_at lw_m8 118 rfl) rfl
theorem q1860 : (Jvm.Cond.privateMethod ({ cls := "TileServerModel", name := "meets", desc := "(IIIIIII)Z" } : Jvm.MethodName)) ∈ lw_tbl := lw_at lw_m8 119 rfl
theorem q1861 : (Jvm.Cond.instanceMethod ({ cls := "TileServerModel", name := "meets", desc := "(IIIIIII)Z" } : Jvm.MethodName)) ∈ lw_all := lw_g (lw_at lw_m8 120 rfl) rfl
theorem q1862 : (Jvm.Cond.code ({ cls := "TileServerModel", name := "meets", desc := "(IIIIIII)Z" } : Jvm.MethodName) prog_18_method_22_code (13 : Nat) (Option.some Jvm.ClassFile.FieldType.boolean)) ∈ lw_all := lw_g (lw_at lw_m8 121 rfl) rfl
theorem q1863 : (Jvm.Cond.methodLink "TileServerModel" (116 : Nat) ({ cls := "TileServerModel", name := "between", desc := "(III)I" } : Jvm.MethodName)) ∈ lw_all := lw_g (lw_at lw_m8 122 rfl) rfl
theorem q1864 : (Jvm.Cond.static ({ cls := "TileServerModel", name := "between", desc := "(III)I" } : Jvm.MethodName)) ∈ lw_all := lw_g (lw_at lw_m8 123 rfl) rfl
theorem q1865 : (Jvm.Cond.code ({ cls := "TileServerModel", name := "between", desc := "(III)I" } : Jvm.MethodName) prog_18_method_24_code (3 : Nat) (Option.some Jvm.ClassFile.FieldType.int)) ∈ lw_all := lw_g (lw_at lw_m8 124 rfl) rfl
theorem q1866 : (Jvm.Cond.methodLink "TileServerModel" (200 : Nat) ({ cls := "TileServerModel", name := "holds", desc := "(IIII)V" } : Jvm.MethodName)) ∈ lw_all := lw_g (lw_at lw_m8 125 rfl) rfl
theorem q1867 : (Jvm.Cond.privateMethod ({ cls := "TileServerModel", name := "holds", desc := "(IIII)V" } : Jvm.MethodName)) ∈ lw_tbl := lw_at lw_m8 126 rfl
theorem q1868 : (Jvm.Cond.instanceMethod ({ cls := "TileServerModel", name := "holds", desc := "(IIII)V" } : Jvm.MethodName)) ∈ lw_all := lw_g (lw_at lw_m8 127 rfl) rfl
theorem q1869 : (Jvm.Cond.code ({ cls := "TileServerModel", name := "holds", desc := "(IIII)V" } : Jvm.MethodName) prog_18_method_14_code (5 : Nat) (Option.none : Option Jvm.ClassFile.FieldType)) ∈ lw_all := lw_g (lw_at lw_m8 128 rfl) rfl
theorem q1871 : (Jvm.Cond.instanceMethod ({ cls := "TileServerModel", name := "cellByDrawing", desc := "(IIIII)I" } : Jvm.MethodName)) ∈ lw_all := lw_g (lw_at lw_m8 130 rfl) rfl
theorem q1872 : (Jvm.Cond.selects "TileServerModel" ({ cls := "TileServerModel", name := "cellByDrawing", desc := "(IIIII)I" } : Jvm.MethodName) ({ cls := "TileServerModel", name := "cellByDrawing", desc := "(IIIII)I" } : Jvm.MethodName)) ∈ lw_all := lw_g (lw_at lw_m8 131 rfl) rfl
theorem q1873 : (Jvm.Cond.code ({ cls := "TileServerModel", name := "cellByDrawing", desc := "(IIIII)I" } : Jvm.MethodName) prog_18_method_54_code (6 : Nat) (Option.some Jvm.ClassFile.FieldType.int)) ∈ lw_all := lw_g (lw_at lw_m8 132 rfl) rfl
theorem q1875 : (Jvm.Cond.instanceMethod ({ cls := "TileServerModel", name := "isCached", desc := "(III)Z" } : Jvm.MethodName)) ∈ lw_all := lw_g (lw_at lw_m8 134 rfl) rfl
theorem q1876 : (Jvm.Cond.selects "TileServerModel" ({ cls := "TileServerModel", name := "isCached", desc := "(III)Z" } : Jvm.MethodName) ({ cls := "TileServerModel", name := "isCached", desc := "(III)Z" } : Jvm.MethodName)) ∈ lw_all := lw_g (lw_at lw_m8 135 rfl) rfl
theorem q1877 : (Jvm.Cond.code ({ cls := "TileServerModel", name := "isCached", desc := "(III)Z" } : Jvm.MethodName) prog_18_method_55_code (4 : Nat) (Option.some Jvm.ClassFile.FieldType.boolean)) ∈ lw_all := lw_g (lw_at lw_m8 136 rfl) rfl
theorem q1879 : (Jvm.Cond.instanceMethod ({ cls := "TileServerModel", name := "ageOf", desc := "(III)I" } : Jvm.MethodName)) ∈ lw_all := lw_g (lw_at lw_m8 138 rfl) rfl
theorem q1880 : (Jvm.Cond.selects "TileServerModel" ({ cls := "TileServerModel", name := "ageOf", desc := "(III)I" } : Jvm.MethodName) ({ cls := "TileServerModel", name := "ageOf", desc := "(III)I" } : Jvm.MethodName)) ∈ lw_all := lw_g (lw_at lw_m8 139 rfl) rfl
theorem q1881 : (Jvm.Cond.code ({ cls := "TileServerModel", name := "ageOf", desc := "(III)I" } : Jvm.MethodName) prog_18_method_56_code (5 : Nat) (Option.some Jvm.ClassFile.FieldType.int)) ∈ lw_all := lw_g (lw_at lw_m8 140 rfl) rfl
theorem q1883 : (Jvm.Cond.instanceMethod ({ cls := "TileServerModel", name := "cached", desc := "()I" } : Jvm.MethodName)) ∈ lw_all := lw_g (lw_at lw_m8 142 rfl) rfl
theorem q1884 : (Jvm.Cond.selects "TileServerModel" ({ cls := "TileServerModel", name := "cached", desc := "()I" } : Jvm.MethodName) ({ cls := "TileServerModel", name := "cached", desc := "()I" } : Jvm.MethodName)) ∈ lw_all := lw_g (lw_at lw_m8 143 rfl) rfl
theorem q1885 : (Jvm.Cond.code ({ cls := "TileServerModel", name := "cached", desc := "()I" } : Jvm.MethodName) prog_18_method_57_code (1 : Nat) (Option.some Jvm.ClassFile.FieldType.int)) ∈ lw_all := lw_g (lw_at lw_m8 144 rfl) rfl
theorem q1887 : (Jvm.Cond.instanceMethod ({ cls := "TileServerModel", name := "misses", desc := "()I" } : Jvm.MethodName)) ∈ lw_all := lw_g (lw_at lw_m8 146 rfl) rfl
theorem q1888 : (Jvm.Cond.selects "TileServerModel" ({ cls := "TileServerModel", name := "misses", desc := "()I" } : Jvm.MethodName) ({ cls := "TileServerModel", name := "misses", desc := "()I" } : Jvm.MethodName)) ∈ lw_all := lw_g (lw_at lw_m8 147 rfl) rfl
theorem q1889 : (Jvm.Cond.code ({ cls := "TileServerModel", name := "misses", desc := "()I" } : Jvm.MethodName) prog_18_method_58_code (1 : Nat) (Option.some Jvm.ClassFile.FieldType.int)) ∈ lw_all := lw_g (lw_at lw_m8 148 rfl) rfl
theorem q1891 : (Jvm.Cond.instanceMethod ({ cls := "TileServerModel", name := "hitShare", desc := "()F" } : Jvm.MethodName)) ∈ lw_all := lw_g (lw_at lw_m8 150 rfl) rfl
theorem q1892 : (Jvm.Cond.selects "TileServerModel" ({ cls := "TileServerModel", name := "hitShare", desc := "()F" } : Jvm.MethodName) ({ cls := "TileServerModel", name := "hitShare", desc := "()F" } : Jvm.MethodName)) ∈ lw_all := lw_g (lw_at lw_m8 151 rfl) rfl
theorem q1893 : (Jvm.Cond.code ({ cls := "TileServerModel", name := "hitShare", desc := "()F" } : Jvm.MethodName) prog_18_method_59_code (1 : Nat) (Option.some Jvm.ClassFile.FieldType.float)) ∈ lw_all := lw_g (lw_at lw_m8 152 rfl) rfl
theorem q1895 : (Jvm.Cond.instanceMethod ({ cls := "TileServerModel", name := "areaIn", desc := "(IIII)I" } : Jvm.MethodName)) ∈ lw_all := lw_g (lw_at lw_m8 154 rfl) rfl
theorem q1896 : (Jvm.Cond.selects "TileServerModel" ({ cls := "TileServerModel", name := "areaIn", desc := "(IIII)I" } : Jvm.MethodName) ({ cls := "TileServerModel", name := "areaIn", desc := "(IIII)I" } : Jvm.MethodName)) ∈ lw_all := lw_g (lw_at lw_m8 155 rfl) rfl
theorem q1897 : (Jvm.Cond.code ({ cls := "TileServerModel", name := "areaIn", desc := "(IIII)I" } : Jvm.MethodName) prog_18_method_61_code (10 : Nat) (Option.some Jvm.ClassFile.FieldType.int)) ∈ lw_all := lw_g (lw_at lw_m8 156 rfl) rfl
theorem q1898 : (Jvm.Cond.methodLink "TileServerModel" (204 : Nat) ({ cls := "TileServerModel", name := "isIn", desc := "(III)Z" } : Jvm.MethodName)) ∈ lw_all := lw_g (lw_at lw_m8 157 rfl) rfl
theorem q1899 : (Jvm.Cond.privateMethod ({ cls := "TileServerModel", name := "isIn", desc := "(III)Z" } : Jvm.MethodName)) ∈ lw_tbl := lw_at lw_m8 158 rfl
theorem q1900 : (Jvm.Cond.instanceMethod ({ cls := "TileServerModel", name := "isIn", desc := "(III)Z" } : Jvm.MethodName)) ∈ lw_all := lw_g (lw_at lw_m8 159 rfl) rfl
theorem q1901 : (Jvm.Cond.code ({ cls := "TileServerModel", name := "isIn", desc := "(III)Z" } : Jvm.MethodName) prog_18_method_60_code (6 : Nat) (Option.some Jvm.ClassFile.FieldType.boolean)) ∈ lw_all := lw_g (lw_at lw_m8 160 rfl) rfl
theorem q1903 : (Jvm.Cond.instanceMethod ({ cls := "TileServerModel", name := "areaByQuarters", desc := "(IIII)I" } : Jvm.MethodName)) ∈ lw_all := lw_g (lw_at lw_m8 162 rfl) rfl
theorem q1904 : (Jvm.Cond.selects "TileServerModel" ({ cls := "TileServerModel", name := "areaByQuarters", desc := "(IIII)I" } : Jvm.MethodName) ({ cls := "TileServerModel", name := "areaByQuarters", desc := "(IIII)I" } : Jvm.MethodName)) ∈ lw_all := lw_g (lw_at lw_m8 163 rfl) rfl
theorem q1905 : (Jvm.Cond.code ({ cls := "TileServerModel", name := "areaByQuarters", desc := "(IIII)I" } : Jvm.MethodName) prog_18_method_62_code (5 : Nat) (Option.some Jvm.ClassFile.FieldType.int)) ∈ lw_all := lw_g (lw_at lw_m8 164 rfl) rfl
theorem q1906 : (Jvm.Cond.methodLink "TileServerModel" (207 : Nat) ({ cls := "TileServerModel", name := "areaIn", desc := "(IIII)I" } : Jvm.MethodName)) ∈ lw_all := lw_g (lw_at lw_m8 165 rfl) rfl
theorem q1908 : (Jvm.Cond.instanceMethod ({ cls := "TileServerModel", name := "crossesRight", desc := "(IIII)I" } : Jvm.MethodName)) ∈ lw_all := lw_g (lw_at lw_m8 167 rfl) rfl
theorem q1909 : (Jvm.Cond.selects "TileServerModel" ({ cls := "TileServerModel", name := "crossesRight", desc := "(IIII)I" } : Jvm.MethodName) ({ cls := "TileServerModel", name := "crossesRight", desc := "(IIII)I" } : Jvm.MethodName)) ∈ lw_all := lw_g (lw_at lw_m8 168 rfl) rfl
theorem q1910 : (Jvm.Cond.code ({ cls := "TileServerModel", name := "crossesRight", desc := "(IIII)I" } : Jvm.MethodName) prog_18_method_64_code (5 : Nat) (Option.some Jvm.ClassFile.FieldType.int)) ∈ lw_all := lw_g (lw_at lw_m8 169 rfl) rfl
theorem q1911 : (Jvm.Cond.methodLink "TileServerModel" (210 : Nat) ({ cls := "TileServerModel", name := "crosses", desc := "(IIIII)I" } : Jvm.MethodName)) ∈ lw_all := lw_g (lw_at lw_m8 170 rfl) rfl
theorem q1912 : (Jvm.Cond.privateMethod ({ cls := "TileServerModel", name := "crosses", desc := "(IIIII)I" } : Jvm.MethodName)) ∈ lw_tbl := lw_at lw_m8 171 rfl
theorem q1913 : (Jvm.Cond.instanceMethod ({ cls := "TileServerModel", name := "crosses", desc := "(IIIII)I" } : Jvm.MethodName)) ∈ lw_all := lw_g (lw_at lw_m8 172 rfl) rfl
theorem q1914 : (Jvm.Cond.code ({ cls := "TileServerModel", name := "crosses", desc := "(IIIII)I" } : Jvm.MethodName) prog_18_method_63_code (12 : Nat) (Option.some Jvm.ClassFile.FieldType.int)) ∈ lw_all := lw_g (lw_at lw_m8 173 rfl) rfl
theorem q1916 : (Jvm.Cond.instanceMethod ({ cls := "TileServerModel", name := "crossesLeft", desc := "(IIII)I" } : Jvm.MethodName)) ∈ lw_all := lw_g (lw_at lw_m8 175 rfl) rfl
theorem q1917 : (Jvm.Cond.selects "TileServerModel" ({ cls := "TileServerModel", name := "crossesLeft", desc := "(IIII)I" } : Jvm.MethodName) ({ cls := "TileServerModel", name := "crossesLeft", desc := "(IIII)I" } : Jvm.MethodName)) ∈ lw_all := lw_g (lw_at lw_m8 176 rfl) rfl
theorem q1918 : (Jvm.Cond.code ({ cls := "TileServerModel", name := "crossesLeft", desc := "(IIII)I" } : Jvm.MethodName) prog_18_method_65_code (5 : Nat) (Option.some Jvm.ClassFile.FieldType.int)) ∈ lw_all := lw_g (lw_at lw_m8 177 rfl) rfl
theorem q1920 : (Jvm.Cond.instanceMethod ({ cls := "TileServerModel", name := "segmentsIn", desc := "(III)I" } : Jvm.MethodName)) ∈ lw_all := lw_g (lw_at lw_m8 179 rfl) rfl
theorem q1921 : (Jvm.Cond.selects "TileServerModel" ({ cls := "TileServerModel", name := "segmentsIn", desc := "(III)I" } : Jvm.MethodName) ({ cls := "TileServerModel", name := "segmentsIn", desc := "(III)I" } : Jvm.MethodName)) ∈ lw_all := lw_g (lw_at lw_m8 180 rfl) rfl
theorem q1922 : (Jvm.Cond.code ({ cls := "TileServerModel", name := "segmentsIn", desc := "(III)I" } : Jvm.MethodName) prog_18_method_66_code (7 : Nat) (Option.some Jvm.ClassFile.FieldType.int)) ∈ lw_all := lw_g (lw_at lw_m8 181 rfl) rfl
theorem q1924 : (Jvm.Cond.instanceMethod ({ cls := "TileServerModel", name := "placeOf", desc := "(II)C" } : Jvm.MethodName)) ∈ lw_all := lw_g (lw_at lw_m8 183 rfl) rfl
theorem q1925 : (Jvm.Cond.selects "TileServerModel" ({ cls := "TileServerModel", name := "placeOf", desc := "(II)C" } : Jvm.MethodName) ({ cls := "TileServerModel", name := "placeOf", desc := "(II)C" } : Jvm.MethodName)) ∈ lw_all := lw_g (lw_at lw_m8 184 rfl) rfl
theorem q1926 : (Jvm.Cond.code ({ cls := "TileServerModel", name := "placeOf", desc := "(II)C" } : Jvm.MethodName) prog_18_method_72_code (3 : Nat) (Option.some Jvm.ClassFile.FieldType.char)) ∈ lw_all := lw_g (lw_at lw_m8 185 rfl) rfl
theorem q1927 : (Jvm.Cond.methodLink "TileServerModel" (227 : Nat) ({ cls := "TileServerModel", name := "isAsked", desc := "(II)Z" } : Jvm.MethodName)) ∈ lw_all := lw_g (lw_at lw_m8 186 rfl) rfl
theorem q1928 : (Jvm.Cond.privateMethod ({ cls := "TileServerModel", name := "isAsked", desc := "(II)Z" } : Jvm.MethodName)) ∈ lw_tbl := lw_at lw_m8 187 rfl
theorem q1929 : (Jvm.Cond.instanceMethod ({ cls := "TileServerModel", name := "isAsked", desc := "(II)Z" } : Jvm.MethodName)) ∈ lw_all := lw_g (lw_at lw_m8 188 rfl) rfl
theorem q1930 : (Jvm.Cond.code ({ cls := "TileServerModel", name := "isAsked", desc := "(II)Z" } : Jvm.MethodName) prog_18_method_71_code (4 : Nat) (Option.some Jvm.ClassFile.FieldType.boolean)) ∈ lw_all := lw_g (lw_at lw_m8 189 rfl) rfl
theorem q1931 : (Jvm.Cond.methodLink "TileServerModel" (224 : Nat) ({ cls := "TileServerModel", name := "laysAll", desc := "(I)I" } : Jvm.MethodName)) ∈ lw_all := lw_g (lw_at lw_m8 190 rfl) rfl
theorem q1932 : (Jvm.Cond.privateMethod ({ cls := "TileServerModel", name := "laysAll", desc := "(I)I" } : Jvm.MethodName)) ∈ lw_tbl := lw_at lw_m8 191 rfl
theorem q1933 : (Jvm.Cond.instanceMethod ({ cls := "TileServerModel", name := "laysAll", desc := "(I)I" } : Jvm.MethodName)) ∈ lw_all := lw_g (lw_at lw_m8 192 rfl) rfl
theorem q1934 : (Jvm.Cond.code ({ cls := "TileServerModel", name := "laysAll", desc := "(I)I" } : Jvm.MethodName) prog_18_method_70_code (7 : Nat) (Option.some Jvm.ClassFile.FieldType.int)) ∈ lw_all := lw_g (lw_at lw_m8 193 rfl) rfl
theorem q1935 : (Jvm.Cond.methodLink "TileServerModel" (220 : Nat) ({ cls := "TileServerModel", name := "lays", desc := "(III)V" } : Jvm.MethodName)) ∈ lw_all := lw_g (lw_at lw_m8 194 rfl) rfl
theorem q1936 : (Jvm.Cond.privateMethod ({ cls := "TileServerModel", name := "lays", desc := "(III)V" } : Jvm.MethodName)) ∈ lw_tbl := lw_at lw_m8 195 rfl
theorem q1937 : (Jvm.Cond.instanceMethod ({ cls := "TileServerModel", name := "lays", desc := "(III)V" } : Jvm.MethodName)) ∈ lw_all := lw_g (lw_at lw_m8 196 rfl) rfl
theorem q1938 : (Jvm.Cond.code ({ cls := "TileServerModel", name := "lays", desc := "(III)V" } : Jvm.MethodName) prog_18_method_69_code (10 : Nat) (Option.none : Option Jvm.ClassFile.FieldType)) ∈ lw_all := lw_g (lw_at lw_m8 197 rfl) rfl
theorem q1939 : (Jvm.Cond.methodLink "TileServerModel" (213 : Nat) ({ cls := "TileServerModel", name := "middle", desc := "(I[I)I" } : Jvm.MethodName)) ∈ lw_all := lw_g (lw_at lw_m8 198 rfl) rfl
theorem q1940 : (Jvm.Cond.privateMethod ({ cls := "TileServerModel", name := "middle", desc := "(I[I)I" } : Jvm.MethodName)) ∈ lw_tbl := lw_at lw_m8 199 rfl
theorem q1941 : (Jvm.Cond.instanceMethod ({ cls := "TileServerModel", name := "middle", desc := "(I[I)I" } : Jvm.MethodName)) ∈ lw_all := lw_g (lw_at lw_m8 200 rfl) rfl
theorem q1942 : (Jvm.Cond.code ({ cls := "TileServerModel", name := "middle", desc := "(I[I)I" } : Jvm.MethodName) prog_18_method_67_code (6 : Nat) (Option.some Jvm.ClassFile.FieldType.int)) ∈ lw_all := lw_g (lw_at lw_m8 201 rfl) rfl
theorem q1943 : (Jvm.Cond.methodLink "TileServerModel" (217 : Nat) ({ cls := "TileServerModel", name := "mayBe", desc := "(IIIII)Z" } : Jvm.MethodName)) ∈ lw_all := lw_g (lw_at lw_m8 202 rfl) rfl
theorem q1944 : (Jvm.Cond.privateMethod ({ cls := "TileServerModel", name := "mayBe", desc := "(IIIII)Z" } : Jvm.MethodName)) ∈ lw_tbl := lw_at lw_m8 203 rfl
theorem q1945 : (Jvm.Cond.instanceMethod ({ cls := "TileServerModel", name := "mayBe", desc := "(IIIII)Z" } : Jvm.MethodName)) ∈ lw_all := lw_g (lw_at lw_m8 204 rfl) rfl
theorem q1946 : (Jvm.Cond.code ({ cls := "TileServerModel", name := "mayBe", desc := "(IIIII)Z" } : Jvm.MethodName) prog_18_method_68_code (11 : Nat) (Option.some Jvm.ClassFile.FieldType.boolean)) ∈ lw_all := lw_g (lw_at lw_m8 205 rfl) rfl
theorem q1948 : (Jvm.Cond.instanceMethod ({ cls := "TileServerModel", name := "labelLeft", desc := "(II)I" } : Jvm.MethodName)) ∈ lw_all := lw_g (lw_at lw_m8 207 rfl) rfl
theorem q1949 : (Jvm.Cond.selects "TileServerModel" ({ cls := "TileServerModel", name := "labelLeft", desc := "(II)I" } : Jvm.MethodName) ({ cls := "TileServerModel", name := "labelLeft", desc := "(II)I" } : Jvm.MethodName)) ∈ lw_all := lw_g (lw_at lw_m8 208 rfl) rfl
theorem q1950 : (Jvm.Cond.code ({ cls := "TileServerModel", name := "labelLeft", desc := "(II)I" } : Jvm.MethodName) prog_18_method_74_code (3 : Nat) (Option.some Jvm.ClassFile.FieldType.int)) ∈ lw_all := lw_g (lw_at lw_m8 209 rfl) rfl
theorem q1951 : (Jvm.Cond.methodLink "TileServerModel" (230 : Nat) ({ cls := "TileServerModel", name := "isShown", desc := "(II)Z" } : Jvm.MethodName)) ∈ lw_all := lw_g (lw_at lw_m8 210 rfl) rfl
theorem q1952 : (Jvm.Cond.privateMethod ({ cls := "TileServerModel", name := "isShown", desc := "(II)Z" } : Jvm.MethodName)) ∈ lw_tbl := lw_at lw_m8 211 rfl
theorem q1953 : (Jvm.Cond.instanceMethod ({ cls := "TileServerModel", name := "isShown", desc := "(II)Z" } : Jvm.MethodName)) ∈ lw_all := lw_g (lw_at lw_m8 212 rfl) rfl
theorem q1954 : (Jvm.Cond.code ({ cls := "TileServerModel", name := "isShown", desc := "(II)Z" } : Jvm.MethodName) prog_18_method_73_code (3 : Nat) (Option.some Jvm.ClassFile.FieldType.boolean)) ∈ lw_all := lw_g (lw_at lw_m8 213 rfl) rfl
theorem q1956 : (Jvm.Cond.instanceMethod ({ cls := "TileServerModel", name := "labelLow", desc := "(II)I" } : Jvm.MethodName)) ∈ lw_all := lw_g (lw_at lw_m8 215 rfl) rfl
theorem q1957 : (Jvm.Cond.selects "TileServerModel" ({ cls := "TileServerModel", name := "labelLow", desc := "(II)I" } : Jvm.MethodName) ({ cls := "TileServerModel", name := "labelLow", desc := "(II)I" } : Jvm.MethodName)) ∈ lw_all := lw_g (lw_at lw_m8 216 rfl) rfl
theorem q1958 : (Jvm.Cond.code ({ cls := "TileServerModel", name := "labelLow", desc := "(II)I" } : Jvm.MethodName) prog_18_method_75_code (3 : Nat) (Option.some Jvm.ClassFile.FieldType.int)) ∈ lw_all := lw_g (lw_at lw_m8 217 rfl) rfl
theorem q1960 : (Jvm.Cond.instanceMethod ({ cls := "TileServerModel", name := "shownLabels", desc := "(I)I" } : Jvm.MethodName)) ∈ lw_all := lw_g (lw_at lw_m8 219 rfl) rfl
theorem q1961 : (Jvm.Cond.selects "TileServerModel" ({ cls := "TileServerModel", name := "shownLabels", desc := "(I)I" } : Jvm.MethodName) ({ cls := "TileServerModel", name := "shownLabels", desc := "(I)I" } : Jvm.MethodName)) ∈ lw_all := lw_g (lw_at lw_m8 220 rfl) rfl
theorem q1962 : (Jvm.Cond.code ({ cls := "TileServerModel", name := "shownLabels", desc := "(I)I" } : Jvm.MethodName) prog_18_method_76_code (2 : Nat) (Option.some Jvm.ClassFile.FieldType.int)) ∈ lw_all := lw_g (lw_at lw_m8 221 rfl) rfl
theorem q1964 : (Jvm.Cond.instanceMethod ({ cls := "TileServerModel", name := "drawn", desc := "()J" } : Jvm.MethodName)) ∈ lw_all := lw_g (lw_at lw_m8 223 rfl) rfl
theorem q1965 : (Jvm.Cond.selects "TileServerModel" ({ cls := "TileServerModel", name := "drawn", desc := "()J" } : Jvm.MethodName) ({ cls := "TileServerModel", name := "drawn", desc := "()J" } : Jvm.MethodName)) ∈ lw_all := lw_g (lw_at lw_m8 224 rfl) rfl
theorem q1966 : (Jvm.Cond.code ({ cls := "TileServerModel", name := "drawn", desc := "()J" } : Jvm.MethodName) prog_18_method_77_code (1 : Nat) (Option.some Jvm.ClassFile.FieldType.long)) ∈ lw_all := lw_g (lw_at lw_m8 225 rfl) rfl
theorem q1968 : (Jvm.Cond.instanceMethod ({ cls := "TileServerModel", name := "meanKept", desc := "(I)D" } : Jvm.MethodName)) ∈ lw_all := lw_g (lw_at lw_m8 227 rfl) rfl
theorem q1969 : (Jvm.Cond.selects "TileServerModel" ({ cls := "TileServerModel", name := "meanKept", desc := "(I)D" } : Jvm.MethodName) ({ cls := "TileServerModel", name := "meanKept", desc := "(I)D" } : Jvm.MethodName)) ∈ lw_all := lw_g (lw_at lw_m8 228 rfl) rfl
theorem q1970 : (Jvm.Cond.code ({ cls := "TileServerModel", name := "meanKept", desc := "(I)D" } : Jvm.MethodName) prog_18_method_78_code (5 : Nat) (Option.some Jvm.ClassFile.FieldType.double)) ∈ lw_all := lw_g (lw_at lw_m8 229 rfl) rfl
theorem q1972 : (Jvm.Cond.instanceMethod ({ cls := "TileServerModel", name := "isFresh", desc := "()Z" } : Jvm.MethodName)) ∈ lw_all := lw_g (lw_at lw_m8 231 rfl) rfl
theorem q1973 : (Jvm.Cond.selects "TileServerModel" ({ cls := "TileServerModel", name := "isFresh", desc := "()Z" } : Jvm.MethodName) ({ cls := "TileServerModel", name := "isFresh", desc := "()Z" } : Jvm.MethodName)) ∈ lw_all := lw_g (lw_at lw_m8 232 rfl) rfl
theorem q1974 : (Jvm.Cond.code ({ cls := "TileServerModel", name := "isFresh", desc := "()Z" } : Jvm.MethodName) prog_18_method_79_code (1 : Nat) (Option.some Jvm.ClassFile.FieldType.boolean)) ∈ lw_all := lw_g (lw_at lw_m8 233 rfl) rfl
theorem q1998 : (Jvm.Cond.castable "TileServerModel" "java/lang/Object") ∈ lw_tbl := lw_at lw_m9 17 rfl
theorem in_X4 : ∀ w ∈ wsX40, w ∈ lw_all := lw_in wsX40 [1616, 1618, 1620, 1622, 1624, 1626, 1628, 1630, 1632, 1634, 1636, 1638, 1640, 1642, 1644, 1646] (by decide +kernel) (by decide +kernel)
