/-! TileServer -/
set_option maxRecDepth 100000
def RX1 : String := "TileServer"
def TX1 : u_T := fun k => match k with
  | 0 => ("TileServer", "shapes", "Ljava/util/List;", true)
  | 1 => ("TileServer", "cache", "Ljava/util/List;", true)
  | 2 => ("TileServer", "tolerances", "[I", true)
  | 3 => ("TileServer", "ways", "[LTileServer$Way;", true)
  | 4 => ("TileServer", "map", "LTileServer$Box;", true)
  | 5 => ("TileServer", "lastNumber", "I", false)
  | 6 => ("TileServer", "clock", "I", false)
  | 7 => ("TileServer", "hits", "I", false)
  | 8 => ("TileServer", "misses", "I", false)
  | _ => ("TileServer", "drawn", "J", false)
def tyX1 : Nat → FieldType := fun k => match k with
  | 0 => .object "java/util/List"
  | 1 => .object "java/util/List"
  | 2 => .array .int
  | 3 => .array (.object "TileServer$Way")
  | 4 => .object "TileServer$Box"
  | 5 => .int
  | 6 => .int
  | 7 => .int
  | 8 => .int
  | _ => .long
abbrev wsX10 : List Cond := u_ws RX1 TX1 10
theorem nmX1 : ∀ a, a < 10 → ∀ b, b < 10 → a ≠ b → (TX1 a).2.1 ≠ (TX1 b).2.1 := by decide +kernel
theorem tyX1_ok : ∀ k, k < 10 → parseFieldDescriptor (TX1 k).2.2.1 = some (tyX1 k) := by decide +kernel
abbrev cX1_init : ByteArray := prog_1_method_1_code
def yX1_init : MethodName := ⟨RX1, "<init>", "()V"⟩
def dkwX1_init_2 : List UInt8 := [181, 0, 19, 42, 184, 0, 23, 181, 0, 29, 42, 3, 3, 17, 0, 128, 184, 0, 33, 181, 0, 39, 177]
abbrev dktX1_init_2 : List UInt8 := dkwX1_init_2 ++ []
def dkwX1_init_1 : List UInt8 := [181, 0, 16, 42, 7, 188, 10, 89, 3, 7, 79, 89, 4, 5, 79, 89, 5, 4, 79, 89, 6, 3, 79]
abbrev dktX1_init_1 : List UInt8 := dkwX1_init_1 ++ dktX1_init_2
def dkwX1_init_0 : List UInt8 := [42, 183, 0, 1, 42, 187, 0, 7, 89, 183, 0, 9, 181, 0, 10, 42, 187, 0, 7, 89, 183, 0, 9]
abbrev dktX1_init_0 : List UInt8 := dkwX1_init_0 ++ dktX1_init_1
theorem dksX1_init_0 : cX1_init.data.toList.drop 0 = dktX1_init_0 := by decide +kernel
theorem dksX1_init_1 : cX1_init.data.toList.drop 23 = dktX1_init_1 := dk_seg dksX1_init_0 23 rfl rfl
theorem dksX1_init_2 : cX1_init.data.toList.drop 46 = dktX1_init_2 := dk_seg dksX1_init_1 23 rfl rfl
theorem dX1_init_0 : decode cX1_init 0 = .ok (.aload_n 0, 1) := dk_42 (dk_at dksX1_init_0 0 rfl rfl)
theorem dX1_init_1 : decode cX1_init 1 = .ok (.invokespecial 1, 3) := dk_183 0 1 (dk_at dksX1_init_0 1 rfl rfl)
theorem dX1_init_4 : decode cX1_init 4 = .ok (.aload_n 0, 1) := dk_42 (dk_at dksX1_init_0 4 rfl rfl)
theorem dX1_init_5 : decode cX1_init 5 = .ok (.new 7, 3) := dk_187 0 7 (dk_at dksX1_init_0 5 rfl rfl)
theorem dX1_init_8 : decode cX1_init 8 = .ok (.dup, 1) := dk_89 (dk_at dksX1_init_0 8 rfl rfl)
theorem dX1_init_9 : decode cX1_init 9 = .ok (.invokespecial 9, 3) := dk_183 0 9 (dk_at dksX1_init_0 9 rfl rfl)
theorem dX1_init_12 : decode cX1_init 12 = .ok (.putfield 10, 3) := dk_181 0 10 (dk_at dksX1_init_0 12 rfl rfl)
theorem dX1_init_15 : decode cX1_init 15 = .ok (.aload_n 0, 1) := dk_42 (dk_at dksX1_init_0 15 rfl rfl)
theorem dX1_init_16 : decode cX1_init 16 = .ok (.new 7, 3) := dk_187 0 7 (dk_at dksX1_init_0 16 rfl rfl)
theorem dX1_init_19 : decode cX1_init 19 = .ok (.dup, 1) := dk_89 (dk_at dksX1_init_0 19 rfl rfl)
theorem dX1_init_20 : decode cX1_init 20 = .ok (.invokespecial 9, 3) := dk_183 0 9 (dk_at dksX1_init_0 20 rfl rfl)
theorem dX1_init_23 : decode cX1_init 23 = .ok (.putfield 16, 3) := dk_181 0 16 (dk_at dksX1_init_1 0 rfl rfl)
theorem dX1_init_26 : decode cX1_init 26 = .ok (.aload_n 0, 1) := dk_42 (dk_at dksX1_init_1 3 rfl rfl)
theorem dX1_init_27 : decode cX1_init 27 = .ok (.iconst 4, 1) := dk_7 (dk_at dksX1_init_1 4 rfl rfl)
theorem dX1_init_28 : decode cX1_init 28 = .ok (.newarray .int, 2) := dk_188_10 (dk_at dksX1_init_1 5 rfl rfl)
theorem dX1_init_30 : decode cX1_init 30 = .ok (.dup, 1) := dk_89 (dk_at dksX1_init_1 7 rfl rfl)
theorem dX1_init_31 : decode cX1_init 31 = .ok (.iconst 0, 1) := dk_3 (dk_at dksX1_init_1 8 rfl rfl)
theorem dX1_init_32 : decode cX1_init 32 = .ok (.iconst 4, 1) := dk_7 (dk_at dksX1_init_1 9 rfl rfl)
theorem dX1_init_33 : decode cX1_init 33 = .ok (.iastore, 1) := dk_79 (dk_at dksX1_init_1 10 rfl rfl)
theorem dX1_init_34 : decode cX1_init 34 = .ok (.dup, 1) := dk_89 (dk_at dksX1_init_1 11 rfl rfl)
theorem dX1_init_35 : decode cX1_init 35 = .ok (.iconst 1, 1) := dk_4 (dk_at dksX1_init_1 12 rfl rfl)
theorem dX1_init_36 : decode cX1_init 36 = .ok (.iconst 2, 1) := dk_5 (dk_at dksX1_init_1 13 rfl rfl)
theorem dX1_init_37 : decode cX1_init 37 = .ok (.iastore, 1) := dk_79 (dk_at dksX1_init_1 14 rfl rfl)
theorem dX1_init_38 : decode cX1_init 38 = .ok (.dup, 1) := dk_89 (dk_at dksX1_init_1 15 rfl rfl)
theorem dX1_init_39 : decode cX1_init 39 = .ok (.iconst 2, 1) := dk_5 (dk_at dksX1_init_1 16 rfl rfl)
theorem dX1_init_40 : decode cX1_init 40 = .ok (.iconst 1, 1) := dk_4 (dk_at dksX1_init_1 17 rfl rfl)
theorem dX1_init_41 : decode cX1_init 41 = .ok (.iastore, 1) := dk_79 (dk_at dksX1_init_1 18 rfl rfl)
theorem dX1_init_42 : decode cX1_init 42 = .ok (.dup, 1) := dk_89 (dk_at dksX1_init_1 19 rfl rfl)
theorem dX1_init_43 : decode cX1_init 43 = .ok (.iconst 3, 1) := dk_6 (dk_at dksX1_init_1 20 rfl rfl)
theorem dX1_init_44 : decode cX1_init 44 = .ok (.iconst 0, 1) := dk_3 (dk_at dksX1_init_1 21 rfl rfl)
theorem dX1_init_45 : decode cX1_init 45 = .ok (.iastore, 1) := dk_79 (dk_at dksX1_init_1 22 rfl rfl)
theorem dX1_init_46 : decode cX1_init 46 = .ok (.putfield 19, 3) := dk_181 0 19 (dk_at dksX1_init_2 0 rfl rfl)
theorem dX1_init_49 : decode cX1_init 49 = .ok (.aload_n 0, 1) := dk_42 (dk_at dksX1_init_2 3 rfl rfl)
theorem dX1_init_50 : decode cX1_init 50 = .ok (.invokestatic 23, 3) := dk_184 0 23 (dk_at dksX1_init_2 4 rfl rfl)
theorem dX1_init_53 : decode cX1_init 53 = .ok (.putfield 29, 3) := dk_181 0 29 (dk_at dksX1_init_2 7 rfl rfl)
theorem dX1_init_56 : decode cX1_init 56 = .ok (.aload_n 0, 1) := dk_42 (dk_at dksX1_init_2 10 rfl rfl)
theorem dX1_init_57 : decode cX1_init 57 = .ok (.iconst 0, 1) := dk_3 (dk_at dksX1_init_2 11 rfl rfl)
theorem dX1_init_58 : decode cX1_init 58 = .ok (.iconst 0, 1) := dk_3 (dk_at dksX1_init_2 12 rfl rfl)
theorem dX1_init_59 : decode cX1_init 59 = .ok (.sipush 128, 3) := dk_17 0 128 (dk_at dksX1_init_2 13 rfl rfl)
theorem dX1_init_62 : decode cX1_init 62 = .ok (.invokestatic 33, 3) := dk_184 0 33 (dk_at dksX1_init_2 16 rfl rfl)
theorem dX1_init_65 : decode cX1_init 65 = .ok (.putfield 39, 3) := dk_181 0 39 (dk_at dksX1_init_2 19 rfl rfl)
theorem dX1_init_68 : decode cX1_init 68 = .ok (.return_, 1) := dk_177 (dk_at dksX1_init_2 22 rfl rfl)
abbrev cX1_clock : ByteArray := prog_1_method_29_code
def yX1_clock : MethodName := ⟨RX1, "clock", "()I"⟩
theorem dX1_clock_0 : decode cX1_clock 0 = .ok (.aload_n 0, 1) := by decide +kernel
theorem dX1_clock_1 : decode cX1_clock 1 = .ok (.getfield 195, 3) := by decide +kernel
theorem dX1_clock_4 : decode cX1_clock 4 = .ok (.ireturn, 1) := by decide +kernel
abbrev cX1_shapes : ByteArray := prog_1_method_30_code
def yX1_shapes : MethodName := ⟨RX1, "shapes", "()I"⟩
def dkwX1_shapes_0 : List UInt8 := [42, 180, 0, 10, 185, 0, 104, 1, 0, 172]
abbrev dktX1_shapes_0 : List UInt8 := dkwX1_shapes_0 ++ []
theorem dksX1_shapes_0 : cX1_shapes.data.toList.drop 0 = dktX1_shapes_0 := by decide +kernel
theorem dX1_shapes_0 : decode cX1_shapes 0 = .ok (.aload_n 0, 1) := dk_42 (dk_at dksX1_shapes_0 0 rfl rfl)
theorem dX1_shapes_1 : decode cX1_shapes 1 = .ok (.getfield 10, 3) := dk_180 0 10 (dk_at dksX1_shapes_0 1 rfl rfl)
theorem dX1_shapes_4 : decode cX1_shapes 4 = .ok (.invokeinterface 104 1, 5) := by decide +kernel
theorem dX1_shapes_9 : decode cX1_shapes 9 = .ok (.ireturn, 1) := dk_172 (dk_at dksX1_shapes_0 9 rfl rfl)
abbrev cX1_cached : ByteArray := prog_1_method_46_code
def yX1_cached : MethodName := ⟨RX1, "cached", "()I"⟩
def dkwX1_cached_0 : List UInt8 := [42, 180, 0, 16, 185, 0, 104, 1, 0, 172]
abbrev dktX1_cached_0 : List UInt8 := dkwX1_cached_0 ++ []
theorem dksX1_cached_0 : cX1_cached.data.toList.drop 0 = dktX1_cached_0 := by decide +kernel
theorem dX1_cached_0 : decode cX1_cached 0 = .ok (.aload_n 0, 1) := dk_42 (dk_at dksX1_cached_0 0 rfl rfl)
theorem dX1_cached_1 : decode cX1_cached 1 = .ok (.getfield 16, 3) := dk_180 0 16 (dk_at dksX1_cached_0 1 rfl rfl)
theorem dX1_cached_4 : decode cX1_cached 4 = .ok (.invokeinterface 104 1, 5) := by decide +kernel
theorem dX1_cached_9 : decode cX1_cached 9 = .ok (.ireturn, 1) := dk_172 (dk_at dksX1_cached_0 9 rfl rfl)
abbrev cX1_misses : ByteArray := prog_1_method_47_code
def yX1_misses : MethodName := ⟨RX1, "misses", "()I"⟩
theorem dX1_misses_0 : decode cX1_misses 0 = .ok (.aload_n 0, 1) := by decide +kernel
theorem dX1_misses_1 : decode cX1_misses 1 = .ok (.getfield 250, 3) := by decide +kernel
theorem dX1_misses_4 : decode cX1_misses 4 = .ok (.ireturn, 1) := by decide +kernel
abbrev cX1_drawn : ByteArray := prog_1_method_65_code
def yX1_drawn : MethodName := ⟨RX1, "drawn", "()J"⟩
theorem dX1_drawn_0 : decode cX1_drawn 0 = .ok (.aload_n 0, 1) := by decide +kernel
theorem dX1_drawn_1 : decode cX1_drawn 1 = .ok (.getfield 256, 3) := by decide +kernel
theorem dX1_drawn_4 : decode cX1_drawn 4 = .ok (.lreturn, 1) := by decide +kernel
abbrev cX1_isFresh : ByteArray := prog_1_method_67_code
def yX1_isFresh : MethodName := ⟨RX1, "isFresh", "()Z"⟩
def dkwX1_isFresh_3 : List UInt8 := [180, 1, 114, 21, 4, 46, 159, 0, 5, 3, 172, 132, 4, 1, 167, 255, 230, 167, 255, 185, 4, 172]
abbrev dktX1_isFresh_3 : List UInt8 := dkwX1_isFresh_3 ++ []
def dkwX1_isFresh_2 : List UInt8 := [182, 0, 253, 180, 1, 114, 78, 3, 54, 4, 21, 4, 45, 190, 162, 0, 25, 45, 21, 4, 46, 44]
abbrev dktX1_isFresh_2 : List UInt8 := dkwX1_isFresh_2 ++ dktX1_isFresh_3
def dkwX1_isFresh_1 : List UInt8 := [185, 0, 76, 1, 0, 192, 0, 112, 77, 42, 44, 180, 0, 192, 44, 180, 1, 108, 44, 180, 1, 111]
abbrev dktX1_isFresh_1 : List UInt8 := dkwX1_isFresh_1 ++ dktX1_isFresh_2
def dkwX1_isFresh_0 : List UInt8 := [42, 180, 0, 16, 185, 0, 64, 1, 0, 76, 43, 185, 0, 70, 1, 0, 153, 0, 68, 43]
abbrev dktX1_isFresh_0 : List UInt8 := dkwX1_isFresh_0 ++ dktX1_isFresh_1
theorem dksX1_isFresh_0 : cX1_isFresh.data.toList.drop 0 = dktX1_isFresh_0 := by decide +kernel
theorem dksX1_isFresh_1 : cX1_isFresh.data.toList.drop 20 = dktX1_isFresh_1 := dk_seg dksX1_isFresh_0 20 rfl rfl
theorem dksX1_isFresh_2 : cX1_isFresh.data.toList.drop 42 = dktX1_isFresh_2 := dk_seg dksX1_isFresh_1 22 rfl rfl
theorem dksX1_isFresh_3 : cX1_isFresh.data.toList.drop 64 = dktX1_isFresh_3 := dk_seg dksX1_isFresh_2 22 rfl rfl
theorem dX1_isFresh_0 : decode cX1_isFresh 0 = .ok (.aload_n 0, 1) := dk_42 (dk_at dksX1_isFresh_0 0 rfl rfl)
theorem dX1_isFresh_1 : decode cX1_isFresh 1 = .ok (.getfield 16, 3) := dk_180 0 16 (dk_at dksX1_isFresh_0 1 rfl rfl)
theorem dX1_isFresh_4 : decode cX1_isFresh 4 = .ok (.invokeinterface 64 1, 5) := by decide +kernel
theorem dX1_isFresh_9 : decode cX1_isFresh 9 = .ok (.astore_n 1, 1) := dk_76 (dk_at dksX1_isFresh_0 9 rfl rfl)
theorem dX1_isFresh_10 : decode cX1_isFresh 10 = .ok (.aload_n 1, 1) := dk_43 (dk_at dksX1_isFresh_0 10 rfl rfl)
theorem dX1_isFresh_11 : decode cX1_isFresh 11 = .ok (.invokeinterface 70 1, 5) := by decide +kernel
theorem dX1_isFresh_16 : decode cX1_isFresh 16 = .ok (.ifCond .eq 68, 3) := dk_153 0 68 (dk_at dksX1_isFresh_0 16 rfl rfl)
theorem dX1_isFresh_19 : decode cX1_isFresh 19 = .ok (.aload_n 1, 1) := dk_43 (dk_at dksX1_isFresh_0 19 rfl rfl)
theorem dX1_isFresh_20 : decode cX1_isFresh 20 = .ok (.invokeinterface 76 1, 5) := by decide +kernel
theorem dX1_isFresh_25 : decode cX1_isFresh 25 = .ok (.checkcast 112, 3) := dk_192 0 112 (dk_at dksX1_isFresh_1 5 rfl rfl)
theorem dX1_isFresh_28 : decode cX1_isFresh 28 = .ok (.astore_n 2, 1) := dk_77 (dk_at dksX1_isFresh_1 8 rfl rfl)
theorem dX1_isFresh_29 : decode cX1_isFresh 29 = .ok (.aload_n 0, 1) := dk_42 (dk_at dksX1_isFresh_1 9 rfl rfl)
theorem dX1_isFresh_30 : decode cX1_isFresh 30 = .ok (.aload_n 2, 1) := dk_44 (dk_at dksX1_isFresh_1 10 rfl rfl)
theorem dX1_isFresh_31 : decode cX1_isFresh 31 = .ok (.getfield 192, 3) := dk_180 0 192 (dk_at dksX1_isFresh_1 11 rfl rfl)
theorem dX1_isFresh_34 : decode cX1_isFresh 34 = .ok (.aload_n 2, 1) := dk_44 (dk_at dksX1_isFresh_1 14 rfl rfl)
theorem dX1_isFresh_35 : decode cX1_isFresh 35 = .ok (.getfield 364, 3) := dk_180 1 108 (dk_at dksX1_isFresh_1 15 rfl rfl)
theorem dX1_isFresh_38 : decode cX1_isFresh 38 = .ok (.aload_n 2, 1) := dk_44 (dk_at dksX1_isFresh_1 18 rfl rfl)
theorem dX1_isFresh_39 : decode cX1_isFresh 39 = .ok (.getfield 367, 3) := dk_180 1 111 (dk_at dksX1_isFresh_1 19 rfl rfl)
theorem dX1_isFresh_42 : decode cX1_isFresh 42 = .ok (.invokevirtual 253, 3) := dk_182 0 253 (dk_at dksX1_isFresh_2 0 rfl rfl)
theorem dX1_isFresh_45 : decode cX1_isFresh 45 = .ok (.getfield 370, 3) := dk_180 1 114 (dk_at dksX1_isFresh_2 3 rfl rfl)
theorem dX1_isFresh_48 : decode cX1_isFresh 48 = .ok (.astore_n 3, 1) := dk_78 (dk_at dksX1_isFresh_2 6 rfl rfl)
theorem dX1_isFresh_49 : decode cX1_isFresh 49 = .ok (.iconst 0, 1) := dk_3 (dk_at dksX1_isFresh_2 7 rfl rfl)
theorem dX1_isFresh_50 : decode cX1_isFresh 50 = .ok (.istore 4, 2) := dk_54 4 (dk_at dksX1_isFresh_2 8 rfl rfl)
theorem dX1_isFresh_52 : decode cX1_isFresh 52 = .ok (.iload 4, 2) := dk_21 4 (dk_at dksX1_isFresh_2 10 rfl rfl)
theorem dX1_isFresh_54 : decode cX1_isFresh 54 = .ok (.aload_n 3, 1) := dk_45 (dk_at dksX1_isFresh_2 12 rfl rfl)
theorem dX1_isFresh_55 : decode cX1_isFresh 55 = .ok (.arraylength, 1) := dk_190 (dk_at dksX1_isFresh_2 13 rfl rfl)
theorem dX1_isFresh_56 : decode cX1_isFresh 56 = .ok (.if_icmp .ge 25, 3) := dk_162 0 25 (dk_at dksX1_isFresh_2 14 rfl rfl)
theorem dX1_isFresh_59 : decode cX1_isFresh 59 = .ok (.aload_n 3, 1) := dk_45 (dk_at dksX1_isFresh_2 17 rfl rfl)
theorem dX1_isFresh_60 : decode cX1_isFresh 60 = .ok (.iload 4, 2) := dk_21 4 (dk_at dksX1_isFresh_2 18 rfl rfl)
theorem dX1_isFresh_62 : decode cX1_isFresh 62 = .ok (.iaload, 1) := dk_46 (dk_at dksX1_isFresh_2 20 rfl rfl)
theorem dX1_isFresh_63 : decode cX1_isFresh 63 = .ok (.aload_n 2, 1) := dk_44 (dk_at dksX1_isFresh_2 21 rfl rfl)
theorem dX1_isFresh_64 : decode cX1_isFresh 64 = .ok (.getfield 370, 3) := dk_180 1 114 (dk_at dksX1_isFresh_3 0 rfl rfl)
theorem dX1_isFresh_67 : decode cX1_isFresh 67 = .ok (.iload 4, 2) := dk_21 4 (dk_at dksX1_isFresh_3 3 rfl rfl)
theorem dX1_isFresh_69 : decode cX1_isFresh 69 = .ok (.iaload, 1) := dk_46 (dk_at dksX1_isFresh_3 5 rfl rfl)
theorem dX1_isFresh_70 : decode cX1_isFresh 70 = .ok (.if_icmp .eq 5, 3) := dk_159 0 5 (dk_at dksX1_isFresh_3 6 rfl rfl)
theorem dX1_isFresh_73 : decode cX1_isFresh 73 = .ok (.iconst 0, 1) := dk_3 (dk_at dksX1_isFresh_3 9 rfl rfl)
theorem dX1_isFresh_74 : decode cX1_isFresh 74 = .ok (.ireturn, 1) := dk_172 (dk_at dksX1_isFresh_3 10 rfl rfl)
theorem dX1_isFresh_75 : decode cX1_isFresh 75 = .ok (.iinc 4 1, 3) := dk_132 4 1 (dk_at dksX1_isFresh_3 11 rfl rfl)
theorem dX1_isFresh_78 : decode cX1_isFresh 78 = .ok (.goto (-26), 3) := dk_167 255 230 (dk_at dksX1_isFresh_3 14 rfl rfl)
theorem dX1_isFresh_81 : decode cX1_isFresh 81 = .ok (.goto (-71), 3) := dk_167 255 185 (dk_at dksX1_isFresh_3 17 rfl rfl)
theorem dX1_isFresh_84 : decode cX1_isFresh 84 = .ok (.iconst 1, 1) := dk_4 (dk_at dksX1_isFresh_3 20 rfl rfl)
theorem dX1_isFresh_85 : decode cX1_isFresh 85 = .ok (.ireturn, 1) := dk_172 (dk_at dksX1_isFresh_3 21 rfl rfl)
abbrev cX1_draw : ByteArray := prog_1_method_39_code
def yX1_draw : MethodName := ⟨RX1, "draw", "(III)LTileServer$Tile;"⟩
def dkwX1_draw_3 : List UInt8 := [167, 255, 216, 25, 4, 176]
abbrev dktX1_draw_3 : List UInt8 := dkwX1_draw_3 ++ []
def dkwX1_draw_2 : List UInt8 := [192, 0, 80, 58, 6, 25, 4, 25, 6, 25, 6, 42, 180, 0, 19, 27, 46, 182, 0, 228, 182, 0, 232]
abbrev dktX1_draw_2 : List UInt8 := dkwX1_draw_2 ++ dktX1_draw_3
def dkwX1_draw_1 : List UInt8 := [185, 0, 64, 1, 0, 58, 5, 25, 5, 185, 0, 70, 1, 0, 153, 0, 36, 25, 5, 185, 0, 76, 1, 0]
abbrev dktX1_draw_1 : List UInt8 := dkwX1_draw_1 ++ dktX1_draw_2
def dkwX1_draw_0 : List UInt8 := [187, 0, 112, 89, 27, 28, 29, 42, 180, 0, 195, 183, 0, 225, 58, 4, 42, 180, 0, 10]
abbrev dktX1_draw_0 : List UInt8 := dkwX1_draw_0 ++ dktX1_draw_1
theorem dksX1_draw_0 : cX1_draw.data.toList.drop 0 = dktX1_draw_0 := by decide +kernel
theorem dksX1_draw_1 : cX1_draw.data.toList.drop 20 = dktX1_draw_1 := dk_seg dksX1_draw_0 20 rfl rfl
theorem dksX1_draw_2 : cX1_draw.data.toList.drop 44 = dktX1_draw_2 := dk_seg dksX1_draw_1 24 rfl rfl
theorem dksX1_draw_3 : cX1_draw.data.toList.drop 67 = dktX1_draw_3 := dk_seg dksX1_draw_2 23 rfl rfl
theorem dX1_draw_0 : decode cX1_draw 0 = .ok (.new 112, 3) := dk_187 0 112 (dk_at dksX1_draw_0 0 rfl rfl)
theorem dX1_draw_3 : decode cX1_draw 3 = .ok (.dup, 1) := dk_89 (dk_at dksX1_draw_0 3 rfl rfl)
theorem dX1_draw_4 : decode cX1_draw 4 = .ok (.iload_n 1, 1) := dk_27 (dk_at dksX1_draw_0 4 rfl rfl)
theorem dX1_draw_5 : decode cX1_draw 5 = .ok (.iload_n 2, 1) := dk_28 (dk_at dksX1_draw_0 5 rfl rfl)
theorem dX1_draw_6 : decode cX1_draw 6 = .ok (.iload_n 3, 1) := dk_29 (dk_at dksX1_draw_0 6 rfl rfl)
theorem dX1_draw_7 : decode cX1_draw 7 = .ok (.aload_n 0, 1) := dk_42 (dk_at dksX1_draw_0 7 rfl rfl)
theorem dX1_draw_8 : decode cX1_draw 8 = .ok (.getfield 195, 3) := dk_180 0 195 (dk_at dksX1_draw_0 8 rfl rfl)
theorem dX1_draw_11 : decode cX1_draw 11 = .ok (.invokespecial 225, 3) := dk_183 0 225 (dk_at dksX1_draw_0 11 rfl rfl)
theorem dX1_draw_14 : decode cX1_draw 14 = .ok (.astore 4, 2) := dk_58 4 (dk_at dksX1_draw_0 14 rfl rfl)
theorem dX1_draw_16 : decode cX1_draw 16 = .ok (.aload_n 0, 1) := dk_42 (dk_at dksX1_draw_0 16 rfl rfl)
theorem dX1_draw_17 : decode cX1_draw 17 = .ok (.getfield 10, 3) := dk_180 0 10 (dk_at dksX1_draw_0 17 rfl rfl)
theorem dX1_draw_20 : decode cX1_draw 20 = .ok (.invokeinterface 64 1, 5) := by decide +kernel
theorem dX1_draw_25 : decode cX1_draw 25 = .ok (.astore 5, 2) := dk_58 5 (dk_at dksX1_draw_1 5 rfl rfl)
theorem dX1_draw_27 : decode cX1_draw 27 = .ok (.aload 5, 2) := dk_25 5 (dk_at dksX1_draw_1 7 rfl rfl)
theorem dX1_draw_29 : decode cX1_draw 29 = .ok (.invokeinterface 70 1, 5) := by decide +kernel
theorem dX1_draw_34 : decode cX1_draw 34 = .ok (.ifCond .eq 36, 3) := dk_153 0 36 (dk_at dksX1_draw_1 14 rfl rfl)
theorem dX1_draw_37 : decode cX1_draw 37 = .ok (.aload 5, 2) := dk_25 5 (dk_at dksX1_draw_1 17 rfl rfl)
theorem dX1_draw_39 : decode cX1_draw 39 = .ok (.invokeinterface 76 1, 5) := by decide +kernel
theorem dX1_draw_44 : decode cX1_draw 44 = .ok (.checkcast 80, 3) := dk_192 0 80 (dk_at dksX1_draw_2 0 rfl rfl)
theorem dX1_draw_47 : decode cX1_draw 47 = .ok (.astore 6, 2) := dk_58 6 (dk_at dksX1_draw_2 3 rfl rfl)
theorem dX1_draw_49 : decode cX1_draw 49 = .ok (.aload 4, 2) := dk_25 4 (dk_at dksX1_draw_2 5 rfl rfl)
theorem dX1_draw_51 : decode cX1_draw 51 = .ok (.aload 6, 2) := dk_25 6 (dk_at dksX1_draw_2 7 rfl rfl)
theorem dX1_draw_53 : decode cX1_draw 53 = .ok (.aload 6, 2) := dk_25 6 (dk_at dksX1_draw_2 9 rfl rfl)
theorem dX1_draw_55 : decode cX1_draw 55 = .ok (.aload_n 0, 1) := dk_42 (dk_at dksX1_draw_2 11 rfl rfl)
theorem dX1_draw_56 : decode cX1_draw 56 = .ok (.getfield 19, 3) := dk_180 0 19 (dk_at dksX1_draw_2 12 rfl rfl)
theorem dX1_draw_59 : decode cX1_draw 59 = .ok (.iload_n 1, 1) := dk_27 (dk_at dksX1_draw_2 15 rfl rfl)
theorem dX1_draw_60 : decode cX1_draw 60 = .ok (.iaload, 1) := dk_46 (dk_at dksX1_draw_2 16 rfl rfl)
theorem dX1_draw_61 : decode cX1_draw 61 = .ok (.invokevirtual 228, 3) := dk_182 0 228 (dk_at dksX1_draw_2 17 rfl rfl)
theorem dX1_draw_64 : decode cX1_draw 64 = .ok (.invokevirtual 232, 3) := dk_182 0 232 (dk_at dksX1_draw_2 20 rfl rfl)
theorem dX1_draw_67 : decode cX1_draw 67 = .ok (.goto (-40), 3) := dk_167 255 216 (dk_at dksX1_draw_3 0 rfl rfl)
theorem dX1_draw_70 : decode cX1_draw 70 = .ok (.aload 4, 2) := dk_25 4 (dk_at dksX1_draw_3 3 rfl rfl)
theorem dX1_draw_72 : decode cX1_draw 72 = .ok (.areturn, 1) := dk_176 (dk_at dksX1_draw_3 5 rfl rfl)
abbrev cX1_boxOfTile : ByteArray := prog_1_method_14_code
def yX1_boxOfTile : MethodName := ⟨RX1, "boxOfTile", "(III)LTileServer$Box;"⟩
def dkwX1_boxOfTile_0 : List UInt8 := [26, 184, 0, 100, 27, 104, 26, 184, 0, 100, 28, 104, 26, 184, 0, 100, 184, 0, 33, 176]
abbrev dktX1_boxOfTile_0 : List UInt8 := dkwX1_boxOfTile_0 ++ []
theorem dksX1_boxOfTile_0 : cX1_boxOfTile.data.toList.drop 0 = dktX1_boxOfTile_0 := by decide +kernel
theorem dX1_boxOfTile_0 : decode cX1_boxOfTile 0 = .ok (.iload_n 0, 1) := dk_26 (dk_at dksX1_boxOfTile_0 0 rfl rfl)
theorem dX1_boxOfTile_1 : decode cX1_boxOfTile 1 = .ok (.invokestatic 100, 3) := dk_184 0 100 (dk_at dksX1_boxOfTile_0 1 rfl rfl)
theorem dX1_boxOfTile_4 : decode cX1_boxOfTile 4 = .ok (.iload_n 1, 1) := dk_27 (dk_at dksX1_boxOfTile_0 4 rfl rfl)
theorem dX1_boxOfTile_5 : decode cX1_boxOfTile 5 = .ok (.imul, 1) := dk_104 (dk_at dksX1_boxOfTile_0 5 rfl rfl)
theorem dX1_boxOfTile_6 : decode cX1_boxOfTile 6 = .ok (.iload_n 0, 1) := dk_26 (dk_at dksX1_boxOfTile_0 6 rfl rfl)
theorem dX1_boxOfTile_7 : decode cX1_boxOfTile 7 = .ok (.invokestatic 100, 3) := dk_184 0 100 (dk_at dksX1_boxOfTile_0 7 rfl rfl)
theorem dX1_boxOfTile_10 : decode cX1_boxOfTile 10 = .ok (.iload_n 2, 1) := dk_28 (dk_at dksX1_boxOfTile_0 10 rfl rfl)
theorem dX1_boxOfTile_11 : decode cX1_boxOfTile 11 = .ok (.imul, 1) := dk_104 (dk_at dksX1_boxOfTile_0 11 rfl rfl)
theorem dX1_boxOfTile_12 : decode cX1_boxOfTile 12 = .ok (.iload_n 0, 1) := dk_26 (dk_at dksX1_boxOfTile_0 12 rfl rfl)
theorem dX1_boxOfTile_13 : decode cX1_boxOfTile 13 = .ok (.invokestatic 100, 3) := dk_184 0 100 (dk_at dksX1_boxOfTile_0 13 rfl rfl)
theorem dX1_boxOfTile_16 : decode cX1_boxOfTile 16 = .ok (.invokestatic 33, 3) := dk_184 0 33 (dk_at dksX1_boxOfTile_0 16 rfl rfl)
theorem dX1_boxOfTile_19 : decode cX1_boxOfTile 19 = .ok (.areturn, 1) := dk_176 (dk_at dksX1_boxOfTile_0 19 rfl rfl)
abbrev cX1_sideOfTile : ByteArray := prog_1_method_12_code
def yX1_sideOfTile : MethodName := ⟨RX1, "sideOfTile", "(I)I"⟩
def dkwX1_sideOfTile_0 : List UInt8 := [16, 64, 26, 122, 172]
abbrev dktX1_sideOfTile_0 : List UInt8 := dkwX1_sideOfTile_0 ++ []
theorem dksX1_sideOfTile_0 : cX1_sideOfTile.data.toList.drop 0 = dktX1_sideOfTile_0 := by decide +kernel
theorem dX1_sideOfTile_0 : decode cX1_sideOfTile 0 = .ok (.bipush 64, 2) := dk_16 64 (dk_at dksX1_sideOfTile_0 0 rfl rfl)
theorem dX1_sideOfTile_2 : decode cX1_sideOfTile 2 = .ok (.iload_n 0, 1) := dk_26 (dk_at dksX1_sideOfTile_0 2 rfl rfl)
theorem dX1_sideOfTile_3 : decode cX1_sideOfTile 3 = .ok (.ishr, 1) := dk_122 (dk_at dksX1_sideOfTile_0 3 rfl rfl)
theorem dX1_sideOfTile_4 : decode cX1_sideOfTile 4 = .ok (.ireturn, 1) := dk_172 (dk_at dksX1_sideOfTile_0 4 rfl rfl)
abbrev cX1_crossProduct : ByteArray := prog_1_method_15_code
def yX1_crossProduct : MethodName := ⟨RX1, "crossProduct", "([I[III)I"⟩
def dkwX1_crossProduct_1 : List UInt8 := [100, 104, 100, 172]
abbrev dktX1_crossProduct_1 : List UInt8 := dkwX1_crossProduct_1 ++ []
def dkwX1_crossProduct_0 : List UInt8 := [43, 3, 46, 42, 3, 46, 100, 29, 42, 4, 46, 100, 104, 43, 4, 46, 42, 4, 46, 100, 28, 42, 3, 46]
abbrev dktX1_crossProduct_0 : List UInt8 := dkwX1_crossProduct_0 ++ dktX1_crossProduct_1
theorem dksX1_crossProduct_0 : cX1_crossProduct.data.toList.drop 0 = dktX1_crossProduct_0 := by decide +kernel
theorem dksX1_crossProduct_1 : cX1_crossProduct.data.toList.drop 24 = dktX1_crossProduct_1 := dk_seg dksX1_crossProduct_0 24 rfl rfl
theorem dX1_crossProduct_0 : decode cX1_crossProduct 0 = .ok (.aload_n 1, 1) := dk_43 (dk_at dksX1_crossProduct_0 0 rfl rfl)
theorem dX1_crossProduct_1 : decode cX1_crossProduct 1 = .ok (.iconst 0, 1) := dk_3 (dk_at dksX1_crossProduct_0 1 rfl rfl)
theorem dX1_crossProduct_2 : decode cX1_crossProduct 2 = .ok (.iaload, 1) := dk_46 (dk_at dksX1_crossProduct_0 2 rfl rfl)
theorem dX1_crossProduct_3 : decode cX1_crossProduct 3 = .ok (.aload_n 0, 1) := dk_42 (dk_at dksX1_crossProduct_0 3 rfl rfl)
theorem dX1_crossProduct_4 : decode cX1_crossProduct 4 = .ok (.iconst 0, 1) := dk_3 (dk_at dksX1_crossProduct_0 4 rfl rfl)
theorem dX1_crossProduct_5 : decode cX1_crossProduct 5 = .ok (.iaload, 1) := dk_46 (dk_at dksX1_crossProduct_0 5 rfl rfl)
theorem dX1_crossProduct_6 : decode cX1_crossProduct 6 = .ok (.isub, 1) := dk_100 (dk_at dksX1_crossProduct_0 6 rfl rfl)
theorem dX1_crossProduct_7 : decode cX1_crossProduct 7 = .ok (.iload_n 3, 1) := dk_29 (dk_at dksX1_crossProduct_0 7 rfl rfl)
theorem dX1_crossProduct_8 : decode cX1_crossProduct 8 = .ok (.aload_n 0, 1) := dk_42 (dk_at dksX1_crossProduct_0 8 rfl rfl)
theorem dX1_crossProduct_9 : decode cX1_crossProduct 9 = .ok (.iconst 1, 1) := dk_4 (dk_at dksX1_crossProduct_0 9 rfl rfl)
theorem dX1_crossProduct_10 : decode cX1_crossProduct 10 = .ok (.iaload, 1) := dk_46 (dk_at dksX1_crossProduct_0 10 rfl rfl)
theorem dX1_crossProduct_11 : decode cX1_crossProduct 11 = .ok (.isub, 1) := dk_100 (dk_at dksX1_crossProduct_0 11 rfl rfl)
theorem dX1_crossProduct_12 : decode cX1_crossProduct 12 = .ok (.imul, 1) := dk_104 (dk_at dksX1_crossProduct_0 12 rfl rfl)
theorem dX1_crossProduct_13 : decode cX1_crossProduct 13 = .ok (.aload_n 1, 1) := dk_43 (dk_at dksX1_crossProduct_0 13 rfl rfl)
theorem dX1_crossProduct_14 : decode cX1_crossProduct 14 = .ok (.iconst 1, 1) := dk_4 (dk_at dksX1_crossProduct_0 14 rfl rfl)
theorem dX1_crossProduct_15 : decode cX1_crossProduct 15 = .ok (.iaload, 1) := dk_46 (dk_at dksX1_crossProduct_0 15 rfl rfl)
theorem dX1_crossProduct_16 : decode cX1_crossProduct 16 = .ok (.aload_n 0, 1) := dk_42 (dk_at dksX1_crossProduct_0 16 rfl rfl)
theorem dX1_crossProduct_17 : decode cX1_crossProduct 17 = .ok (.iconst 1, 1) := dk_4 (dk_at dksX1_crossProduct_0 17 rfl rfl)
theorem dX1_crossProduct_18 : decode cX1_crossProduct 18 = .ok (.iaload, 1) := dk_46 (dk_at dksX1_crossProduct_0 18 rfl rfl)
theorem dX1_crossProduct_19 : decode cX1_crossProduct 19 = .ok (.isub, 1) := dk_100 (dk_at dksX1_crossProduct_0 19 rfl rfl)
theorem dX1_crossProduct_20 : decode cX1_crossProduct 20 = .ok (.iload_n 2, 1) := dk_28 (dk_at dksX1_crossProduct_0 20 rfl rfl)
theorem dX1_crossProduct_21 : decode cX1_crossProduct 21 = .ok (.aload_n 0, 1) := dk_42 (dk_at dksX1_crossProduct_0 21 rfl rfl)
theorem dX1_crossProduct_22 : decode cX1_crossProduct 22 = .ok (.iconst 0, 1) := dk_3 (dk_at dksX1_crossProduct_0 22 rfl rfl)
theorem dX1_crossProduct_23 : decode cX1_crossProduct 23 = .ok (.iaload, 1) := dk_46 (dk_at dksX1_crossProduct_0 23 rfl rfl)
theorem dX1_crossProduct_24 : decode cX1_crossProduct 24 = .ok (.isub, 1) := dk_100 (dk_at dksX1_crossProduct_1 0 rfl rfl)
theorem dX1_crossProduct_25 : decode cX1_crossProduct 25 = .ok (.imul, 1) := dk_104 (dk_at dksX1_crossProduct_1 1 rfl rfl)
theorem dX1_crossProduct_26 : decode cX1_crossProduct 26 = .ok (.isub, 1) := dk_100 (dk_at dksX1_crossProduct_1 2 rfl rfl)
theorem dX1_crossProduct_27 : decode cX1_crossProduct 27 = .ok (.ireturn, 1) := dk_172 (dk_at dksX1_crossProduct_1 3 rfl rfl)
abbrev cX1_sideOfCell : ByteArray := prog_1_method_13_code
def yX1_sideOfCell : MethodName := ⟨RX1, "sideOfCell", "(I)I"⟩
def dkwX1_sideOfCell_0 : List UInt8 := [16, 8, 26, 122, 172]
abbrev dktX1_sideOfCell_0 : List UInt8 := dkwX1_sideOfCell_0 ++ []
theorem dksX1_sideOfCell_0 : cX1_sideOfCell.data.toList.drop 0 = dktX1_sideOfCell_0 := by decide +kernel
theorem dX1_sideOfCell_0 : decode cX1_sideOfCell 0 = .ok (.bipush 8, 2) := dk_16 8 (dk_at dksX1_sideOfCell_0 0 rfl rfl)
theorem dX1_sideOfCell_2 : decode cX1_sideOfCell 2 = .ok (.iload_n 0, 1) := dk_26 (dk_at dksX1_sideOfCell_0 2 rfl rfl)
theorem dX1_sideOfCell_3 : decode cX1_sideOfCell 3 = .ok (.ishr, 1) := dk_122 (dk_at dksX1_sideOfCell_0 3 rfl rfl)
theorem dX1_sideOfCell_4 : decode cX1_sideOfCell 4 = .ok (.ireturn, 1) := dk_172 (dk_at dksX1_sideOfCell_0 4 rfl rfl)
abbrev cX1_addLine : ByteArray := prog_1_method_18_code
def yX1_addLine : MethodName := ⟨RX1, "addLine", "(IIII)I"⟩
def dkwX1_addLine_4 : List UInt8 := [183, 0, 148, 182, 0, 151, 172]
abbrev dktX1_addLine_4 : List UInt8 := dkwX1_addLine_4 ++ []
def dkwX1_addLine_3 : List UInt8 := [5, 188, 10, 89, 3, 27, 79, 89, 4, 28, 79, 5, 188, 10, 89, 3, 29, 79, 89, 4, 21, 4, 79]
abbrev dktX1_addLine_3 : List UInt8 := dkwX1_addLine_3 ++ dktX1_addLine_4
def dkwX1_addLine_2 : List UInt8 := [16, 12, 162, 0, 7, 4, 167, 0, 4, 3, 184, 0, 145, 42, 187, 0, 93, 89, 42, 180, 0, 128, 4, 96]
abbrev dktX1_addLine_2 : List UInt8 := dkwX1_addLine_2 ++ dktX1_addLine_3
def dkwX1_addLine_1 : List UInt8 := [184, 0, 138, 153, 0, 7, 4, 167, 0, 4, 3, 184, 0, 142, 42, 180, 0, 10, 185, 0, 104, 1, 0]
abbrev dktX1_addLine_1 : List UInt8 := dkwX1_addLine_1 ++ dktX1_addLine_2
def dkwX1_addLine_0 : List UInt8 := [27, 184, 0, 138, 153, 0, 29, 28, 184, 0, 138, 153, 0, 22, 29, 184, 0, 138, 153, 0, 15, 21, 4]
abbrev dktX1_addLine_0 : List UInt8 := dkwX1_addLine_0 ++ dktX1_addLine_1
theorem dksX1_addLine_0 : cX1_addLine.data.toList.drop 0 = dktX1_addLine_0 := by decide +kernel
theorem dksX1_addLine_1 : cX1_addLine.data.toList.drop 23 = dktX1_addLine_1 := dk_seg dksX1_addLine_0 23 rfl rfl
theorem dksX1_addLine_2 : cX1_addLine.data.toList.drop 46 = dktX1_addLine_2 := dk_seg dksX1_addLine_1 23 rfl rfl
theorem dksX1_addLine_3 : cX1_addLine.data.toList.drop 70 = dktX1_addLine_3 := dk_seg dksX1_addLine_2 24 rfl rfl
theorem dksX1_addLine_4 : cX1_addLine.data.toList.drop 93 = dktX1_addLine_4 := dk_seg dksX1_addLine_3 23 rfl rfl
theorem dX1_addLine_0 : decode cX1_addLine 0 = .ok (.iload_n 1, 1) := dk_27 (dk_at dksX1_addLine_0 0 rfl rfl)
theorem dX1_addLine_1 : decode cX1_addLine 1 = .ok (.invokestatic 138, 3) := dk_184 0 138 (dk_at dksX1_addLine_0 1 rfl rfl)
theorem dX1_addLine_4 : decode cX1_addLine 4 = .ok (.ifCond .eq 29, 3) := dk_153 0 29 (dk_at dksX1_addLine_0 4 rfl rfl)
theorem dX1_addLine_7 : decode cX1_addLine 7 = .ok (.iload_n 2, 1) := dk_28 (dk_at dksX1_addLine_0 7 rfl rfl)
theorem dX1_addLine_8 : decode cX1_addLine 8 = .ok (.invokestatic 138, 3) := dk_184 0 138 (dk_at dksX1_addLine_0 8 rfl rfl)
theorem dX1_addLine_11 : decode cX1_addLine 11 = .ok (.ifCond .eq 22, 3) := dk_153 0 22 (dk_at dksX1_addLine_0 11 rfl rfl)
theorem dX1_addLine_14 : decode cX1_addLine 14 = .ok (.iload_n 3, 1) := dk_29 (dk_at dksX1_addLine_0 14 rfl rfl)
theorem dX1_addLine_15 : decode cX1_addLine 15 = .ok (.invokestatic 138, 3) := dk_184 0 138 (dk_at dksX1_addLine_0 15 rfl rfl)
theorem dX1_addLine_18 : decode cX1_addLine 18 = .ok (.ifCond .eq 15, 3) := dk_153 0 15 (dk_at dksX1_addLine_0 18 rfl rfl)
theorem dX1_addLine_21 : decode cX1_addLine 21 = .ok (.iload 4, 2) := dk_21 4 (dk_at dksX1_addLine_0 21 rfl rfl)
theorem dX1_addLine_23 : decode cX1_addLine 23 = .ok (.invokestatic 138, 3) := dk_184 0 138 (dk_at dksX1_addLine_1 0 rfl rfl)
theorem dX1_addLine_26 : decode cX1_addLine 26 = .ok (.ifCond .eq 7, 3) := dk_153 0 7 (dk_at dksX1_addLine_1 3 rfl rfl)
theorem dX1_addLine_29 : decode cX1_addLine 29 = .ok (.iconst 1, 1) := dk_4 (dk_at dksX1_addLine_1 6 rfl rfl)
theorem dX1_addLine_30 : decode cX1_addLine 30 = .ok (.goto 4, 3) := dk_167 0 4 (dk_at dksX1_addLine_1 7 rfl rfl)
theorem dX1_addLine_33 : decode cX1_addLine 33 = .ok (.iconst 0, 1) := dk_3 (dk_at dksX1_addLine_1 10 rfl rfl)
theorem dX1_addLine_34 : decode cX1_addLine 34 = .ok (.invokestatic 142, 3) := dk_184 0 142 (dk_at dksX1_addLine_1 11 rfl rfl)
theorem dX1_addLine_37 : decode cX1_addLine 37 = .ok (.aload_n 0, 1) := dk_42 (dk_at dksX1_addLine_1 14 rfl rfl)
theorem dX1_addLine_38 : decode cX1_addLine 38 = .ok (.getfield 10, 3) := dk_180 0 10 (dk_at dksX1_addLine_1 15 rfl rfl)
theorem dX1_addLine_41 : decode cX1_addLine 41 = .ok (.invokeinterface 104 1, 5) := by decide +kernel
theorem dX1_addLine_46 : decode cX1_addLine 46 = .ok (.bipush 12, 2) := dk_16 12 (dk_at dksX1_addLine_2 0 rfl rfl)
theorem dX1_addLine_48 : decode cX1_addLine 48 = .ok (.if_icmp .ge 7, 3) := dk_162 0 7 (dk_at dksX1_addLine_2 2 rfl rfl)
theorem dX1_addLine_51 : decode cX1_addLine 51 = .ok (.iconst 1, 1) := dk_4 (dk_at dksX1_addLine_2 5 rfl rfl)
theorem dX1_addLine_52 : decode cX1_addLine 52 = .ok (.goto 4, 3) := dk_167 0 4 (dk_at dksX1_addLine_2 6 rfl rfl)
theorem dX1_addLine_55 : decode cX1_addLine 55 = .ok (.iconst 0, 1) := dk_3 (dk_at dksX1_addLine_2 9 rfl rfl)
theorem dX1_addLine_56 : decode cX1_addLine 56 = .ok (.invokestatic 145, 3) := dk_184 0 145 (dk_at dksX1_addLine_2 10 rfl rfl)
theorem dX1_addLine_59 : decode cX1_addLine 59 = .ok (.aload_n 0, 1) := dk_42 (dk_at dksX1_addLine_2 13 rfl rfl)
theorem dX1_addLine_60 : decode cX1_addLine 60 = .ok (.new 93, 3) := dk_187 0 93 (dk_at dksX1_addLine_2 14 rfl rfl)
theorem dX1_addLine_63 : decode cX1_addLine 63 = .ok (.dup, 1) := dk_89 (dk_at dksX1_addLine_2 17 rfl rfl)
theorem dX1_addLine_64 : decode cX1_addLine 64 = .ok (.aload_n 0, 1) := dk_42 (dk_at dksX1_addLine_2 18 rfl rfl)
theorem dX1_addLine_65 : decode cX1_addLine 65 = .ok (.getfield 128, 3) := dk_180 0 128 (dk_at dksX1_addLine_2 19 rfl rfl)
theorem dX1_addLine_68 : decode cX1_addLine 68 = .ok (.iconst 1, 1) := dk_4 (dk_at dksX1_addLine_2 22 rfl rfl)
theorem dX1_addLine_69 : decode cX1_addLine 69 = .ok (.iadd, 1) := dk_96 (dk_at dksX1_addLine_2 23 rfl rfl)
theorem dX1_addLine_70 : decode cX1_addLine 70 = .ok (.iconst 2, 1) := dk_5 (dk_at dksX1_addLine_3 0 rfl rfl)
theorem dX1_addLine_71 : decode cX1_addLine 71 = .ok (.newarray .int, 2) := dk_188_10 (dk_at dksX1_addLine_3 1 rfl rfl)
theorem dX1_addLine_73 : decode cX1_addLine 73 = .ok (.dup, 1) := dk_89 (dk_at dksX1_addLine_3 3 rfl rfl)
theorem dX1_addLine_74 : decode cX1_addLine 74 = .ok (.iconst 0, 1) := dk_3 (dk_at dksX1_addLine_3 4 rfl rfl)
theorem dX1_addLine_75 : decode cX1_addLine 75 = .ok (.iload_n 1, 1) := dk_27 (dk_at dksX1_addLine_3 5 rfl rfl)
theorem dX1_addLine_76 : decode cX1_addLine 76 = .ok (.iastore, 1) := dk_79 (dk_at dksX1_addLine_3 6 rfl rfl)
theorem dX1_addLine_77 : decode cX1_addLine 77 = .ok (.dup, 1) := dk_89 (dk_at dksX1_addLine_3 7 rfl rfl)
theorem dX1_addLine_78 : decode cX1_addLine 78 = .ok (.iconst 1, 1) := dk_4 (dk_at dksX1_addLine_3 8 rfl rfl)
theorem dX1_addLine_79 : decode cX1_addLine 79 = .ok (.iload_n 2, 1) := dk_28 (dk_at dksX1_addLine_3 9 rfl rfl)
theorem dX1_addLine_80 : decode cX1_addLine 80 = .ok (.iastore, 1) := dk_79 (dk_at dksX1_addLine_3 10 rfl rfl)
theorem dX1_addLine_81 : decode cX1_addLine 81 = .ok (.iconst 2, 1) := dk_5 (dk_at dksX1_addLine_3 11 rfl rfl)
theorem dX1_addLine_82 : decode cX1_addLine 82 = .ok (.newarray .int, 2) := dk_188_10 (dk_at dksX1_addLine_3 12 rfl rfl)
theorem dX1_addLine_84 : decode cX1_addLine 84 = .ok (.dup, 1) := dk_89 (dk_at dksX1_addLine_3 14 rfl rfl)
theorem dX1_addLine_85 : decode cX1_addLine 85 = .ok (.iconst 0, 1) := dk_3 (dk_at dksX1_addLine_3 15 rfl rfl)
theorem dX1_addLine_86 : decode cX1_addLine 86 = .ok (.iload_n 3, 1) := dk_29 (dk_at dksX1_addLine_3 16 rfl rfl)
theorem dX1_addLine_87 : decode cX1_addLine 87 = .ok (.iastore, 1) := dk_79 (dk_at dksX1_addLine_3 17 rfl rfl)
theorem dX1_addLine_88 : decode cX1_addLine 88 = .ok (.dup, 1) := dk_89 (dk_at dksX1_addLine_3 18 rfl rfl)
theorem dX1_addLine_89 : decode cX1_addLine 89 = .ok (.iconst 1, 1) := dk_4 (dk_at dksX1_addLine_3 19 rfl rfl)
theorem dX1_addLine_90 : decode cX1_addLine 90 = .ok (.iload 4, 2) := dk_21 4 (dk_at dksX1_addLine_3 20 rfl rfl)
theorem dX1_addLine_92 : decode cX1_addLine 92 = .ok (.iastore, 1) := dk_79 (dk_at dksX1_addLine_3 22 rfl rfl)
theorem dX1_addLine_93 : decode cX1_addLine 93 = .ok (.invokespecial 148, 3) := dk_183 0 148 (dk_at dksX1_addLine_4 0 rfl rfl)
theorem dX1_addLine_96 : decode cX1_addLine 96 = .ok (.invokevirtual 151, 3) := dk_182 0 151 (dk_at dksX1_addLine_4 3 rfl rfl)
theorem dX1_addLine_99 : decode cX1_addLine 99 = .ok (.ireturn, 1) := dk_172 (dk_at dksX1_addLine_4 6 rfl rfl)
abbrev cX1_isCoordinate : ByteArray := prog_1_method_3_code
def yX1_isCoordinate : MethodName := ⟨RX1, "isCoordinate", "(I)Z"⟩
def dkwX1_isCoordinate_0 : List UInt8 := [26, 3, 16, 64, 184, 0, 43, 172]
abbrev dktX1_isCoordinate_0 : List UInt8 := dkwX1_isCoordinate_0 ++ []
theorem dksX1_isCoordinate_0 : cX1_isCoordinate.data.toList.drop 0 = dktX1_isCoordinate_0 := by decide +kernel
theorem dX1_isCoordinate_0 : decode cX1_isCoordinate 0 = .ok (.iload_n 0, 1) := dk_26 (dk_at dksX1_isCoordinate_0 0 rfl rfl)
theorem dX1_isCoordinate_1 : decode cX1_isCoordinate 1 = .ok (.iconst 0, 1) := dk_3 (dk_at dksX1_isCoordinate_0 1 rfl rfl)
theorem dX1_isCoordinate_2 : decode cX1_isCoordinate 2 = .ok (.bipush 64, 2) := dk_16 64 (dk_at dksX1_isCoordinate_0 2 rfl rfl)
theorem dX1_isCoordinate_4 : decode cX1_isCoordinate 4 = .ok (.invokestatic 43, 3) := dk_184 0 43 (dk_at dksX1_isCoordinate_0 4 rfl rfl)
theorem dX1_isCoordinate_7 : decode cX1_isCoordinate 7 = .ok (.ireturn, 1) := dk_172 (dk_at dksX1_isCoordinate_0 7 rfl rfl)
abbrev cX1_isBetween : ByteArray := prog_1_method_2_code
def yX1_isBetween : MethodName := ⟨RX1, "isBetween", "(III)Z"⟩
def dkwX1_isBetween_0 : List UInt8 := [26, 27, 161, 0, 12, 26, 28, 163, 0, 7, 4, 167, 0, 4, 3, 172]
abbrev dktX1_isBetween_0 : List UInt8 := dkwX1_isBetween_0 ++ []
theorem dksX1_isBetween_0 : cX1_isBetween.data.toList.drop 0 = dktX1_isBetween_0 := by decide +kernel
theorem dX1_isBetween_0 : decode cX1_isBetween 0 = .ok (.iload_n 0, 1) := dk_26 (dk_at dksX1_isBetween_0 0 rfl rfl)
theorem dX1_isBetween_1 : decode cX1_isBetween 1 = .ok (.iload_n 1, 1) := dk_27 (dk_at dksX1_isBetween_0 1 rfl rfl)
theorem dX1_isBetween_2 : decode cX1_isBetween 2 = .ok (.if_icmp .lt 12, 3) := dk_161 0 12 (dk_at dksX1_isBetween_0 2 rfl rfl)
theorem dX1_isBetween_5 : decode cX1_isBetween 5 = .ok (.iload_n 0, 1) := dk_26 (dk_at dksX1_isBetween_0 5 rfl rfl)
theorem dX1_isBetween_6 : decode cX1_isBetween 6 = .ok (.iload_n 2, 1) := dk_28 (dk_at dksX1_isBetween_0 6 rfl rfl)
theorem dX1_isBetween_7 : decode cX1_isBetween 7 = .ok (.if_icmp .gt 7, 3) := dk_163 0 7 (dk_at dksX1_isBetween_0 7 rfl rfl)
theorem dX1_isBetween_10 : decode cX1_isBetween 10 = .ok (.iconst 1, 1) := dk_4 (dk_at dksX1_isBetween_0 10 rfl rfl)
theorem dX1_isBetween_11 : decode cX1_isBetween 11 = .ok (.goto 4, 3) := dk_167 0 4 (dk_at dksX1_isBetween_0 11 rfl rfl)
theorem dX1_isBetween_14 : decode cX1_isBetween 14 = .ok (.iconst 0, 1) := dk_3 (dk_at dksX1_isBetween_0 14 rfl rfl)
theorem dX1_isBetween_15 : decode cX1_isBetween 15 = .ok (.ireturn, 1) := dk_172 (dk_at dksX1_isBetween_0 15 rfl rfl)
abbrev cX1_checkArgument : ByteArray := prog_1_method_4_code
def yX1_checkArgument : MethodName := ⟨RX1, "checkArgument", "(Z)V"⟩
def dkwX1_checkArgument_0 : List UInt8 := [26, 154, 0, 11, 187, 0, 47, 89, 183, 0, 49, 191, 177]
abbrev dktX1_checkArgument_0 : List UInt8 := dkwX1_checkArgument_0 ++ []
theorem dksX1_checkArgument_0 : cX1_checkArgument.data.toList.drop 0 = dktX1_checkArgument_0 := by decide +kernel
theorem dX1_checkArgument_0 : decode cX1_checkArgument 0 = .ok (.iload_n 0, 1) := dk_26 (dk_at dksX1_checkArgument_0 0 rfl rfl)
theorem dX1_checkArgument_1 : decode cX1_checkArgument 1 = .ok (.ifCond .ne 11, 3) := dk_154 0 11 (dk_at dksX1_checkArgument_0 1 rfl rfl)
theorem dX1_checkArgument_4 : decode cX1_checkArgument 4 = .ok (.new 47, 3) := dk_187 0 47 (dk_at dksX1_checkArgument_0 4 rfl rfl)
theorem dX1_checkArgument_7 : decode cX1_checkArgument 7 = .ok (.dup, 1) := dk_89 (dk_at dksX1_checkArgument_0 7 rfl rfl)
theorem dX1_checkArgument_8 : decode cX1_checkArgument 8 = .ok (.invokespecial 49, 3) := dk_183 0 49 (dk_at dksX1_checkArgument_0 8 rfl rfl)
theorem dX1_checkArgument_11 : decode cX1_checkArgument 11 = .ok (.athrow, 1) := dk_191 (dk_at dksX1_checkArgument_0 11 rfl rfl)
theorem dX1_checkArgument_12 : decode cX1_checkArgument 12 = .ok (.return_, 1) := dk_177 (dk_at dksX1_checkArgument_0 12 rfl rfl)
abbrev cX1_checkState : ByteArray := prog_1_method_5_code
def yX1_checkState : MethodName := ⟨RX1, "checkState", "(Z)V"⟩
def dkwX1_checkState_0 : List UInt8 := [26, 154, 0, 11, 187, 0, 50, 89, 183, 0, 52, 191, 177]
abbrev dktX1_checkState_0 : List UInt8 := dkwX1_checkState_0 ++ []
theorem dksX1_checkState_0 : cX1_checkState.data.toList.drop 0 = dktX1_checkState_0 := by decide +kernel
theorem dX1_checkState_0 : decode cX1_checkState 0 = .ok (.iload_n 0, 1) := dk_26 (dk_at dksX1_checkState_0 0 rfl rfl)
theorem dX1_checkState_1 : decode cX1_checkState 1 = .ok (.ifCond .ne 11, 3) := dk_154 0 11 (dk_at dksX1_checkState_0 1 rfl rfl)
theorem dX1_checkState_4 : decode cX1_checkState 4 = .ok (.new 50, 3) := dk_187 0 50 (dk_at dksX1_checkState_0 4 rfl rfl)
theorem dX1_checkState_7 : decode cX1_checkState 7 = .ok (.dup, 1) := dk_89 (dk_at dksX1_checkState_0 7 rfl rfl)
theorem dX1_checkState_8 : decode cX1_checkState 8 = .ok (.invokespecial 52, 3) := dk_183 0 52 (dk_at dksX1_checkState_0 8 rfl rfl)
theorem dX1_checkState_11 : decode cX1_checkState 11 = .ok (.athrow, 1) := dk_191 (dk_at dksX1_checkState_0 11 rfl rfl)
theorem dX1_checkState_12 : decode cX1_checkState 12 = .ok (.return_, 1) := dk_177 (dk_at dksX1_checkState_0 12 rfl rfl)
abbrev cX1_add : ByteArray := prog_1_method_17_code
def yX1_add : MethodName := ⟨RX1, "add", "(LTileServer$Shape;)I"⟩
def dkwX1_add_1 : List UInt8 := [182, 0, 131, 43, 182, 0, 131, 182, 0, 134, 87, 42, 180, 0, 128, 172]
abbrev dktX1_add_1 : List UInt8 := dkwX1_add_1 ++ []
def dkwX1_add_0 : List UInt8 := [42, 180, 0, 10, 43, 185, 0, 124, 2, 0, 87, 42, 89, 180, 0, 128, 4, 96, 181, 0, 128, 42, 43]
abbrev dktX1_add_0 : List UInt8 := dkwX1_add_0 ++ dktX1_add_1
theorem dksX1_add_0 : cX1_add.data.toList.drop 0 = dktX1_add_0 := by decide +kernel
theorem dksX1_add_1 : cX1_add.data.toList.drop 23 = dktX1_add_1 := dk_seg dksX1_add_0 23 rfl rfl
theorem dX1_add_0 : decode cX1_add 0 = .ok (.aload_n 0, 1) := dk_42 (dk_at dksX1_add_0 0 rfl rfl)
theorem dX1_add_1 : decode cX1_add 1 = .ok (.getfield 10, 3) := dk_180 0 10 (dk_at dksX1_add_0 1 rfl rfl)
theorem dX1_add_4 : decode cX1_add 4 = .ok (.aload_n 1, 1) := dk_43 (dk_at dksX1_add_0 4 rfl rfl)
theorem dX1_add_5 : decode cX1_add 5 = .ok (.invokeinterface 124 2, 5) := by decide +kernel
theorem dX1_add_10 : decode cX1_add 10 = .ok (.pop, 1) := dk_87 (dk_at dksX1_add_0 10 rfl rfl)
theorem dX1_add_11 : decode cX1_add 11 = .ok (.aload_n 0, 1) := dk_42 (dk_at dksX1_add_0 11 rfl rfl)
theorem dX1_add_12 : decode cX1_add 12 = .ok (.dup, 1) := dk_89 (dk_at dksX1_add_0 12 rfl rfl)
theorem dX1_add_13 : decode cX1_add 13 = .ok (.getfield 128, 3) := dk_180 0 128 (dk_at dksX1_add_0 13 rfl rfl)
theorem dX1_add_16 : decode cX1_add 16 = .ok (.iconst 1, 1) := dk_4 (dk_at dksX1_add_0 16 rfl rfl)
theorem dX1_add_17 : decode cX1_add 17 = .ok (.iadd, 1) := dk_96 (dk_at dksX1_add_0 17 rfl rfl)
theorem dX1_add_18 : decode cX1_add 18 = .ok (.putfield 128, 3) := dk_181 0 128 (dk_at dksX1_add_0 18 rfl rfl)
theorem dX1_add_21 : decode cX1_add 21 = .ok (.aload_n 0, 1) := dk_42 (dk_at dksX1_add_0 21 rfl rfl)
theorem dX1_add_22 : decode cX1_add 22 = .ok (.aload_n 1, 1) := dk_43 (dk_at dksX1_add_0 22 rfl rfl)
theorem dX1_add_23 : decode cX1_add 23 = .ok (.invokevirtual 131, 3) := dk_182 0 131 (dk_at dksX1_add_1 0 rfl rfl)
theorem dX1_add_26 : decode cX1_add 26 = .ok (.aload_n 1, 1) := dk_43 (dk_at dksX1_add_1 3 rfl rfl)
theorem dX1_add_27 : decode cX1_add 27 = .ok (.invokevirtual 131, 3) := dk_182 0 131 (dk_at dksX1_add_1 4 rfl rfl)
theorem dX1_add_30 : decode cX1_add 30 = .ok (.invokevirtual 134, 3) := dk_182 0 134 (dk_at dksX1_add_1 7 rfl rfl)
theorem dX1_add_33 : decode cX1_add 33 = .ok (.pop, 1) := dk_87 (dk_at dksX1_add_1 10 rfl rfl)
theorem dX1_add_34 : decode cX1_add 34 = .ok (.aload_n 0, 1) := dk_42 (dk_at dksX1_add_1 11 rfl rfl)
theorem dX1_add_35 : decode cX1_add 35 = .ok (.getfield 128, 3) := dk_180 0 128 (dk_at dksX1_add_1 12 rfl rfl)
theorem dX1_add_38 : decode cX1_add 38 = .ok (.ireturn, 1) := dk_172 (dk_at dksX1_add_1 15 rfl rfl)
abbrev cX1_leave : ByteArray := prog_1_method_16_code
def yX1_leave : MethodName := ⟨RX1, "leave", "(LTileServer$Box;LTileServer$Box;)I"⟩
def dkwX1_leave_3 : List UInt8 := [132, 4, 255, 167, 255, 196, 29, 172]
abbrev dktX1_leave_3 : List UInt8 := dkwX1_leave_3 ++ []
def dkwX1_leave_2 : List UInt8 := [25, 5, 44, 182, 0, 117, 153, 0, 18, 42, 180, 0, 16, 21, 4, 185, 0, 121, 2, 0, 87, 132, 3, 1]
abbrev dktX1_leave_2 : List UInt8 := dkwX1_leave_2 ++ dktX1_leave_3
def dkwX1_leave_1 : List UInt8 := [21, 4, 185, 0, 108, 2, 0, 192, 0, 112, 180, 0, 114, 58, 5, 25, 5, 43, 182, 0, 117, 154, 0, 12]
abbrev dktX1_leave_1 : List UInt8 := dkwX1_leave_1 ++ dktX1_leave_2
def dkwX1_leave_0 : List UInt8 := [3, 62, 42, 180, 0, 16, 185, 0, 104, 1, 0, 4, 100, 54, 4, 21, 4, 155, 0, 61, 42, 180, 0, 16]
abbrev dktX1_leave_0 : List UInt8 := dkwX1_leave_0 ++ dktX1_leave_1
theorem dksX1_leave_0 : cX1_leave.data.toList.drop 0 = dktX1_leave_0 := by decide +kernel
theorem dksX1_leave_1 : cX1_leave.data.toList.drop 24 = dktX1_leave_1 := dk_seg dksX1_leave_0 24 rfl rfl
theorem dksX1_leave_2 : cX1_leave.data.toList.drop 48 = dktX1_leave_2 := dk_seg dksX1_leave_1 24 rfl rfl
theorem dksX1_leave_3 : cX1_leave.data.toList.drop 72 = dktX1_leave_3 := dk_seg dksX1_leave_2 24 rfl rfl
theorem dX1_leave_0 : decode cX1_leave 0 = .ok (.iconst 0, 1) := dk_3 (dk_at dksX1_leave_0 0 rfl rfl)
theorem dX1_leave_1 : decode cX1_leave 1 = .ok (.istore_n 3, 1) := dk_62 (dk_at dksX1_leave_0 1 rfl rfl)
theorem dX1_leave_2 : decode cX1_leave 2 = .ok (.aload_n 0, 1) := dk_42 (dk_at dksX1_leave_0 2 rfl rfl)
theorem dX1_leave_3 : decode cX1_leave 3 = .ok (.getfield 16, 3) := dk_180 0 16 (dk_at dksX1_leave_0 3 rfl rfl)
theorem dX1_leave_6 : decode cX1_leave 6 = .ok (.invokeinterface 104 1, 5) := by decide +kernel
theorem dX1_leave_11 : decode cX1_leave 11 = .ok (.iconst 1, 1) := dk_4 (dk_at dksX1_leave_0 11 rfl rfl)
theorem dX1_leave_12 : decode cX1_leave 12 = .ok (.isub, 1) := dk_100 (dk_at dksX1_leave_0 12 rfl rfl)
theorem dX1_leave_13 : decode cX1_leave 13 = .ok (.istore 4, 2) := dk_54 4 (dk_at dksX1_leave_0 13 rfl rfl)
theorem dX1_leave_15 : decode cX1_leave 15 = .ok (.iload 4, 2) := dk_21 4 (dk_at dksX1_leave_0 15 rfl rfl)
theorem dX1_leave_17 : decode cX1_leave 17 = .ok (.ifCond .lt 61, 3) := dk_155 0 61 (dk_at dksX1_leave_0 17 rfl rfl)
theorem dX1_leave_20 : decode cX1_leave 20 = .ok (.aload_n 0, 1) := dk_42 (dk_at dksX1_leave_0 20 rfl rfl)
theorem dX1_leave_21 : decode cX1_leave 21 = .ok (.getfield 16, 3) := dk_180 0 16 (dk_at dksX1_leave_0 21 rfl rfl)
theorem dX1_leave_24 : decode cX1_leave 24 = .ok (.iload 4, 2) := dk_21 4 (dk_at dksX1_leave_1 0 rfl rfl)
theorem dX1_leave_26 : decode cX1_leave 26 = .ok (.invokeinterface 108 2, 5) := by decide +kernel
theorem dX1_leave_31 : decode cX1_leave 31 = .ok (.checkcast 112, 3) := dk_192 0 112 (dk_at dksX1_leave_1 7 rfl rfl)
theorem dX1_leave_34 : decode cX1_leave 34 = .ok (.getfield 114, 3) := dk_180 0 114 (dk_at dksX1_leave_1 10 rfl rfl)
theorem dX1_leave_37 : decode cX1_leave 37 = .ok (.astore 5, 2) := dk_58 5 (dk_at dksX1_leave_1 13 rfl rfl)
theorem dX1_leave_39 : decode cX1_leave 39 = .ok (.aload 5, 2) := dk_25 5 (dk_at dksX1_leave_1 15 rfl rfl)
theorem dX1_leave_41 : decode cX1_leave 41 = .ok (.aload_n 1, 1) := dk_43 (dk_at dksX1_leave_1 17 rfl rfl)
theorem dX1_leave_42 : decode cX1_leave 42 = .ok (.invokevirtual 117, 3) := dk_182 0 117 (dk_at dksX1_leave_1 18 rfl rfl)
theorem dX1_leave_45 : decode cX1_leave 45 = .ok (.ifCond .ne 12, 3) := dk_154 0 12 (dk_at dksX1_leave_1 21 rfl rfl)
theorem dX1_leave_48 : decode cX1_leave 48 = .ok (.aload 5, 2) := dk_25 5 (dk_at dksX1_leave_2 0 rfl rfl)
theorem dX1_leave_50 : decode cX1_leave 50 = .ok (.aload_n 2, 1) := dk_44 (dk_at dksX1_leave_2 2 rfl rfl)
theorem dX1_leave_51 : decode cX1_leave 51 = .ok (.invokevirtual 117, 3) := dk_182 0 117 (dk_at dksX1_leave_2 3 rfl rfl)
theorem dX1_leave_54 : decode cX1_leave 54 = .ok (.ifCond .eq 18, 3) := dk_153 0 18 (dk_at dksX1_leave_2 6 rfl rfl)
theorem dX1_leave_57 : decode cX1_leave 57 = .ok (.aload_n 0, 1) := dk_42 (dk_at dksX1_leave_2 9 rfl rfl)
theorem dX1_leave_58 : decode cX1_leave 58 = .ok (.getfield 16, 3) := dk_180 0 16 (dk_at dksX1_leave_2 10 rfl rfl)
theorem dX1_leave_61 : decode cX1_leave 61 = .ok (.iload 4, 2) := dk_21 4 (dk_at dksX1_leave_2 13 rfl rfl)
theorem dX1_leave_63 : decode cX1_leave 63 = .ok (.invokeinterface 121 2, 5) := by decide +kernel
theorem dX1_leave_68 : decode cX1_leave 68 = .ok (.pop, 1) := dk_87 (dk_at dksX1_leave_2 20 rfl rfl)
theorem dX1_leave_69 : decode cX1_leave 69 = .ok (.iinc 3 1, 3) := dk_132 3 1 (dk_at dksX1_leave_2 21 rfl rfl)
theorem dX1_leave_72 : decode cX1_leave 72 = .ok (.iinc 4 (-1), 3) := dk_132 4 255 (dk_at dksX1_leave_3 0 rfl rfl)
theorem dX1_leave_75 : decode cX1_leave 75 = .ok (.goto (-60), 3) := dk_167 255 196 (dk_at dksX1_leave_3 3 rfl rfl)
theorem dX1_leave_78 : decode cX1_leave 78 = .ok (.iload_n 3, 1) := dk_29 (dk_at dksX1_leave_3 6 rfl rfl)
theorem dX1_leave_79 : decode cX1_leave 79 = .ok (.ireturn, 1) := dk_172 (dk_at dksX1_leave_3 7 rfl rfl)
abbrev cX1_extend : ByteArray := prog_1_method_19_code
def yX1_extend : MethodName := ⟨RX1, "extend", "(III)I"⟩
def dkwX1_extend_4 : List UInt8 := [25, 4, 180, 0, 158, 185, 0, 104, 1, 0, 172]
abbrev dktX1_extend_4 : List UInt8 := dkwX1_extend_4 ++ []
def dkwX1_extend_3 : List UInt8 := [28, 79, 89, 4, 29, 79, 185, 0, 124, 2, 0, 87, 42, 25, 5, 25, 4, 182, 0, 161, 182, 0, 134, 87]
abbrev dktX1_extend_3 : List UInt8 := dkwX1_extend_3 ++ dktX1_extend_4
def dkwX1_extend_2 : List UInt8 := [167, 0, 4, 3, 184, 0, 145, 25, 4, 182, 0, 161, 58, 5, 25, 4, 180, 0, 158, 5, 188, 10, 89, 3]
abbrev dktX1_extend_2 : List UInt8 := dkwX1_extend_2 ++ dktX1_extend_3
def dkwX1_extend_1 : List UInt8 := [167, 0, 4, 3, 184, 0, 142, 25, 4, 180, 0, 158, 185, 0, 104, 1, 0, 16, 9, 162, 0, 7, 4]
abbrev dktX1_extend_1 : List UInt8 := dkwX1_extend_1 ++ dktX1_extend_2
def dkwX1_extend_0 : List UInt8 := [42, 27, 182, 0, 154, 58, 4, 28, 184, 0, 138, 153, 0, 14, 29, 184, 0, 138, 153, 0, 7, 4]
abbrev dktX1_extend_0 : List UInt8 := dkwX1_extend_0 ++ dktX1_extend_1
theorem dksX1_extend_0 : cX1_extend.data.toList.drop 0 = dktX1_extend_0 := by decide +kernel
theorem dksX1_extend_1 : cX1_extend.data.toList.drop 22 = dktX1_extend_1 := dk_seg dksX1_extend_0 22 rfl rfl
theorem dksX1_extend_2 : cX1_extend.data.toList.drop 45 = dktX1_extend_2 := dk_seg dksX1_extend_1 23 rfl rfl
theorem dksX1_extend_3 : cX1_extend.data.toList.drop 69 = dktX1_extend_3 := dk_seg dksX1_extend_2 24 rfl rfl
theorem dksX1_extend_4 : cX1_extend.data.toList.drop 93 = dktX1_extend_4 := dk_seg dksX1_extend_3 24 rfl rfl
theorem dX1_extend_0 : decode cX1_extend 0 = .ok (.aload_n 0, 1) := dk_42 (dk_at dksX1_extend_0 0 rfl rfl)
theorem dX1_extend_1 : decode cX1_extend 1 = .ok (.iload_n 1, 1) := dk_27 (dk_at dksX1_extend_0 1 rfl rfl)
theorem dX1_extend_2 : decode cX1_extend 2 = .ok (.invokevirtual 154, 3) := dk_182 0 154 (dk_at dksX1_extend_0 2 rfl rfl)
theorem dX1_extend_5 : decode cX1_extend 5 = .ok (.astore 4, 2) := dk_58 4 (dk_at dksX1_extend_0 5 rfl rfl)
theorem dX1_extend_7 : decode cX1_extend 7 = .ok (.iload_n 2, 1) := dk_28 (dk_at dksX1_extend_0 7 rfl rfl)
theorem dX1_extend_8 : decode cX1_extend 8 = .ok (.invokestatic 138, 3) := dk_184 0 138 (dk_at dksX1_extend_0 8 rfl rfl)
theorem dX1_extend_11 : decode cX1_extend 11 = .ok (.ifCond .eq 14, 3) := dk_153 0 14 (dk_at dksX1_extend_0 11 rfl rfl)
theorem dX1_extend_14 : decode cX1_extend 14 = .ok (.iload_n 3, 1) := dk_29 (dk_at dksX1_extend_0 14 rfl rfl)
theorem dX1_extend_15 : decode cX1_extend 15 = .ok (.invokestatic 138, 3) := dk_184 0 138 (dk_at dksX1_extend_0 15 rfl rfl)
theorem dX1_extend_18 : decode cX1_extend 18 = .ok (.ifCond .eq 7, 3) := dk_153 0 7 (dk_at dksX1_extend_0 18 rfl rfl)
theorem dX1_extend_21 : decode cX1_extend 21 = .ok (.iconst 1, 1) := dk_4 (dk_at dksX1_extend_0 21 rfl rfl)
theorem dX1_extend_22 : decode cX1_extend 22 = .ok (.goto 4, 3) := dk_167 0 4 (dk_at dksX1_extend_1 0 rfl rfl)
theorem dX1_extend_25 : decode cX1_extend 25 = .ok (.iconst 0, 1) := dk_3 (dk_at dksX1_extend_1 3 rfl rfl)
theorem dX1_extend_26 : decode cX1_extend 26 = .ok (.invokestatic 142, 3) := dk_184 0 142 (dk_at dksX1_extend_1 4 rfl rfl)
theorem dX1_extend_29 : decode cX1_extend 29 = .ok (.aload 4, 2) := dk_25 4 (dk_at dksX1_extend_1 7 rfl rfl)
theorem dX1_extend_31 : decode cX1_extend 31 = .ok (.getfield 158, 3) := dk_180 0 158 (dk_at dksX1_extend_1 9 rfl rfl)
theorem dX1_extend_34 : decode cX1_extend 34 = .ok (.invokeinterface 104 1, 5) := by decide +kernel
theorem dX1_extend_39 : decode cX1_extend 39 = .ok (.bipush 9, 2) := dk_16 9 (dk_at dksX1_extend_1 17 rfl rfl)
theorem dX1_extend_41 : decode cX1_extend 41 = .ok (.if_icmp .ge 7, 3) := dk_162 0 7 (dk_at dksX1_extend_1 19 rfl rfl)
theorem dX1_extend_44 : decode cX1_extend 44 = .ok (.iconst 1, 1) := dk_4 (dk_at dksX1_extend_1 22 rfl rfl)
theorem dX1_extend_45 : decode cX1_extend 45 = .ok (.goto 4, 3) := dk_167 0 4 (dk_at dksX1_extend_2 0 rfl rfl)
theorem dX1_extend_48 : decode cX1_extend 48 = .ok (.iconst 0, 1) := dk_3 (dk_at dksX1_extend_2 3 rfl rfl)
theorem dX1_extend_49 : decode cX1_extend 49 = .ok (.invokestatic 145, 3) := dk_184 0 145 (dk_at dksX1_extend_2 4 rfl rfl)
theorem dX1_extend_52 : decode cX1_extend 52 = .ok (.aload 4, 2) := dk_25 4 (dk_at dksX1_extend_2 7 rfl rfl)
theorem dX1_extend_54 : decode cX1_extend 54 = .ok (.invokevirtual 161, 3) := dk_182 0 161 (dk_at dksX1_extend_2 9 rfl rfl)
theorem dX1_extend_57 : decode cX1_extend 57 = .ok (.astore 5, 2) := dk_58 5 (dk_at dksX1_extend_2 12 rfl rfl)
theorem dX1_extend_59 : decode cX1_extend 59 = .ok (.aload 4, 2) := dk_25 4 (dk_at dksX1_extend_2 14 rfl rfl)
theorem dX1_extend_61 : decode cX1_extend 61 = .ok (.getfield 158, 3) := dk_180 0 158 (dk_at dksX1_extend_2 16 rfl rfl)
theorem dX1_extend_64 : decode cX1_extend 64 = .ok (.iconst 2, 1) := dk_5 (dk_at dksX1_extend_2 19 rfl rfl)
theorem dX1_extend_65 : decode cX1_extend 65 = .ok (.newarray .int, 2) := dk_188_10 (dk_at dksX1_extend_2 20 rfl rfl)
theorem dX1_extend_67 : decode cX1_extend 67 = .ok (.dup, 1) := dk_89 (dk_at dksX1_extend_2 22 rfl rfl)
theorem dX1_extend_68 : decode cX1_extend 68 = .ok (.iconst 0, 1) := dk_3 (dk_at dksX1_extend_2 23 rfl rfl)
theorem dX1_extend_69 : decode cX1_extend 69 = .ok (.iload_n 2, 1) := dk_28 (dk_at dksX1_extend_3 0 rfl rfl)
theorem dX1_extend_70 : decode cX1_extend 70 = .ok (.iastore, 1) := dk_79 (dk_at dksX1_extend_3 1 rfl rfl)
theorem dX1_extend_71 : decode cX1_extend 71 = .ok (.dup, 1) := dk_89 (dk_at dksX1_extend_3 2 rfl rfl)
theorem dX1_extend_72 : decode cX1_extend 72 = .ok (.iconst 1, 1) := dk_4 (dk_at dksX1_extend_3 3 rfl rfl)
theorem dX1_extend_73 : decode cX1_extend 73 = .ok (.iload_n 3, 1) := dk_29 (dk_at dksX1_extend_3 4 rfl rfl)
theorem dX1_extend_74 : decode cX1_extend 74 = .ok (.iastore, 1) := dk_79 (dk_at dksX1_extend_3 5 rfl rfl)
theorem dX1_extend_75 : decode cX1_extend 75 = .ok (.invokeinterface 124 2, 5) := by decide +kernel
theorem dX1_extend_80 : decode cX1_extend 80 = .ok (.pop, 1) := dk_87 (dk_at dksX1_extend_3 11 rfl rfl)
theorem dX1_extend_81 : decode cX1_extend 81 = .ok (.aload_n 0, 1) := dk_42 (dk_at dksX1_extend_3 12 rfl rfl)
theorem dX1_extend_82 : decode cX1_extend 82 = .ok (.aload 5, 2) := dk_25 5 (dk_at dksX1_extend_3 13 rfl rfl)
theorem dX1_extend_84 : decode cX1_extend 84 = .ok (.aload 4, 2) := dk_25 4 (dk_at dksX1_extend_3 15 rfl rfl)
theorem dX1_extend_86 : decode cX1_extend 86 = .ok (.invokevirtual 161, 3) := dk_182 0 161 (dk_at dksX1_extend_3 17 rfl rfl)
theorem dX1_extend_89 : decode cX1_extend 89 = .ok (.invokevirtual 134, 3) := dk_182 0 134 (dk_at dksX1_extend_3 20 rfl rfl)
theorem dX1_extend_92 : decode cX1_extend 92 = .ok (.pop, 1) := dk_87 (dk_at dksX1_extend_3 23 rfl rfl)
theorem dX1_extend_93 : decode cX1_extend 93 = .ok (.aload 4, 2) := dk_25 4 (dk_at dksX1_extend_4 0 rfl rfl)
theorem dX1_extend_95 : decode cX1_extend 95 = .ok (.getfield 158, 3) := dk_180 0 158 (dk_at dksX1_extend_4 2 rfl rfl)
theorem dX1_extend_98 : decode cX1_extend 98 = .ok (.invokeinterface 104 1, 5) := by decide +kernel
theorem dX1_extend_103 : decode cX1_extend 103 = .ok (.ireturn, 1) := dk_172 (dk_at dksX1_extend_4 10 rfl rfl)
abbrev cX1_checkedLine : ByteArray := prog_1_method_10_code
def yX1_checkedLine : MethodName := ⟨RX1, "checkedLine", "(I)LTileServer$Line;"⟩
def dkwX1_checkedLine_1 : List UInt8 := [183, 0, 97, 191]
abbrev dktX1_checkedLine_1 : List UInt8 := dkwX1_checkedLine_1 ++ []
def dkwX1_checkedLine_0 : List UInt8 := [42, 27, 182, 0, 89, 78, 45, 193, 0, 93, 153, 0, 10, 45, 192, 0, 93, 77, 44, 176, 187, 0, 95, 89]
abbrev dktX1_checkedLine_0 : List UInt8 := dkwX1_checkedLine_0 ++ dktX1_checkedLine_1
theorem dksX1_checkedLine_0 : cX1_checkedLine.data.toList.drop 0 = dktX1_checkedLine_0 := by decide +kernel
theorem dksX1_checkedLine_1 : cX1_checkedLine.data.toList.drop 24 = dktX1_checkedLine_1 := dk_seg dksX1_checkedLine_0 24 rfl rfl
theorem dX1_checkedLine_0 : decode cX1_checkedLine 0 = .ok (.aload_n 0, 1) := dk_42 (dk_at dksX1_checkedLine_0 0 rfl rfl)
theorem dX1_checkedLine_1 : decode cX1_checkedLine 1 = .ok (.iload_n 1, 1) := dk_27 (dk_at dksX1_checkedLine_0 1 rfl rfl)
theorem dX1_checkedLine_2 : decode cX1_checkedLine 2 = .ok (.invokevirtual 89, 3) := dk_182 0 89 (dk_at dksX1_checkedLine_0 2 rfl rfl)
theorem dX1_checkedLine_5 : decode cX1_checkedLine 5 = .ok (.astore_n 3, 1) := dk_78 (dk_at dksX1_checkedLine_0 5 rfl rfl)
theorem dX1_checkedLine_6 : decode cX1_checkedLine 6 = .ok (.aload_n 3, 1) := dk_45 (dk_at dksX1_checkedLine_0 6 rfl rfl)
theorem dX1_checkedLine_7 : decode cX1_checkedLine 7 = .ok (.instanceof 93, 3) := dk_193 0 93 (dk_at dksX1_checkedLine_0 7 rfl rfl)
theorem dX1_checkedLine_10 : decode cX1_checkedLine 10 = .ok (.ifCond .eq 10, 3) := dk_153 0 10 (dk_at dksX1_checkedLine_0 10 rfl rfl)
theorem dX1_checkedLine_13 : decode cX1_checkedLine 13 = .ok (.aload_n 3, 1) := dk_45 (dk_at dksX1_checkedLine_0 13 rfl rfl)
theorem dX1_checkedLine_14 : decode cX1_checkedLine 14 = .ok (.checkcast 93, 3) := dk_192 0 93 (dk_at dksX1_checkedLine_0 14 rfl rfl)
theorem dX1_checkedLine_17 : decode cX1_checkedLine 17 = .ok (.astore_n 2, 1) := dk_77 (dk_at dksX1_checkedLine_0 17 rfl rfl)
theorem dX1_checkedLine_18 : decode cX1_checkedLine 18 = .ok (.aload_n 2, 1) := dk_44 (dk_at dksX1_checkedLine_0 18 rfl rfl)
theorem dX1_checkedLine_19 : decode cX1_checkedLine 19 = .ok (.areturn, 1) := dk_176 (dk_at dksX1_checkedLine_0 19 rfl rfl)
theorem dX1_checkedLine_20 : decode cX1_checkedLine 20 = .ok (.new 95, 3) := dk_187 0 95 (dk_at dksX1_checkedLine_0 20 rfl rfl)
theorem dX1_checkedLine_23 : decode cX1_checkedLine 23 = .ok (.dup, 1) := dk_89 (dk_at dksX1_checkedLine_0 23 rfl rfl)
theorem dX1_checkedLine_24 : decode cX1_checkedLine 24 = .ok (.invokespecial 97, 3) := dk_183 0 97 (dk_at dksX1_checkedLine_1 0 rfl rfl)
theorem dX1_checkedLine_27 : decode cX1_checkedLine 27 = .ok (.athrow, 1) := dk_191 (dk_at dksX1_checkedLine_1 3 rfl rfl)
abbrev cX1_checkedShape : ByteArray := prog_1_method_9_code
def yX1_checkedShape : MethodName := ⟨RX1, "checkedShape", "(I)LTileServer$Shape;"⟩
def dkwX1_checkedShape_2 : List UInt8 := [187, 0, 86, 89, 183, 0, 88, 191]
abbrev dktX1_checkedShape_2 : List UInt8 := dkwX1_checkedShape_2 ++ []
def dkwX1_checkedShape_1 : List UInt8 := [185, 0, 76, 1, 0, 192, 0, 80, 78, 45, 180, 0, 82, 27, 160, 0, 5, 45, 176, 167, 255, 227]
abbrev dktX1_checkedShape_1 : List UInt8 := dkwX1_checkedShape_1 ++ dktX1_checkedShape_2
def dkwX1_checkedShape_0 : List UInt8 := [42, 180, 0, 10, 185, 0, 64, 1, 0, 77, 44, 185, 0, 70, 1, 0, 153, 0, 26, 44]
abbrev dktX1_checkedShape_0 : List UInt8 := dkwX1_checkedShape_0 ++ dktX1_checkedShape_1
theorem dksX1_checkedShape_0 : cX1_checkedShape.data.toList.drop 0 = dktX1_checkedShape_0 := by decide +kernel
theorem dksX1_checkedShape_1 : cX1_checkedShape.data.toList.drop 20 = dktX1_checkedShape_1 := dk_seg dksX1_checkedShape_0 20 rfl rfl
theorem dksX1_checkedShape_2 : cX1_checkedShape.data.toList.drop 42 = dktX1_checkedShape_2 := dk_seg dksX1_checkedShape_1 22 rfl rfl
theorem dX1_checkedShape_0 : decode cX1_checkedShape 0 = .ok (.aload_n 0, 1) := dk_42 (dk_at dksX1_checkedShape_0 0 rfl rfl)
theorem dX1_checkedShape_1 : decode cX1_checkedShape 1 = .ok (.getfield 10, 3) := dk_180 0 10 (dk_at dksX1_checkedShape_0 1 rfl rfl)
theorem dX1_checkedShape_4 : decode cX1_checkedShape 4 = .ok (.invokeinterface 64 1, 5) := by decide +kernel
theorem dX1_checkedShape_9 : decode cX1_checkedShape 9 = .ok (.astore_n 2, 1) := dk_77 (dk_at dksX1_checkedShape_0 9 rfl rfl)
theorem dX1_checkedShape_10 : decode cX1_checkedShape 10 = .ok (.aload_n 2, 1) := dk_44 (dk_at dksX1_checkedShape_0 10 rfl rfl)
theorem dX1_checkedShape_11 : decode cX1_checkedShape 11 = .ok (.invokeinterface 70 1, 5) := by decide +kernel
theorem dX1_checkedShape_16 : decode cX1_checkedShape 16 = .ok (.ifCond .eq 26, 3) := dk_153 0 26 (dk_at dksX1_checkedShape_0 16 rfl rfl)
theorem dX1_checkedShape_19 : decode cX1_checkedShape 19 = .ok (.aload_n 2, 1) := dk_44 (dk_at dksX1_checkedShape_0 19 rfl rfl)
theorem dX1_checkedShape_20 : decode cX1_checkedShape 20 = .ok (.invokeinterface 76 1, 5) := by decide +kernel
theorem dX1_checkedShape_25 : decode cX1_checkedShape 25 = .ok (.checkcast 80, 3) := dk_192 0 80 (dk_at dksX1_checkedShape_1 5 rfl rfl)
theorem dX1_checkedShape_28 : decode cX1_checkedShape 28 = .ok (.astore_n 3, 1) := dk_78 (dk_at dksX1_checkedShape_1 8 rfl rfl)
theorem dX1_checkedShape_29 : decode cX1_checkedShape 29 = .ok (.aload_n 3, 1) := dk_45 (dk_at dksX1_checkedShape_1 9 rfl rfl)
theorem dX1_checkedShape_30 : decode cX1_checkedShape 30 = .ok (.getfield 82, 3) := dk_180 0 82 (dk_at dksX1_checkedShape_1 10 rfl rfl)
theorem dX1_checkedShape_33 : decode cX1_checkedShape 33 = .ok (.iload_n 1, 1) := dk_27 (dk_at dksX1_checkedShape_1 13 rfl rfl)
theorem dX1_checkedShape_34 : decode cX1_checkedShape 34 = .ok (.if_icmp .ne 5, 3) := dk_160 0 5 (dk_at dksX1_checkedShape_1 14 rfl rfl)
theorem dX1_checkedShape_37 : decode cX1_checkedShape 37 = .ok (.aload_n 3, 1) := dk_45 (dk_at dksX1_checkedShape_1 17 rfl rfl)
theorem dX1_checkedShape_38 : decode cX1_checkedShape 38 = .ok (.areturn, 1) := dk_176 (dk_at dksX1_checkedShape_1 18 rfl rfl)
theorem dX1_checkedShape_39 : decode cX1_checkedShape 39 = .ok (.goto (-29), 3) := dk_167 255 227 (dk_at dksX1_checkedShape_1 19 rfl rfl)
theorem dX1_checkedShape_42 : decode cX1_checkedShape 42 = .ok (.new 86, 3) := dk_187 0 86 (dk_at dksX1_checkedShape_2 0 rfl rfl)
theorem dX1_checkedShape_45 : decode cX1_checkedShape 45 = .ok (.dup, 1) := dk_89 (dk_at dksX1_checkedShape_2 3 rfl rfl)
theorem dX1_checkedShape_46 : decode cX1_checkedShape 46 = .ok (.invokespecial 88, 3) := dk_183 0 88 (dk_at dksX1_checkedShape_2 4 rfl rfl)
theorem dX1_checkedShape_49 : decode cX1_checkedShape 49 = .ok (.athrow, 1) := dk_191 (dk_at dksX1_checkedShape_2 7 rfl rfl)
abbrev cX1_movePoint : ByteArray := prog_1_method_20_code
def yX1_movePoint : MethodName := ⟨RX1, "movePoint", "(IIII)I"⟩
def dkwX1_movePoint_2 : List UInt8 := [29, 79, 25, 6, 4, 21, 4, 79, 42, 25, 7, 25, 5, 182, 0, 161, 182, 0, 134, 172]
abbrev dktX1_movePoint_2 : List UInt8 := dkwX1_movePoint_2 ++ []
def dkwX1_movePoint_1 : List UInt8 := [184, 0, 138, 153, 0, 7, 4, 167, 0, 4, 3, 184, 0, 142, 25, 5, 182, 0, 161, 58, 7, 25, 6, 3]
abbrev dktX1_movePoint_1 : List UInt8 := dkwX1_movePoint_1 ++ dktX1_movePoint_2
def dkwX1_movePoint_0 : List UInt8 := [42, 27, 182, 0, 154, 58, 5, 25, 5, 28, 182, 0, 162, 58, 6, 29, 184, 0, 138, 153, 0, 15, 21, 4]
abbrev dktX1_movePoint_0 : List UInt8 := dkwX1_movePoint_0 ++ dktX1_movePoint_1
theorem dksX1_movePoint_0 : cX1_movePoint.data.toList.drop 0 = dktX1_movePoint_0 := by decide +kernel
theorem dksX1_movePoint_1 : cX1_movePoint.data.toList.drop 24 = dktX1_movePoint_1 := dk_seg dksX1_movePoint_0 24 rfl rfl
theorem dksX1_movePoint_2 : cX1_movePoint.data.toList.drop 48 = dktX1_movePoint_2 := dk_seg dksX1_movePoint_1 24 rfl rfl
theorem dX1_movePoint_0 : decode cX1_movePoint 0 = .ok (.aload_n 0, 1) := dk_42 (dk_at dksX1_movePoint_0 0 rfl rfl)
theorem dX1_movePoint_1 : decode cX1_movePoint 1 = .ok (.iload_n 1, 1) := dk_27 (dk_at dksX1_movePoint_0 1 rfl rfl)
theorem dX1_movePoint_2 : decode cX1_movePoint 2 = .ok (.invokevirtual 154, 3) := dk_182 0 154 (dk_at dksX1_movePoint_0 2 rfl rfl)
theorem dX1_movePoint_5 : decode cX1_movePoint 5 = .ok (.astore 5, 2) := dk_58 5 (dk_at dksX1_movePoint_0 5 rfl rfl)
theorem dX1_movePoint_7 : decode cX1_movePoint 7 = .ok (.aload 5, 2) := dk_25 5 (dk_at dksX1_movePoint_0 7 rfl rfl)
theorem dX1_movePoint_9 : decode cX1_movePoint 9 = .ok (.iload_n 2, 1) := dk_28 (dk_at dksX1_movePoint_0 9 rfl rfl)
theorem dX1_movePoint_10 : decode cX1_movePoint 10 = .ok (.invokevirtual 162, 3) := dk_182 0 162 (dk_at dksX1_movePoint_0 10 rfl rfl)
theorem dX1_movePoint_13 : decode cX1_movePoint 13 = .ok (.astore 6, 2) := dk_58 6 (dk_at dksX1_movePoint_0 13 rfl rfl)
theorem dX1_movePoint_15 : decode cX1_movePoint 15 = .ok (.iload_n 3, 1) := dk_29 (dk_at dksX1_movePoint_0 15 rfl rfl)
theorem dX1_movePoint_16 : decode cX1_movePoint 16 = .ok (.invokestatic 138, 3) := dk_184 0 138 (dk_at dksX1_movePoint_0 16 rfl rfl)
theorem dX1_movePoint_19 : decode cX1_movePoint 19 = .ok (.ifCond .eq 15, 3) := dk_153 0 15 (dk_at dksX1_movePoint_0 19 rfl rfl)
theorem dX1_movePoint_22 : decode cX1_movePoint 22 = .ok (.iload 4, 2) := dk_21 4 (dk_at dksX1_movePoint_0 22 rfl rfl)
theorem dX1_movePoint_24 : decode cX1_movePoint 24 = .ok (.invokestatic 138, 3) := dk_184 0 138 (dk_at dksX1_movePoint_1 0 rfl rfl)
theorem dX1_movePoint_27 : decode cX1_movePoint 27 = .ok (.ifCond .eq 7, 3) := dk_153 0 7 (dk_at dksX1_movePoint_1 3 rfl rfl)
theorem dX1_movePoint_30 : decode cX1_movePoint 30 = .ok (.iconst 1, 1) := dk_4 (dk_at dksX1_movePoint_1 6 rfl rfl)
theorem dX1_movePoint_31 : decode cX1_movePoint 31 = .ok (.goto 4, 3) := dk_167 0 4 (dk_at dksX1_movePoint_1 7 rfl rfl)
theorem dX1_movePoint_34 : decode cX1_movePoint 34 = .ok (.iconst 0, 1) := dk_3 (dk_at dksX1_movePoint_1 10 rfl rfl)
theorem dX1_movePoint_35 : decode cX1_movePoint 35 = .ok (.invokestatic 142, 3) := dk_184 0 142 (dk_at dksX1_movePoint_1 11 rfl rfl)
theorem dX1_movePoint_38 : decode cX1_movePoint 38 = .ok (.aload 5, 2) := dk_25 5 (dk_at dksX1_movePoint_1 14 rfl rfl)
theorem dX1_movePoint_40 : decode cX1_movePoint 40 = .ok (.invokevirtual 161, 3) := dk_182 0 161 (dk_at dksX1_movePoint_1 16 rfl rfl)
theorem dX1_movePoint_43 : decode cX1_movePoint 43 = .ok (.astore 7, 2) := dk_58 7 (dk_at dksX1_movePoint_1 19 rfl rfl)
theorem dX1_movePoint_45 : decode cX1_movePoint 45 = .ok (.aload 6, 2) := dk_25 6 (dk_at dksX1_movePoint_1 21 rfl rfl)
theorem dX1_movePoint_47 : decode cX1_movePoint 47 = .ok (.iconst 0, 1) := dk_3 (dk_at dksX1_movePoint_1 23 rfl rfl)
theorem dX1_movePoint_48 : decode cX1_movePoint 48 = .ok (.iload_n 3, 1) := dk_29 (dk_at dksX1_movePoint_2 0 rfl rfl)
theorem dX1_movePoint_49 : decode cX1_movePoint 49 = .ok (.iastore, 1) := dk_79 (dk_at dksX1_movePoint_2 1 rfl rfl)
theorem dX1_movePoint_50 : decode cX1_movePoint 50 = .ok (.aload 6, 2) := dk_25 6 (dk_at dksX1_movePoint_2 2 rfl rfl)
theorem dX1_movePoint_52 : decode cX1_movePoint 52 = .ok (.iconst 1, 1) := dk_4 (dk_at dksX1_movePoint_2 4 rfl rfl)
theorem dX1_movePoint_53 : decode cX1_movePoint 53 = .ok (.iload 4, 2) := dk_21 4 (dk_at dksX1_movePoint_2 5 rfl rfl)
theorem dX1_movePoint_55 : decode cX1_movePoint 55 = .ok (.iastore, 1) := dk_79 (dk_at dksX1_movePoint_2 7 rfl rfl)
theorem dX1_movePoint_56 : decode cX1_movePoint 56 = .ok (.aload_n 0, 1) := dk_42 (dk_at dksX1_movePoint_2 8 rfl rfl)
theorem dX1_movePoint_57 : decode cX1_movePoint 57 = .ok (.aload 7, 2) := dk_25 7 (dk_at dksX1_movePoint_2 9 rfl rfl)
theorem dX1_movePoint_59 : decode cX1_movePoint 59 = .ok (.aload 5, 2) := dk_25 5 (dk_at dksX1_movePoint_2 11 rfl rfl)
theorem dX1_movePoint_61 : decode cX1_movePoint 61 = .ok (.invokevirtual 161, 3) := dk_182 0 161 (dk_at dksX1_movePoint_2 13 rfl rfl)
theorem dX1_movePoint_64 : decode cX1_movePoint 64 = .ok (.invokevirtual 134, 3) := dk_182 0 134 (dk_at dksX1_movePoint_2 16 rfl rfl)
theorem dX1_movePoint_67 : decode cX1_movePoint 67 = .ok (.ireturn, 1) := dk_172 (dk_at dksX1_movePoint_2 19 rfl rfl)
abbrev cX1_checkIndex : ByteArray := prog_1_method_6_code
def yX1_checkIndex : MethodName := ⟨RX1, "checkIndex", "(Z)V"⟩
def dkwX1_checkIndex_0 : List UInt8 := [26, 154, 0, 11, 187, 0, 53, 89, 183, 0, 55, 191, 177]
abbrev dktX1_checkIndex_0 : List UInt8 := dkwX1_checkIndex_0 ++ []
theorem dksX1_checkIndex_0 : cX1_checkIndex.data.toList.drop 0 = dktX1_checkIndex_0 := by decide +kernel
theorem dX1_checkIndex_0 : decode cX1_checkIndex 0 = .ok (.iload_n 0, 1) := dk_26 (dk_at dksX1_checkIndex_0 0 rfl rfl)
theorem dX1_checkIndex_1 : decode cX1_checkIndex 1 = .ok (.ifCond .ne 11, 3) := dk_154 0 11 (dk_at dksX1_checkIndex_0 1 rfl rfl)
theorem dX1_checkIndex_4 : decode cX1_checkIndex 4 = .ok (.new 53, 3) := dk_187 0 53 (dk_at dksX1_checkIndex_0 4 rfl rfl)
theorem dX1_checkIndex_7 : decode cX1_checkIndex 7 = .ok (.dup, 1) := dk_89 (dk_at dksX1_checkIndex_0 7 rfl rfl)
theorem dX1_checkIndex_8 : decode cX1_checkIndex 8 = .ok (.invokespecial 55, 3) := dk_183 0 55 (dk_at dksX1_checkIndex_0 8 rfl rfl)
theorem dX1_checkIndex_11 : decode cX1_checkIndex 11 = .ok (.athrow, 1) := dk_191 (dk_at dksX1_checkIndex_0 11 rfl rfl)
theorem dX1_checkIndex_12 : decode cX1_checkIndex 12 = .ok (.return_, 1) := dk_177 (dk_at dksX1_checkIndex_0 12 rfl rfl)
abbrev cX1_dropPoint : ByteArray := prog_1_method_21_code
def yX1_dropPoint : MethodName := ⟨RX1, "dropPoint", "(II)I"⟩
def dkwX1_dropPoint_3 : List UInt8 := [185, 0, 104, 1, 0, 172]
abbrev dktX1_dropPoint_3 : List UInt8 := dkwX1_dropPoint_3 ++ []
def dkwX1_dropPoint_2 : List UInt8 := [185, 0, 121, 2, 0, 87, 42, 25, 4, 45, 182, 0, 161, 182, 0, 134, 87, 45, 180, 0, 158]
abbrev dktX1_dropPoint_2 : List UInt8 := dkwX1_dropPoint_2 ++ dktX1_dropPoint_3
def dkwX1_dropPoint_1 : List UInt8 := [164, 0, 7, 4, 167, 0, 4, 3, 184, 0, 145, 45, 182, 0, 161, 58, 4, 45, 180, 0, 158, 28]
abbrev dktX1_dropPoint_1 : List UInt8 := dkwX1_dropPoint_1 ++ dktX1_dropPoint_2
def dkwX1_dropPoint_0 : List UInt8 := [42, 27, 182, 0, 154, 78, 45, 28, 182, 0, 162, 87, 45, 180, 0, 158, 185, 0, 104, 1, 0, 5]
abbrev dktX1_dropPoint_0 : List UInt8 := dkwX1_dropPoint_0 ++ dktX1_dropPoint_1
theorem dksX1_dropPoint_0 : cX1_dropPoint.data.toList.drop 0 = dktX1_dropPoint_0 := by decide +kernel
theorem dksX1_dropPoint_1 : cX1_dropPoint.data.toList.drop 22 = dktX1_dropPoint_1 := dk_seg dksX1_dropPoint_0 22 rfl rfl
theorem dksX1_dropPoint_2 : cX1_dropPoint.data.toList.drop 44 = dktX1_dropPoint_2 := dk_seg dksX1_dropPoint_1 22 rfl rfl
theorem dksX1_dropPoint_3 : cX1_dropPoint.data.toList.drop 65 = dktX1_dropPoint_3 := dk_seg dksX1_dropPoint_2 21 rfl rfl
theorem dX1_dropPoint_0 : decode cX1_dropPoint 0 = .ok (.aload_n 0, 1) := dk_42 (dk_at dksX1_dropPoint_0 0 rfl rfl)
theorem dX1_dropPoint_1 : decode cX1_dropPoint 1 = .ok (.iload_n 1, 1) := dk_27 (dk_at dksX1_dropPoint_0 1 rfl rfl)
theorem dX1_dropPoint_2 : decode cX1_dropPoint 2 = .ok (.invokevirtual 154, 3) := dk_182 0 154 (dk_at dksX1_dropPoint_0 2 rfl rfl)
theorem dX1_dropPoint_5 : decode cX1_dropPoint 5 = .ok (.astore_n 3, 1) := dk_78 (dk_at dksX1_dropPoint_0 5 rfl rfl)
theorem dX1_dropPoint_6 : decode cX1_dropPoint 6 = .ok (.aload_n 3, 1) := dk_45 (dk_at dksX1_dropPoint_0 6 rfl rfl)
theorem dX1_dropPoint_7 : decode cX1_dropPoint 7 = .ok (.iload_n 2, 1) := dk_28 (dk_at dksX1_dropPoint_0 7 rfl rfl)
theorem dX1_dropPoint_8 : decode cX1_dropPoint 8 = .ok (.invokevirtual 162, 3) := dk_182 0 162 (dk_at dksX1_dropPoint_0 8 rfl rfl)
theorem dX1_dropPoint_11 : decode cX1_dropPoint 11 = .ok (.pop, 1) := dk_87 (dk_at dksX1_dropPoint_0 11 rfl rfl)
theorem dX1_dropPoint_12 : decode cX1_dropPoint 12 = .ok (.aload_n 3, 1) := dk_45 (dk_at dksX1_dropPoint_0 12 rfl rfl)
theorem dX1_dropPoint_13 : decode cX1_dropPoint 13 = .ok (.getfield 158, 3) := dk_180 0 158 (dk_at dksX1_dropPoint_0 13 rfl rfl)
theorem dX1_dropPoint_16 : decode cX1_dropPoint 16 = .ok (.invokeinterface 104 1, 5) := by decide +kernel
theorem dX1_dropPoint_21 : decode cX1_dropPoint 21 = .ok (.iconst 2, 1) := dk_5 (dk_at dksX1_dropPoint_0 21 rfl rfl)
theorem dX1_dropPoint_22 : decode cX1_dropPoint 22 = .ok (.if_icmp .le 7, 3) := dk_164 0 7 (dk_at dksX1_dropPoint_1 0 rfl rfl)
theorem dX1_dropPoint_25 : decode cX1_dropPoint 25 = .ok (.iconst 1, 1) := dk_4 (dk_at dksX1_dropPoint_1 3 rfl rfl)
theorem dX1_dropPoint_26 : decode cX1_dropPoint 26 = .ok (.goto 4, 3) := dk_167 0 4 (dk_at dksX1_dropPoint_1 4 rfl rfl)
theorem dX1_dropPoint_29 : decode cX1_dropPoint 29 = .ok (.iconst 0, 1) := dk_3 (dk_at dksX1_dropPoint_1 7 rfl rfl)
theorem dX1_dropPoint_30 : decode cX1_dropPoint 30 = .ok (.invokestatic 145, 3) := dk_184 0 145 (dk_at dksX1_dropPoint_1 8 rfl rfl)
theorem dX1_dropPoint_33 : decode cX1_dropPoint 33 = .ok (.aload_n 3, 1) := dk_45 (dk_at dksX1_dropPoint_1 11 rfl rfl)
theorem dX1_dropPoint_34 : decode cX1_dropPoint 34 = .ok (.invokevirtual 161, 3) := dk_182 0 161 (dk_at dksX1_dropPoint_1 12 rfl rfl)
theorem dX1_dropPoint_37 : decode cX1_dropPoint 37 = .ok (.astore 4, 2) := dk_58 4 (dk_at dksX1_dropPoint_1 15 rfl rfl)
theorem dX1_dropPoint_39 : decode cX1_dropPoint 39 = .ok (.aload_n 3, 1) := dk_45 (dk_at dksX1_dropPoint_1 17 rfl rfl)
theorem dX1_dropPoint_40 : decode cX1_dropPoint 40 = .ok (.getfield 158, 3) := dk_180 0 158 (dk_at dksX1_dropPoint_1 18 rfl rfl)
theorem dX1_dropPoint_43 : decode cX1_dropPoint 43 = .ok (.iload_n 2, 1) := dk_28 (dk_at dksX1_dropPoint_1 21 rfl rfl)
theorem dX1_dropPoint_44 : decode cX1_dropPoint 44 = .ok (.invokeinterface 121 2, 5) := by decide +kernel
theorem dX1_dropPoint_49 : decode cX1_dropPoint 49 = .ok (.pop, 1) := dk_87 (dk_at dksX1_dropPoint_2 5 rfl rfl)
theorem dX1_dropPoint_50 : decode cX1_dropPoint 50 = .ok (.aload_n 0, 1) := dk_42 (dk_at dksX1_dropPoint_2 6 rfl rfl)
theorem dX1_dropPoint_51 : decode cX1_dropPoint 51 = .ok (.aload 4, 2) := dk_25 4 (dk_at dksX1_dropPoint_2 7 rfl rfl)
theorem dX1_dropPoint_53 : decode cX1_dropPoint 53 = .ok (.aload_n 3, 1) := dk_45 (dk_at dksX1_dropPoint_2 9 rfl rfl)
theorem dX1_dropPoint_54 : decode cX1_dropPoint 54 = .ok (.invokevirtual 161, 3) := dk_182 0 161 (dk_at dksX1_dropPoint_2 10 rfl rfl)
theorem dX1_dropPoint_57 : decode cX1_dropPoint 57 = .ok (.invokevirtual 134, 3) := dk_182 0 134 (dk_at dksX1_dropPoint_2 13 rfl rfl)
theorem dX1_dropPoint_60 : decode cX1_dropPoint 60 = .ok (.pop, 1) := dk_87 (dk_at dksX1_dropPoint_2 16 rfl rfl)
theorem dX1_dropPoint_61 : decode cX1_dropPoint 61 = .ok (.aload_n 3, 1) := dk_45 (dk_at dksX1_dropPoint_2 17 rfl rfl)
theorem dX1_dropPoint_62 : decode cX1_dropPoint 62 = .ok (.getfield 158, 3) := dk_180 0 158 (dk_at dksX1_dropPoint_2 18 rfl rfl)
theorem dX1_dropPoint_65 : decode cX1_dropPoint 65 = .ok (.invokeinterface 104 1, 5) := by decide +kernel
theorem dX1_dropPoint_70 : decode cX1_dropPoint 70 = .ok (.ireturn, 1) := dk_172 (dk_at dksX1_dropPoint_3 5 rfl rfl)
abbrev cX1_addArea : ByteArray := prog_1_method_22_code
def yX1_addArea : MethodName := ⟨RX1, "addArea", "(IIII)I"⟩
def dkwX1_addArea_3 : List UInt8 := [180, 0, 128, 4, 96, 27, 28, 29, 21, 4, 183, 0, 166, 182, 0, 151, 172]
abbrev dktX1_addArea_3 : List UInt8 := dkwX1_addArea_3 ++ []
def dkwX1_addArea_2 : List UInt8 := [185, 0, 104, 1, 0, 16, 12, 162, 0, 7, 4, 167, 0, 4, 3, 184, 0, 145, 42, 187, 0, 98, 89, 42]
abbrev dktX1_addArea_2 : List UInt8 := dkwX1_addArea_2 ++ dktX1_addArea_3
def dkwX1_addArea_1 : List UInt8 := [21, 4, 29, 5, 29, 104, 184, 0, 43, 153, 0, 7, 4, 167, 0, 4, 3, 184, 0, 142, 42, 180, 0, 10]
abbrev dktX1_addArea_1 : List UInt8 := dkwX1_addArea_1 ++ dktX1_addArea_2
def dkwX1_addArea_0 : List UInt8 := [27, 184, 0, 138, 153, 0, 36, 28, 184, 0, 138, 153, 0, 29, 29, 4, 16, 20, 184, 0, 43, 153, 0, 19]
abbrev dktX1_addArea_0 : List UInt8 := dkwX1_addArea_0 ++ dktX1_addArea_1
theorem dksX1_addArea_0 : cX1_addArea.data.toList.drop 0 = dktX1_addArea_0 := by decide +kernel
theorem dksX1_addArea_1 : cX1_addArea.data.toList.drop 24 = dktX1_addArea_1 := dk_seg dksX1_addArea_0 24 rfl rfl
theorem dksX1_addArea_2 : cX1_addArea.data.toList.drop 48 = dktX1_addArea_2 := dk_seg dksX1_addArea_1 24 rfl rfl
theorem dksX1_addArea_3 : cX1_addArea.data.toList.drop 72 = dktX1_addArea_3 := dk_seg dksX1_addArea_2 24 rfl rfl
theorem dX1_addArea_0 : decode cX1_addArea 0 = .ok (.iload_n 1, 1) := dk_27 (dk_at dksX1_addArea_0 0 rfl rfl)
theorem dX1_addArea_1 : decode cX1_addArea 1 = .ok (.invokestatic 138, 3) := dk_184 0 138 (dk_at dksX1_addArea_0 1 rfl rfl)
theorem dX1_addArea_4 : decode cX1_addArea 4 = .ok (.ifCond .eq 36, 3) := dk_153 0 36 (dk_at dksX1_addArea_0 4 rfl rfl)
theorem dX1_addArea_7 : decode cX1_addArea 7 = .ok (.iload_n 2, 1) := dk_28 (dk_at dksX1_addArea_0 7 rfl rfl)
theorem dX1_addArea_8 : decode cX1_addArea 8 = .ok (.invokestatic 138, 3) := dk_184 0 138 (dk_at dksX1_addArea_0 8 rfl rfl)
theorem dX1_addArea_11 : decode cX1_addArea 11 = .ok (.ifCond .eq 29, 3) := dk_153 0 29 (dk_at dksX1_addArea_0 11 rfl rfl)
theorem dX1_addArea_14 : decode cX1_addArea 14 = .ok (.iload_n 3, 1) := dk_29 (dk_at dksX1_addArea_0 14 rfl rfl)
theorem dX1_addArea_15 : decode cX1_addArea 15 = .ok (.iconst 1, 1) := dk_4 (dk_at dksX1_addArea_0 15 rfl rfl)
theorem dX1_addArea_16 : decode cX1_addArea 16 = .ok (.bipush 20, 2) := dk_16 20 (dk_at dksX1_addArea_0 16 rfl rfl)
theorem dX1_addArea_18 : decode cX1_addArea 18 = .ok (.invokestatic 43, 3) := dk_184 0 43 (dk_at dksX1_addArea_0 18 rfl rfl)
theorem dX1_addArea_21 : decode cX1_addArea 21 = .ok (.ifCond .eq 19, 3) := dk_153 0 19 (dk_at dksX1_addArea_0 21 rfl rfl)
theorem dX1_addArea_24 : decode cX1_addArea 24 = .ok (.iload 4, 2) := dk_21 4 (dk_at dksX1_addArea_1 0 rfl rfl)
theorem dX1_addArea_26 : decode cX1_addArea 26 = .ok (.iload_n 3, 1) := dk_29 (dk_at dksX1_addArea_1 2 rfl rfl)
theorem dX1_addArea_27 : decode cX1_addArea 27 = .ok (.iconst 2, 1) := dk_5 (dk_at dksX1_addArea_1 3 rfl rfl)
theorem dX1_addArea_28 : decode cX1_addArea 28 = .ok (.iload_n 3, 1) := dk_29 (dk_at dksX1_addArea_1 4 rfl rfl)
theorem dX1_addArea_29 : decode cX1_addArea 29 = .ok (.imul, 1) := dk_104 (dk_at dksX1_addArea_1 5 rfl rfl)
theorem dX1_addArea_30 : decode cX1_addArea 30 = .ok (.invokestatic 43, 3) := dk_184 0 43 (dk_at dksX1_addArea_1 6 rfl rfl)
theorem dX1_addArea_33 : decode cX1_addArea 33 = .ok (.ifCond .eq 7, 3) := dk_153 0 7 (dk_at dksX1_addArea_1 9 rfl rfl)
theorem dX1_addArea_36 : decode cX1_addArea 36 = .ok (.iconst 1, 1) := dk_4 (dk_at dksX1_addArea_1 12 rfl rfl)
theorem dX1_addArea_37 : decode cX1_addArea 37 = .ok (.goto 4, 3) := dk_167 0 4 (dk_at dksX1_addArea_1 13 rfl rfl)
theorem dX1_addArea_40 : decode cX1_addArea 40 = .ok (.iconst 0, 1) := dk_3 (dk_at dksX1_addArea_1 16 rfl rfl)
theorem dX1_addArea_41 : decode cX1_addArea 41 = .ok (.invokestatic 142, 3) := dk_184 0 142 (dk_at dksX1_addArea_1 17 rfl rfl)
theorem dX1_addArea_44 : decode cX1_addArea 44 = .ok (.aload_n 0, 1) := dk_42 (dk_at dksX1_addArea_1 20 rfl rfl)
theorem dX1_addArea_45 : decode cX1_addArea 45 = .ok (.getfield 10, 3) := dk_180 0 10 (dk_at dksX1_addArea_1 21 rfl rfl)
theorem dX1_addArea_48 : decode cX1_addArea 48 = .ok (.invokeinterface 104 1, 5) := by decide +kernel
theorem dX1_addArea_53 : decode cX1_addArea 53 = .ok (.bipush 12, 2) := dk_16 12 (dk_at dksX1_addArea_2 5 rfl rfl)
theorem dX1_addArea_55 : decode cX1_addArea 55 = .ok (.if_icmp .ge 7, 3) := dk_162 0 7 (dk_at dksX1_addArea_2 7 rfl rfl)
theorem dX1_addArea_58 : decode cX1_addArea 58 = .ok (.iconst 1, 1) := dk_4 (dk_at dksX1_addArea_2 10 rfl rfl)
theorem dX1_addArea_59 : decode cX1_addArea 59 = .ok (.goto 4, 3) := dk_167 0 4 (dk_at dksX1_addArea_2 11 rfl rfl)
theorem dX1_addArea_62 : decode cX1_addArea 62 = .ok (.iconst 0, 1) := dk_3 (dk_at dksX1_addArea_2 14 rfl rfl)
theorem dX1_addArea_63 : decode cX1_addArea 63 = .ok (.invokestatic 145, 3) := dk_184 0 145 (dk_at dksX1_addArea_2 15 rfl rfl)
theorem dX1_addArea_66 : decode cX1_addArea 66 = .ok (.aload_n 0, 1) := dk_42 (dk_at dksX1_addArea_2 18 rfl rfl)
theorem dX1_addArea_67 : decode cX1_addArea 67 = .ok (.new 98, 3) := dk_187 0 98 (dk_at dksX1_addArea_2 19 rfl rfl)
theorem dX1_addArea_70 : decode cX1_addArea 70 = .ok (.dup, 1) := dk_89 (dk_at dksX1_addArea_2 22 rfl rfl)
theorem dX1_addArea_71 : decode cX1_addArea 71 = .ok (.aload_n 0, 1) := dk_42 (dk_at dksX1_addArea_2 23 rfl rfl)
theorem dX1_addArea_72 : decode cX1_addArea 72 = .ok (.getfield 128, 3) := dk_180 0 128 (dk_at dksX1_addArea_3 0 rfl rfl)
theorem dX1_addArea_75 : decode cX1_addArea 75 = .ok (.iconst 1, 1) := dk_4 (dk_at dksX1_addArea_3 3 rfl rfl)
theorem dX1_addArea_76 : decode cX1_addArea 76 = .ok (.iadd, 1) := dk_96 (dk_at dksX1_addArea_3 4 rfl rfl)
theorem dX1_addArea_77 : decode cX1_addArea 77 = .ok (.iload_n 1, 1) := dk_27 (dk_at dksX1_addArea_3 5 rfl rfl)
theorem dX1_addArea_78 : decode cX1_addArea 78 = .ok (.iload_n 2, 1) := dk_28 (dk_at dksX1_addArea_3 6 rfl rfl)
theorem dX1_addArea_79 : decode cX1_addArea 79 = .ok (.iload_n 3, 1) := dk_29 (dk_at dksX1_addArea_3 7 rfl rfl)
theorem dX1_addArea_80 : decode cX1_addArea 80 = .ok (.iload 4, 2) := dk_21 4 (dk_at dksX1_addArea_3 8 rfl rfl)
theorem dX1_addArea_82 : decode cX1_addArea 82 = .ok (.invokespecial 166, 3) := dk_183 0 166 (dk_at dksX1_addArea_3 10 rfl rfl)
theorem dX1_addArea_85 : decode cX1_addArea 85 = .ok (.invokevirtual 151, 3) := dk_182 0 151 (dk_at dksX1_addArea_3 13 rfl rfl)
theorem dX1_addArea_88 : decode cX1_addArea 88 = .ok (.ireturn, 1) := dk_172 (dk_at dksX1_addArea_3 16 rfl rfl)
abbrev cX1_moveArea : ByteArray := prog_1_method_24_code
def yX1_moveArea : MethodName := ⟨RX1, "moveArea", "(III)I"⟩
def dkwX1_moveArea_3 : List UInt8 := [25, 4, 182, 0, 183, 182, 0, 134, 172]
abbrev dktX1_moveArea_3 : List UInt8 := dkwX1_moveArea_3 ++ []
def dkwX1_moveArea_2 : List UInt8 := [89, 180, 0, 173, 28, 96, 181, 0, 173, 25, 4, 89, 180, 0, 180, 29, 96, 181, 0, 180, 42, 25, 5]
abbrev dktX1_moveArea_2 : List UInt8 := dkwX1_moveArea_2 ++ dktX1_moveArea_3
def dkwX1_moveArea_1 : List UInt8 := [29, 184, 0, 176, 153, 0, 7, 4, 167, 0, 4, 3, 184, 0, 142, 25, 4, 182, 0, 183, 58, 5, 25, 4]
abbrev dktX1_moveArea_1 : List UInt8 := dkwX1_moveArea_1 ++ dktX1_moveArea_2
def dkwX1_moveArea_0 : List UInt8 := [42, 27, 182, 0, 169, 58, 4, 25, 4, 180, 0, 173, 28, 184, 0, 176, 153, 0, 19, 25, 4, 180, 0, 180]
abbrev dktX1_moveArea_0 : List UInt8 := dkwX1_moveArea_0 ++ dktX1_moveArea_1
theorem dksX1_moveArea_0 : cX1_moveArea.data.toList.drop 0 = dktX1_moveArea_0 := by decide +kernel
theorem dksX1_moveArea_1 : cX1_moveArea.data.toList.drop 24 = dktX1_moveArea_1 := dk_seg dksX1_moveArea_0 24 rfl rfl
theorem dksX1_moveArea_2 : cX1_moveArea.data.toList.drop 48 = dktX1_moveArea_2 := dk_seg dksX1_moveArea_1 24 rfl rfl
theorem dksX1_moveArea_3 : cX1_moveArea.data.toList.drop 71 = dktX1_moveArea_3 := dk_seg dksX1_moveArea_2 23 rfl rfl
theorem dX1_moveArea_0 : decode cX1_moveArea 0 = .ok (.aload_n 0, 1) := dk_42 (dk_at dksX1_moveArea_0 0 rfl rfl)
theorem dX1_moveArea_1 : decode cX1_moveArea 1 = .ok (.iload_n 1, 1) := dk_27 (dk_at dksX1_moveArea_0 1 rfl rfl)
theorem dX1_moveArea_2 : decode cX1_moveArea 2 = .ok (.invokevirtual 169, 3) := dk_182 0 169 (dk_at dksX1_moveArea_0 2 rfl rfl)
theorem dX1_moveArea_5 : decode cX1_moveArea 5 = .ok (.astore 4, 2) := dk_58 4 (dk_at dksX1_moveArea_0 5 rfl rfl)
theorem dX1_moveArea_7 : decode cX1_moveArea 7 = .ok (.aload 4, 2) := dk_25 4 (dk_at dksX1_moveArea_0 7 rfl rfl)
theorem dX1_moveArea_9 : decode cX1_moveArea 9 = .ok (.getfield 173, 3) := dk_180 0 173 (dk_at dksX1_moveArea_0 9 rfl rfl)
theorem dX1_moveArea_12 : decode cX1_moveArea 12 = .ok (.iload_n 2, 1) := dk_28 (dk_at dksX1_moveArea_0 12 rfl rfl)
theorem dX1_moveArea_13 : decode cX1_moveArea 13 = .ok (.invokestatic 176, 3) := dk_184 0 176 (dk_at dksX1_moveArea_0 13 rfl rfl)
theorem dX1_moveArea_16 : decode cX1_moveArea 16 = .ok (.ifCond .eq 19, 3) := dk_153 0 19 (dk_at dksX1_moveArea_0 16 rfl rfl)
theorem dX1_moveArea_19 : decode cX1_moveArea 19 = .ok (.aload 4, 2) := dk_25 4 (dk_at dksX1_moveArea_0 19 rfl rfl)
theorem dX1_moveArea_21 : decode cX1_moveArea 21 = .ok (.getfield 180, 3) := dk_180 0 180 (dk_at dksX1_moveArea_0 21 rfl rfl)
theorem dX1_moveArea_24 : decode cX1_moveArea 24 = .ok (.iload_n 3, 1) := dk_29 (dk_at dksX1_moveArea_1 0 rfl rfl)
theorem dX1_moveArea_25 : decode cX1_moveArea 25 = .ok (.invokestatic 176, 3) := dk_184 0 176 (dk_at dksX1_moveArea_1 1 rfl rfl)
theorem dX1_moveArea_28 : decode cX1_moveArea 28 = .ok (.ifCond .eq 7, 3) := dk_153 0 7 (dk_at dksX1_moveArea_1 4 rfl rfl)
theorem dX1_moveArea_31 : decode cX1_moveArea 31 = .ok (.iconst 1, 1) := dk_4 (dk_at dksX1_moveArea_1 7 rfl rfl)
theorem dX1_moveArea_32 : decode cX1_moveArea 32 = .ok (.goto 4, 3) := dk_167 0 4 (dk_at dksX1_moveArea_1 8 rfl rfl)
theorem dX1_moveArea_35 : decode cX1_moveArea 35 = .ok (.iconst 0, 1) := dk_3 (dk_at dksX1_moveArea_1 11 rfl rfl)
theorem dX1_moveArea_36 : decode cX1_moveArea 36 = .ok (.invokestatic 142, 3) := dk_184 0 142 (dk_at dksX1_moveArea_1 12 rfl rfl)
theorem dX1_moveArea_39 : decode cX1_moveArea 39 = .ok (.aload 4, 2) := dk_25 4 (dk_at dksX1_moveArea_1 15 rfl rfl)
theorem dX1_moveArea_41 : decode cX1_moveArea 41 = .ok (.invokevirtual 183, 3) := dk_182 0 183 (dk_at dksX1_moveArea_1 17 rfl rfl)
theorem dX1_moveArea_44 : decode cX1_moveArea 44 = .ok (.astore 5, 2) := dk_58 5 (dk_at dksX1_moveArea_1 20 rfl rfl)
theorem dX1_moveArea_46 : decode cX1_moveArea 46 = .ok (.aload 4, 2) := dk_25 4 (dk_at dksX1_moveArea_1 22 rfl rfl)
theorem dX1_moveArea_48 : decode cX1_moveArea 48 = .ok (.dup, 1) := dk_89 (dk_at dksX1_moveArea_2 0 rfl rfl)
theorem dX1_moveArea_49 : decode cX1_moveArea 49 = .ok (.getfield 173, 3) := dk_180 0 173 (dk_at dksX1_moveArea_2 1 rfl rfl)
theorem dX1_moveArea_52 : decode cX1_moveArea 52 = .ok (.iload_n 2, 1) := dk_28 (dk_at dksX1_moveArea_2 4 rfl rfl)
theorem dX1_moveArea_53 : decode cX1_moveArea 53 = .ok (.iadd, 1) := dk_96 (dk_at dksX1_moveArea_2 5 rfl rfl)
theorem dX1_moveArea_54 : decode cX1_moveArea 54 = .ok (.putfield 173, 3) := dk_181 0 173 (dk_at dksX1_moveArea_2 6 rfl rfl)
theorem dX1_moveArea_57 : decode cX1_moveArea 57 = .ok (.aload 4, 2) := dk_25 4 (dk_at dksX1_moveArea_2 9 rfl rfl)
theorem dX1_moveArea_59 : decode cX1_moveArea 59 = .ok (.dup, 1) := dk_89 (dk_at dksX1_moveArea_2 11 rfl rfl)
theorem dX1_moveArea_60 : decode cX1_moveArea 60 = .ok (.getfield 180, 3) := dk_180 0 180 (dk_at dksX1_moveArea_2 12 rfl rfl)
theorem dX1_moveArea_63 : decode cX1_moveArea 63 = .ok (.iload_n 3, 1) := dk_29 (dk_at dksX1_moveArea_2 15 rfl rfl)
theorem dX1_moveArea_64 : decode cX1_moveArea 64 = .ok (.iadd, 1) := dk_96 (dk_at dksX1_moveArea_2 16 rfl rfl)
theorem dX1_moveArea_65 : decode cX1_moveArea 65 = .ok (.putfield 180, 3) := dk_181 0 180 (dk_at dksX1_moveArea_2 17 rfl rfl)
theorem dX1_moveArea_68 : decode cX1_moveArea 68 = .ok (.aload_n 0, 1) := dk_42 (dk_at dksX1_moveArea_2 20 rfl rfl)
theorem dX1_moveArea_69 : decode cX1_moveArea 69 = .ok (.aload 5, 2) := dk_25 5 (dk_at dksX1_moveArea_2 21 rfl rfl)
theorem dX1_moveArea_71 : decode cX1_moveArea 71 = .ok (.aload 4, 2) := dk_25 4 (dk_at dksX1_moveArea_3 0 rfl rfl)
theorem dX1_moveArea_73 : decode cX1_moveArea 73 = .ok (.invokevirtual 183, 3) := dk_182 0 183 (dk_at dksX1_moveArea_3 2 rfl rfl)
theorem dX1_moveArea_76 : decode cX1_moveArea 76 = .ok (.invokevirtual 134, 3) := dk_182 0 134 (dk_at dksX1_moveArea_3 5 rfl rfl)
theorem dX1_moveArea_79 : decode cX1_moveArea 79 = .ok (.ireturn, 1) := dk_172 (dk_at dksX1_moveArea_3 8 rfl rfl)
abbrev cX1_checkedArea : ByteArray := prog_1_method_11_code
def yX1_checkedArea : MethodName := ⟨RX1, "checkedArea", "(I)LTileServer$Area;"⟩
def dkwX1_checkedArea_1 : List UInt8 := [183, 0, 97, 191]
abbrev dktX1_checkedArea_1 : List UInt8 := dkwX1_checkedArea_1 ++ []
def dkwX1_checkedArea_0 : List UInt8 := [42, 27, 182, 0, 89, 78, 45, 193, 0, 98, 153, 0, 10, 45, 192, 0, 98, 77, 44, 176, 187, 0, 95, 89]
abbrev dktX1_checkedArea_0 : List UInt8 := dkwX1_checkedArea_0 ++ dktX1_checkedArea_1
theorem dksX1_checkedArea_0 : cX1_checkedArea.data.toList.drop 0 = dktX1_checkedArea_0 := by decide +kernel
theorem dksX1_checkedArea_1 : cX1_checkedArea.data.toList.drop 24 = dktX1_checkedArea_1 := dk_seg dksX1_checkedArea_0 24 rfl rfl
theorem dX1_checkedArea_0 : decode cX1_checkedArea 0 = .ok (.aload_n 0, 1) := dk_42 (dk_at dksX1_checkedArea_0 0 rfl rfl)
theorem dX1_checkedArea_1 : decode cX1_checkedArea 1 = .ok (.iload_n 1, 1) := dk_27 (dk_at dksX1_checkedArea_0 1 rfl rfl)
theorem dX1_checkedArea_2 : decode cX1_checkedArea 2 = .ok (.invokevirtual 89, 3) := dk_182 0 89 (dk_at dksX1_checkedArea_0 2 rfl rfl)
theorem dX1_checkedArea_5 : decode cX1_checkedArea 5 = .ok (.astore_n 3, 1) := dk_78 (dk_at dksX1_checkedArea_0 5 rfl rfl)
theorem dX1_checkedArea_6 : decode cX1_checkedArea 6 = .ok (.aload_n 3, 1) := dk_45 (dk_at dksX1_checkedArea_0 6 rfl rfl)
theorem dX1_checkedArea_7 : decode cX1_checkedArea 7 = .ok (.instanceof 98, 3) := dk_193 0 98 (dk_at dksX1_checkedArea_0 7 rfl rfl)
theorem dX1_checkedArea_10 : decode cX1_checkedArea 10 = .ok (.ifCond .eq 10, 3) := dk_153 0 10 (dk_at dksX1_checkedArea_0 10 rfl rfl)
theorem dX1_checkedArea_13 : decode cX1_checkedArea 13 = .ok (.aload_n 3, 1) := dk_45 (dk_at dksX1_checkedArea_0 13 rfl rfl)
theorem dX1_checkedArea_14 : decode cX1_checkedArea 14 = .ok (.checkcast 98, 3) := dk_192 0 98 (dk_at dksX1_checkedArea_0 14 rfl rfl)
theorem dX1_checkedArea_17 : decode cX1_checkedArea 17 = .ok (.astore_n 2, 1) := dk_77 (dk_at dksX1_checkedArea_0 17 rfl rfl)
theorem dX1_checkedArea_18 : decode cX1_checkedArea 18 = .ok (.aload_n 2, 1) := dk_44 (dk_at dksX1_checkedArea_0 18 rfl rfl)
theorem dX1_checkedArea_19 : decode cX1_checkedArea 19 = .ok (.areturn, 1) := dk_176 (dk_at dksX1_checkedArea_0 19 rfl rfl)
theorem dX1_checkedArea_20 : decode cX1_checkedArea 20 = .ok (.new 95, 3) := dk_187 0 95 (dk_at dksX1_checkedArea_0 20 rfl rfl)
theorem dX1_checkedArea_23 : decode cX1_checkedArea 23 = .ok (.dup, 1) := dk_89 (dk_at dksX1_checkedArea_0 23 rfl rfl)
theorem dX1_checkedArea_24 : decode cX1_checkedArea 24 = .ok (.invokespecial 97, 3) := dk_183 0 97 (dk_at dksX1_checkedArea_1 0 rfl rfl)
theorem dX1_checkedArea_27 : decode cX1_checkedArea 27 = .ok (.athrow, 1) := dk_191 (dk_at dksX1_checkedArea_1 3 rfl rfl)
abbrev cX1_staysOnMap : ByteArray := prog_1_method_23_code
def yX1_staysOnMap : MethodName := ⟨RX1, "staysOnMap", "(II)Z"⟩
def dkwX1_staysOnMap_1 : List UInt8 := [3, 172]
abbrev dktX1_staysOnMap_1 : List UInt8 := dkwX1_staysOnMap_1 ++ []
def dkwX1_staysOnMap_0 : List UInt8 := [27, 16, 192, 16, 64, 184, 0, 43, 153, 0, 16, 26, 27, 96, 184, 0, 138, 153, 0, 7, 4, 167, 0, 4]
abbrev dktX1_staysOnMap_0 : List UInt8 := dkwX1_staysOnMap_0 ++ dktX1_staysOnMap_1
theorem dksX1_staysOnMap_0 : cX1_staysOnMap.data.toList.drop 0 = dktX1_staysOnMap_0 := by decide +kernel
theorem dksX1_staysOnMap_1 : cX1_staysOnMap.data.toList.drop 24 = dktX1_staysOnMap_1 := dk_seg dksX1_staysOnMap_0 24 rfl rfl
theorem dX1_staysOnMap_0 : decode cX1_staysOnMap 0 = .ok (.iload_n 1, 1) := dk_27 (dk_at dksX1_staysOnMap_0 0 rfl rfl)
theorem dX1_staysOnMap_1 : decode cX1_staysOnMap 1 = .ok (.bipush (-64), 2) := dk_16 192 (dk_at dksX1_staysOnMap_0 1 rfl rfl)
theorem dX1_staysOnMap_3 : decode cX1_staysOnMap 3 = .ok (.bipush 64, 2) := dk_16 64 (dk_at dksX1_staysOnMap_0 3 rfl rfl)
theorem dX1_staysOnMap_5 : decode cX1_staysOnMap 5 = .ok (.invokestatic 43, 3) := dk_184 0 43 (dk_at dksX1_staysOnMap_0 5 rfl rfl)
theorem dX1_staysOnMap_8 : decode cX1_staysOnMap 8 = .ok (.ifCond .eq 16, 3) := dk_153 0 16 (dk_at dksX1_staysOnMap_0 8 rfl rfl)
theorem dX1_staysOnMap_11 : decode cX1_staysOnMap 11 = .ok (.iload_n 0, 1) := dk_26 (dk_at dksX1_staysOnMap_0 11 rfl rfl)
theorem dX1_staysOnMap_12 : decode cX1_staysOnMap 12 = .ok (.iload_n 1, 1) := dk_27 (dk_at dksX1_staysOnMap_0 12 rfl rfl)
theorem dX1_staysOnMap_13 : decode cX1_staysOnMap 13 = .ok (.iadd, 1) := dk_96 (dk_at dksX1_staysOnMap_0 13 rfl rfl)
theorem dX1_staysOnMap_14 : decode cX1_staysOnMap 14 = .ok (.invokestatic 138, 3) := dk_184 0 138 (dk_at dksX1_staysOnMap_0 14 rfl rfl)
theorem dX1_staysOnMap_17 : decode cX1_staysOnMap 17 = .ok (.ifCond .eq 7, 3) := dk_153 0 7 (dk_at dksX1_staysOnMap_0 17 rfl rfl)
theorem dX1_staysOnMap_20 : decode cX1_staysOnMap 20 = .ok (.iconst 1, 1) := dk_4 (dk_at dksX1_staysOnMap_0 20 rfl rfl)
theorem dX1_staysOnMap_21 : decode cX1_staysOnMap 21 = .ok (.goto 4, 3) := dk_167 0 4 (dk_at dksX1_staysOnMap_0 21 rfl rfl)
theorem dX1_staysOnMap_24 : decode cX1_staysOnMap 24 = .ok (.iconst 0, 1) := dk_3 (dk_at dksX1_staysOnMap_1 0 rfl rfl)
theorem dX1_staysOnMap_25 : decode cX1_staysOnMap 25 = .ok (.ireturn, 1) := dk_172 (dk_at dksX1_staysOnMap_1 1 rfl rfl)
abbrev cX1_remove : ByteArray := prog_1_method_25_code
def yX1_remove : MethodName := ⟨RX1, "remove", "(I)I"⟩
def dkwX1_remove_1 : List UInt8 := [182, 0, 131, 182, 0, 134, 87, 42, 180, 0, 10, 185, 0, 104, 1, 0, 172]
abbrev dktX1_remove_1 : List UInt8 := dkwX1_remove_1 ++ []
def dkwX1_remove_0 : List UInt8 := [42, 27, 182, 0, 89, 77, 42, 180, 0, 10, 44, 185, 0, 184, 2, 0, 87, 42, 44, 182, 0, 131, 44]
abbrev dktX1_remove_0 : List UInt8 := dkwX1_remove_0 ++ dktX1_remove_1
theorem dksX1_remove_0 : cX1_remove.data.toList.drop 0 = dktX1_remove_0 := by decide +kernel
theorem dksX1_remove_1 : cX1_remove.data.toList.drop 23 = dktX1_remove_1 := dk_seg dksX1_remove_0 23 rfl rfl
theorem dX1_remove_0 : decode cX1_remove 0 = .ok (.aload_n 0, 1) := dk_42 (dk_at dksX1_remove_0 0 rfl rfl)
theorem dX1_remove_1 : decode cX1_remove 1 = .ok (.iload_n 1, 1) := dk_27 (dk_at dksX1_remove_0 1 rfl rfl)
theorem dX1_remove_2 : decode cX1_remove 2 = .ok (.invokevirtual 89, 3) := dk_182 0 89 (dk_at dksX1_remove_0 2 rfl rfl)
theorem dX1_remove_5 : decode cX1_remove 5 = .ok (.astore_n 2, 1) := dk_77 (dk_at dksX1_remove_0 5 rfl rfl)
theorem dX1_remove_6 : decode cX1_remove 6 = .ok (.aload_n 0, 1) := dk_42 (dk_at dksX1_remove_0 6 rfl rfl)
theorem dX1_remove_7 : decode cX1_remove 7 = .ok (.getfield 10, 3) := dk_180 0 10 (dk_at dksX1_remove_0 7 rfl rfl)
theorem dX1_remove_10 : decode cX1_remove 10 = .ok (.aload_n 2, 1) := dk_44 (dk_at dksX1_remove_0 10 rfl rfl)
theorem dX1_remove_11 : decode cX1_remove 11 = .ok (.invokeinterface 184 2, 5) := by decide +kernel
theorem dX1_remove_16 : decode cX1_remove 16 = .ok (.pop, 1) := dk_87 (dk_at dksX1_remove_0 16 rfl rfl)
theorem dX1_remove_17 : decode cX1_remove 17 = .ok (.aload_n 0, 1) := dk_42 (dk_at dksX1_remove_0 17 rfl rfl)
theorem dX1_remove_18 : decode cX1_remove 18 = .ok (.aload_n 2, 1) := dk_44 (dk_at dksX1_remove_0 18 rfl rfl)
theorem dX1_remove_19 : decode cX1_remove 19 = .ok (.invokevirtual 131, 3) := dk_182 0 131 (dk_at dksX1_remove_0 19 rfl rfl)
theorem dX1_remove_22 : decode cX1_remove 22 = .ok (.aload_n 2, 1) := dk_44 (dk_at dksX1_remove_0 22 rfl rfl)
theorem dX1_remove_23 : decode cX1_remove 23 = .ok (.invokevirtual 131, 3) := dk_182 0 131 (dk_at dksX1_remove_1 0 rfl rfl)
theorem dX1_remove_26 : decode cX1_remove 26 = .ok (.invokevirtual 134, 3) := dk_182 0 134 (dk_at dksX1_remove_1 3 rfl rfl)
theorem dX1_remove_29 : decode cX1_remove 29 = .ok (.pop, 1) := dk_87 (dk_at dksX1_remove_1 6 rfl rfl)
theorem dX1_remove_30 : decode cX1_remove 30 = .ok (.aload_n 0, 1) := dk_42 (dk_at dksX1_remove_1 7 rfl rfl)
theorem dX1_remove_31 : decode cX1_remove 31 = .ok (.getfield 10, 3) := dk_180 0 10 (dk_at dksX1_remove_1 8 rfl rfl)
theorem dX1_remove_34 : decode cX1_remove 34 = .ok (.invokeinterface 104 1, 5) := by decide +kernel
theorem dX1_remove_39 : decode cX1_remove 39 = .ok (.ireturn, 1) := dk_172 (dk_at dksX1_remove_1 16 rfl rfl)
abbrev cX1_setLabel : ByteArray := prog_1_method_26_code
def yX1_setLabel : MethodName := ⟨RX1, "setLabel", "(III)I"⟩
def dkwX1_setLabel_2 : List UInt8 := [25, 4, 29, 181, 0, 189, 21, 5, 172]
abbrev dktX1_setLabel_2 : List UInt8 := dkwX1_setLabel_2 ++ []
def dkwX1_setLabel_1 : List UInt8 := [153, 0, 7, 4, 167, 0, 4, 3, 184, 0, 142, 25, 4, 180, 0, 186, 54, 5, 25, 4, 28, 181, 0, 186]
abbrev dktX1_setLabel_1 : List UInt8 := dkwX1_setLabel_1 ++ dktX1_setLabel_2
def dkwX1_setLabel_0 : List UInt8 := [42, 27, 182, 0, 89, 58, 4, 28, 3, 16, 8, 184, 0, 43, 153, 0, 17, 29, 4, 16, 9, 184, 0, 43]
abbrev dktX1_setLabel_0 : List UInt8 := dkwX1_setLabel_0 ++ dktX1_setLabel_1
theorem dksX1_setLabel_0 : cX1_setLabel.data.toList.drop 0 = dktX1_setLabel_0 := by decide +kernel
theorem dksX1_setLabel_1 : cX1_setLabel.data.toList.drop 24 = dktX1_setLabel_1 := dk_seg dksX1_setLabel_0 24 rfl rfl
theorem dksX1_setLabel_2 : cX1_setLabel.data.toList.drop 48 = dktX1_setLabel_2 := dk_seg dksX1_setLabel_1 24 rfl rfl
theorem dX1_setLabel_0 : decode cX1_setLabel 0 = .ok (.aload_n 0, 1) := dk_42 (dk_at dksX1_setLabel_0 0 rfl rfl)
theorem dX1_setLabel_1 : decode cX1_setLabel 1 = .ok (.iload_n 1, 1) := dk_27 (dk_at dksX1_setLabel_0 1 rfl rfl)
theorem dX1_setLabel_2 : decode cX1_setLabel 2 = .ok (.invokevirtual 89, 3) := dk_182 0 89 (dk_at dksX1_setLabel_0 2 rfl rfl)
theorem dX1_setLabel_5 : decode cX1_setLabel 5 = .ok (.astore 4, 2) := dk_58 4 (dk_at dksX1_setLabel_0 5 rfl rfl)
theorem dX1_setLabel_7 : decode cX1_setLabel 7 = .ok (.iload_n 2, 1) := dk_28 (dk_at dksX1_setLabel_0 7 rfl rfl)
theorem dX1_setLabel_8 : decode cX1_setLabel 8 = .ok (.iconst 0, 1) := dk_3 (dk_at dksX1_setLabel_0 8 rfl rfl)
theorem dX1_setLabel_9 : decode cX1_setLabel 9 = .ok (.bipush 8, 2) := dk_16 8 (dk_at dksX1_setLabel_0 9 rfl rfl)
theorem dX1_setLabel_11 : decode cX1_setLabel 11 = .ok (.invokestatic 43, 3) := dk_184 0 43 (dk_at dksX1_setLabel_0 11 rfl rfl)
theorem dX1_setLabel_14 : decode cX1_setLabel 14 = .ok (.ifCond .eq 17, 3) := dk_153 0 17 (dk_at dksX1_setLabel_0 14 rfl rfl)
theorem dX1_setLabel_17 : decode cX1_setLabel 17 = .ok (.iload_n 3, 1) := dk_29 (dk_at dksX1_setLabel_0 17 rfl rfl)
theorem dX1_setLabel_18 : decode cX1_setLabel 18 = .ok (.iconst 1, 1) := dk_4 (dk_at dksX1_setLabel_0 18 rfl rfl)
theorem dX1_setLabel_19 : decode cX1_setLabel 19 = .ok (.bipush 9, 2) := dk_16 9 (dk_at dksX1_setLabel_0 19 rfl rfl)
theorem dX1_setLabel_21 : decode cX1_setLabel 21 = .ok (.invokestatic 43, 3) := dk_184 0 43 (dk_at dksX1_setLabel_0 21 rfl rfl)
theorem dX1_setLabel_24 : decode cX1_setLabel 24 = .ok (.ifCond .eq 7, 3) := dk_153 0 7 (dk_at dksX1_setLabel_1 0 rfl rfl)
theorem dX1_setLabel_27 : decode cX1_setLabel 27 = .ok (.iconst 1, 1) := dk_4 (dk_at dksX1_setLabel_1 3 rfl rfl)
theorem dX1_setLabel_28 : decode cX1_setLabel 28 = .ok (.goto 4, 3) := dk_167 0 4 (dk_at dksX1_setLabel_1 4 rfl rfl)
theorem dX1_setLabel_31 : decode cX1_setLabel 31 = .ok (.iconst 0, 1) := dk_3 (dk_at dksX1_setLabel_1 7 rfl rfl)
theorem dX1_setLabel_32 : decode cX1_setLabel 32 = .ok (.invokestatic 142, 3) := dk_184 0 142 (dk_at dksX1_setLabel_1 8 rfl rfl)
theorem dX1_setLabel_35 : decode cX1_setLabel 35 = .ok (.aload 4, 2) := dk_25 4 (dk_at dksX1_setLabel_1 11 rfl rfl)
theorem dX1_setLabel_37 : decode cX1_setLabel 37 = .ok (.getfield 186, 3) := dk_180 0 186 (dk_at dksX1_setLabel_1 13 rfl rfl)
theorem dX1_setLabel_40 : decode cX1_setLabel 40 = .ok (.istore 5, 2) := dk_54 5 (dk_at dksX1_setLabel_1 16 rfl rfl)
theorem dX1_setLabel_42 : decode cX1_setLabel 42 = .ok (.aload 4, 2) := dk_25 4 (dk_at dksX1_setLabel_1 18 rfl rfl)
theorem dX1_setLabel_44 : decode cX1_setLabel 44 = .ok (.iload_n 2, 1) := dk_28 (dk_at dksX1_setLabel_1 20 rfl rfl)
theorem dX1_setLabel_45 : decode cX1_setLabel 45 = .ok (.putfield 186, 3) := dk_181 0 186 (dk_at dksX1_setLabel_1 21 rfl rfl)
theorem dX1_setLabel_48 : decode cX1_setLabel 48 = .ok (.aload 4, 2) := dk_25 4 (dk_at dksX1_setLabel_2 0 rfl rfl)
theorem dX1_setLabel_50 : decode cX1_setLabel 50 = .ok (.iload_n 3, 1) := dk_29 (dk_at dksX1_setLabel_2 2 rfl rfl)
theorem dX1_setLabel_51 : decode cX1_setLabel 51 = .ok (.putfield 189, 3) := dk_181 0 189 (dk_at dksX1_setLabel_2 3 rfl rfl)
theorem dX1_setLabel_54 : decode cX1_setLabel 54 = .ok (.iload 5, 2) := dk_21 5 (dk_at dksX1_setLabel_2 6 rfl rfl)
theorem dX1_setLabel_56 : decode cX1_setLabel 56 = .ok (.ireturn, 1) := dk_172 (dk_at dksX1_setLabel_2 8 rfl rfl)
abbrev cX1_setTolerance : ByteArray := prog_1_method_27_code
def yX1_setTolerance : MethodName := ⟨RX1, "setTolerance", "(II)I"⟩
def dkwX1_setTolerance_3 : List UInt8 := [180, 0, 16, 21, 4, 185, 0, 121, 2, 0, 87, 132, 4, 255, 167, 255, 215, 29, 172]
abbrev dktX1_setTolerance_3 : List UInt8 := dkwX1_setTolerance_3 ++ []
def dkwX1_setTolerance_2 : List UInt8 := [42, 180, 0, 16, 21, 4, 185, 0, 108, 2, 0, 192, 0, 112, 180, 0, 192, 27, 160, 0, 15, 42]
abbrev dktX1_setTolerance_2 : List UInt8 := dkwX1_setTolerance_2 ++ dktX1_setTolerance_3
def dkwX1_setTolerance_1 : List UInt8 := [180, 0, 19, 27, 28, 79, 42, 180, 0, 16, 185, 0, 104, 1, 0, 4, 100, 54, 4, 21, 4, 155, 0, 42]
abbrev dktX1_setTolerance_1 : List UInt8 := dkwX1_setTolerance_1 ++ dktX1_setTolerance_2
def dkwX1_setTolerance_0 : List UInt8 := [27, 184, 0, 60, 28, 3, 16, 9, 184, 0, 43, 184, 0, 142, 42, 180, 0, 19, 27, 46, 62, 42]
abbrev dktX1_setTolerance_0 : List UInt8 := dkwX1_setTolerance_0 ++ dktX1_setTolerance_1
theorem dksX1_setTolerance_0 : cX1_setTolerance.data.toList.drop 0 = dktX1_setTolerance_0 := by decide +kernel
theorem dksX1_setTolerance_1 : cX1_setTolerance.data.toList.drop 22 = dktX1_setTolerance_1 := dk_seg dksX1_setTolerance_0 22 rfl rfl
theorem dksX1_setTolerance_2 : cX1_setTolerance.data.toList.drop 46 = dktX1_setTolerance_2 := dk_seg dksX1_setTolerance_1 24 rfl rfl
theorem dksX1_setTolerance_3 : cX1_setTolerance.data.toList.drop 68 = dktX1_setTolerance_3 := dk_seg dksX1_setTolerance_2 22 rfl rfl
theorem dX1_setTolerance_0 : decode cX1_setTolerance 0 = .ok (.iload_n 1, 1) := dk_27 (dk_at dksX1_setTolerance_0 0 rfl rfl)
theorem dX1_setTolerance_1 : decode cX1_setTolerance 1 = .ok (.invokestatic 60, 3) := dk_184 0 60 (dk_at dksX1_setTolerance_0 1 rfl rfl)
theorem dX1_setTolerance_4 : decode cX1_setTolerance 4 = .ok (.iload_n 2, 1) := dk_28 (dk_at dksX1_setTolerance_0 4 rfl rfl)
theorem dX1_setTolerance_5 : decode cX1_setTolerance 5 = .ok (.iconst 0, 1) := dk_3 (dk_at dksX1_setTolerance_0 5 rfl rfl)
theorem dX1_setTolerance_6 : decode cX1_setTolerance 6 = .ok (.bipush 9, 2) := dk_16 9 (dk_at dksX1_setTolerance_0 6 rfl rfl)
theorem dX1_setTolerance_8 : decode cX1_setTolerance 8 = .ok (.invokestatic 43, 3) := dk_184 0 43 (dk_at dksX1_setTolerance_0 8 rfl rfl)
theorem dX1_setTolerance_11 : decode cX1_setTolerance 11 = .ok (.invokestatic 142, 3) := dk_184 0 142 (dk_at dksX1_setTolerance_0 11 rfl rfl)
theorem dX1_setTolerance_14 : decode cX1_setTolerance 14 = .ok (.aload_n 0, 1) := dk_42 (dk_at dksX1_setTolerance_0 14 rfl rfl)
theorem dX1_setTolerance_15 : decode cX1_setTolerance 15 = .ok (.getfield 19, 3) := dk_180 0 19 (dk_at dksX1_setTolerance_0 15 rfl rfl)
theorem dX1_setTolerance_18 : decode cX1_setTolerance 18 = .ok (.iload_n 1, 1) := dk_27 (dk_at dksX1_setTolerance_0 18 rfl rfl)
theorem dX1_setTolerance_19 : decode cX1_setTolerance 19 = .ok (.iaload, 1) := dk_46 (dk_at dksX1_setTolerance_0 19 rfl rfl)
theorem dX1_setTolerance_20 : decode cX1_setTolerance 20 = .ok (.istore_n 3, 1) := dk_62 (dk_at dksX1_setTolerance_0 20 rfl rfl)
theorem dX1_setTolerance_21 : decode cX1_setTolerance 21 = .ok (.aload_n 0, 1) := dk_42 (dk_at dksX1_setTolerance_0 21 rfl rfl)
theorem dX1_setTolerance_22 : decode cX1_setTolerance 22 = .ok (.getfield 19, 3) := dk_180 0 19 (dk_at dksX1_setTolerance_1 0 rfl rfl)
theorem dX1_setTolerance_25 : decode cX1_setTolerance 25 = .ok (.iload_n 1, 1) := dk_27 (dk_at dksX1_setTolerance_1 3 rfl rfl)
theorem dX1_setTolerance_26 : decode cX1_setTolerance 26 = .ok (.iload_n 2, 1) := dk_28 (dk_at dksX1_setTolerance_1 4 rfl rfl)
theorem dX1_setTolerance_27 : decode cX1_setTolerance 27 = .ok (.iastore, 1) := dk_79 (dk_at dksX1_setTolerance_1 5 rfl rfl)
theorem dX1_setTolerance_28 : decode cX1_setTolerance 28 = .ok (.aload_n 0, 1) := dk_42 (dk_at dksX1_setTolerance_1 6 rfl rfl)
theorem dX1_setTolerance_29 : decode cX1_setTolerance 29 = .ok (.getfield 16, 3) := dk_180 0 16 (dk_at dksX1_setTolerance_1 7 rfl rfl)
theorem dX1_setTolerance_32 : decode cX1_setTolerance 32 = .ok (.invokeinterface 104 1, 5) := by decide +kernel
theorem dX1_setTolerance_37 : decode cX1_setTolerance 37 = .ok (.iconst 1, 1) := dk_4 (dk_at dksX1_setTolerance_1 15 rfl rfl)
theorem dX1_setTolerance_38 : decode cX1_setTolerance 38 = .ok (.isub, 1) := dk_100 (dk_at dksX1_setTolerance_1 16 rfl rfl)
theorem dX1_setTolerance_39 : decode cX1_setTolerance 39 = .ok (.istore 4, 2) := dk_54 4 (dk_at dksX1_setTolerance_1 17 rfl rfl)
theorem dX1_setTolerance_41 : decode cX1_setTolerance 41 = .ok (.iload 4, 2) := dk_21 4 (dk_at dksX1_setTolerance_1 19 rfl rfl)
theorem dX1_setTolerance_43 : decode cX1_setTolerance 43 = .ok (.ifCond .lt 42, 3) := dk_155 0 42 (dk_at dksX1_setTolerance_1 21 rfl rfl)
theorem dX1_setTolerance_46 : decode cX1_setTolerance 46 = .ok (.aload_n 0, 1) := dk_42 (dk_at dksX1_setTolerance_2 0 rfl rfl)
theorem dX1_setTolerance_47 : decode cX1_setTolerance 47 = .ok (.getfield 16, 3) := dk_180 0 16 (dk_at dksX1_setTolerance_2 1 rfl rfl)
theorem dX1_setTolerance_50 : decode cX1_setTolerance 50 = .ok (.iload 4, 2) := dk_21 4 (dk_at dksX1_setTolerance_2 4 rfl rfl)
theorem dX1_setTolerance_52 : decode cX1_setTolerance 52 = .ok (.invokeinterface 108 2, 5) := by decide +kernel
theorem dX1_setTolerance_57 : decode cX1_setTolerance 57 = .ok (.checkcast 112, 3) := dk_192 0 112 (dk_at dksX1_setTolerance_2 11 rfl rfl)
theorem dX1_setTolerance_60 : decode cX1_setTolerance 60 = .ok (.getfield 192, 3) := dk_180 0 192 (dk_at dksX1_setTolerance_2 14 rfl rfl)
theorem dX1_setTolerance_63 : decode cX1_setTolerance 63 = .ok (.iload_n 1, 1) := dk_27 (dk_at dksX1_setTolerance_2 17 rfl rfl)
theorem dX1_setTolerance_64 : decode cX1_setTolerance 64 = .ok (.if_icmp .ne 15, 3) := dk_160 0 15 (dk_at dksX1_setTolerance_2 18 rfl rfl)
theorem dX1_setTolerance_67 : decode cX1_setTolerance 67 = .ok (.aload_n 0, 1) := dk_42 (dk_at dksX1_setTolerance_2 21 rfl rfl)
theorem dX1_setTolerance_68 : decode cX1_setTolerance 68 = .ok (.getfield 16, 3) := dk_180 0 16 (dk_at dksX1_setTolerance_3 0 rfl rfl)
theorem dX1_setTolerance_71 : decode cX1_setTolerance 71 = .ok (.iload 4, 2) := dk_21 4 (dk_at dksX1_setTolerance_3 3 rfl rfl)
theorem dX1_setTolerance_73 : decode cX1_setTolerance 73 = .ok (.invokeinterface 121 2, 5) := by decide +kernel
theorem dX1_setTolerance_78 : decode cX1_setTolerance 78 = .ok (.pop, 1) := dk_87 (dk_at dksX1_setTolerance_3 10 rfl rfl)
theorem dX1_setTolerance_79 : decode cX1_setTolerance 79 = .ok (.iinc 4 (-1), 3) := dk_132 4 255 (dk_at dksX1_setTolerance_3 11 rfl rfl)
theorem dX1_setTolerance_82 : decode cX1_setTolerance 82 = .ok (.goto (-41), 3) := dk_167 255 215 (dk_at dksX1_setTolerance_3 14 rfl rfl)
theorem dX1_setTolerance_85 : decode cX1_setTolerance 85 = .ok (.iload_n 3, 1) := dk_29 (dk_at dksX1_setTolerance_3 17 rfl rfl)
theorem dX1_setTolerance_86 : decode cX1_setTolerance 86 = .ok (.ireturn, 1) := dk_172 (dk_at dksX1_setTolerance_3 18 rfl rfl)
abbrev cX1_checkLevel : ByteArray := prog_1_method_7_code
def yX1_checkLevel : MethodName := ⟨RX1, "checkLevel", "(I)V"⟩
def dkwX1_checkLevel_0 : List UInt8 := [26, 3, 6, 184, 0, 43, 184, 0, 56, 177]
abbrev dktX1_checkLevel_0 : List UInt8 := dkwX1_checkLevel_0 ++ []
theorem dksX1_checkLevel_0 : cX1_checkLevel.data.toList.drop 0 = dktX1_checkLevel_0 := by decide +kernel
theorem dX1_checkLevel_0 : decode cX1_checkLevel 0 = .ok (.iload_n 0, 1) := dk_26 (dk_at dksX1_checkLevel_0 0 rfl rfl)
theorem dX1_checkLevel_1 : decode cX1_checkLevel 1 = .ok (.iconst 0, 1) := dk_3 (dk_at dksX1_checkLevel_0 1 rfl rfl)
theorem dX1_checkLevel_2 : decode cX1_checkLevel 2 = .ok (.iconst 3, 1) := dk_6 (dk_at dksX1_checkLevel_0 2 rfl rfl)
theorem dX1_checkLevel_3 : decode cX1_checkLevel 3 = .ok (.invokestatic 43, 3) := dk_184 0 43 (dk_at dksX1_checkLevel_0 3 rfl rfl)
theorem dX1_checkLevel_6 : decode cX1_checkLevel 6 = .ok (.invokestatic 56, 3) := dk_184 0 56 (dk_at dksX1_checkLevel_0 6 rfl rfl)
theorem dX1_checkLevel_9 : decode cX1_checkLevel 9 = .ok (.return_, 1) := dk_177 (dk_at dksX1_checkLevel_0 9 rfl rfl)
abbrev cX1_pass : ByteArray := prog_1_method_28_code
def yX1_pass : MethodName := ⟨RX1, "pass", "(I)I"⟩
def dkwX1_pass_3 : List UInt8 := [185, 0, 121, 2, 0, 87, 132, 2, 1, 132, 3, 255, 167, 255, 209, 28, 172]
abbrev dktX1_pass_3 : List UInt8 := dkwX1_pass_3 ++ []
def dkwX1_pass_2 : List UInt8 := [185, 0, 108, 2, 0, 192, 0, 112, 180, 0, 198, 100, 16, 20, 161, 0, 17, 42, 180, 0, 16, 29]
abbrev dktX1_pass_2 : List UInt8 := dkwX1_pass_2 ++ dktX1_pass_3
def dkwX1_pass_1 : List UInt8 := [180, 0, 16, 185, 0, 104, 1, 0, 4, 100, 62, 29, 155, 0, 49, 42, 180, 0, 195, 42, 180, 0, 16, 29]
abbrev dktX1_pass_1 : List UInt8 := dkwX1_pass_1 ++ dktX1_pass_2
def dkwX1_pass_0 : List UInt8 := [27, 4, 16, 99, 184, 0, 43, 184, 0, 142, 42, 89, 180, 0, 195, 27, 96, 181, 0, 195, 3, 61, 42]
abbrev dktX1_pass_0 : List UInt8 := dkwX1_pass_0 ++ dktX1_pass_1
theorem dksX1_pass_0 : cX1_pass.data.toList.drop 0 = dktX1_pass_0 := by decide +kernel
theorem dksX1_pass_1 : cX1_pass.data.toList.drop 23 = dktX1_pass_1 := dk_seg dksX1_pass_0 23 rfl rfl
theorem dksX1_pass_2 : cX1_pass.data.toList.drop 47 = dktX1_pass_2 := dk_seg dksX1_pass_1 24 rfl rfl
theorem dksX1_pass_3 : cX1_pass.data.toList.drop 69 = dktX1_pass_3 := dk_seg dksX1_pass_2 22 rfl rfl
theorem dX1_pass_0 : decode cX1_pass 0 = .ok (.iload_n 1, 1) := dk_27 (dk_at dksX1_pass_0 0 rfl rfl)
theorem dX1_pass_1 : decode cX1_pass 1 = .ok (.iconst 1, 1) := dk_4 (dk_at dksX1_pass_0 1 rfl rfl)
theorem dX1_pass_2 : decode cX1_pass 2 = .ok (.bipush 99, 2) := dk_16 99 (dk_at dksX1_pass_0 2 rfl rfl)
theorem dX1_pass_4 : decode cX1_pass 4 = .ok (.invokestatic 43, 3) := dk_184 0 43 (dk_at dksX1_pass_0 4 rfl rfl)
theorem dX1_pass_7 : decode cX1_pass 7 = .ok (.invokestatic 142, 3) := dk_184 0 142 (dk_at dksX1_pass_0 7 rfl rfl)
theorem dX1_pass_10 : decode cX1_pass 10 = .ok (.aload_n 0, 1) := dk_42 (dk_at dksX1_pass_0 10 rfl rfl)
theorem dX1_pass_11 : decode cX1_pass 11 = .ok (.dup, 1) := dk_89 (dk_at dksX1_pass_0 11 rfl rfl)
theorem dX1_pass_12 : decode cX1_pass 12 = .ok (.getfield 195, 3) := dk_180 0 195 (dk_at dksX1_pass_0 12 rfl rfl)
theorem dX1_pass_15 : decode cX1_pass 15 = .ok (.iload_n 1, 1) := dk_27 (dk_at dksX1_pass_0 15 rfl rfl)
theorem dX1_pass_16 : decode cX1_pass 16 = .ok (.iadd, 1) := dk_96 (dk_at dksX1_pass_0 16 rfl rfl)
theorem dX1_pass_17 : decode cX1_pass 17 = .ok (.putfield 195, 3) := dk_181 0 195 (dk_at dksX1_pass_0 17 rfl rfl)
theorem dX1_pass_20 : decode cX1_pass 20 = .ok (.iconst 0, 1) := dk_3 (dk_at dksX1_pass_0 20 rfl rfl)
theorem dX1_pass_21 : decode cX1_pass 21 = .ok (.istore_n 2, 1) := dk_61 (dk_at dksX1_pass_0 21 rfl rfl)
theorem dX1_pass_22 : decode cX1_pass 22 = .ok (.aload_n 0, 1) := dk_42 (dk_at dksX1_pass_0 22 rfl rfl)
theorem dX1_pass_23 : decode cX1_pass 23 = .ok (.getfield 16, 3) := dk_180 0 16 (dk_at dksX1_pass_1 0 rfl rfl)
theorem dX1_pass_26 : decode cX1_pass 26 = .ok (.invokeinterface 104 1, 5) := by decide +kernel
theorem dX1_pass_31 : decode cX1_pass 31 = .ok (.iconst 1, 1) := dk_4 (dk_at dksX1_pass_1 8 rfl rfl)
theorem dX1_pass_32 : decode cX1_pass 32 = .ok (.isub, 1) := dk_100 (dk_at dksX1_pass_1 9 rfl rfl)
theorem dX1_pass_33 : decode cX1_pass 33 = .ok (.istore_n 3, 1) := dk_62 (dk_at dksX1_pass_1 10 rfl rfl)
theorem dX1_pass_34 : decode cX1_pass 34 = .ok (.iload_n 3, 1) := dk_29 (dk_at dksX1_pass_1 11 rfl rfl)
theorem dX1_pass_35 : decode cX1_pass 35 = .ok (.ifCond .lt 49, 3) := dk_155 0 49 (dk_at dksX1_pass_1 12 rfl rfl)
theorem dX1_pass_38 : decode cX1_pass 38 = .ok (.aload_n 0, 1) := dk_42 (dk_at dksX1_pass_1 15 rfl rfl)
theorem dX1_pass_39 : decode cX1_pass 39 = .ok (.getfield 195, 3) := dk_180 0 195 (dk_at dksX1_pass_1 16 rfl rfl)
theorem dX1_pass_42 : decode cX1_pass 42 = .ok (.aload_n 0, 1) := dk_42 (dk_at dksX1_pass_1 19 rfl rfl)
theorem dX1_pass_43 : decode cX1_pass 43 = .ok (.getfield 16, 3) := dk_180 0 16 (dk_at dksX1_pass_1 20 rfl rfl)
theorem dX1_pass_46 : decode cX1_pass 46 = .ok (.iload_n 3, 1) := dk_29 (dk_at dksX1_pass_1 23 rfl rfl)
theorem dX1_pass_47 : decode cX1_pass 47 = .ok (.invokeinterface 108 2, 5) := by decide +kernel
theorem dX1_pass_52 : decode cX1_pass 52 = .ok (.checkcast 112, 3) := dk_192 0 112 (dk_at dksX1_pass_2 5 rfl rfl)
theorem dX1_pass_55 : decode cX1_pass 55 = .ok (.getfield 198, 3) := dk_180 0 198 (dk_at dksX1_pass_2 8 rfl rfl)
theorem dX1_pass_58 : decode cX1_pass 58 = .ok (.isub, 1) := dk_100 (dk_at dksX1_pass_2 11 rfl rfl)
theorem dX1_pass_59 : decode cX1_pass 59 = .ok (.bipush 20, 2) := dk_16 20 (dk_at dksX1_pass_2 12 rfl rfl)
theorem dX1_pass_61 : decode cX1_pass 61 = .ok (.if_icmp .lt 17, 3) := dk_161 0 17 (dk_at dksX1_pass_2 14 rfl rfl)
theorem dX1_pass_64 : decode cX1_pass 64 = .ok (.aload_n 0, 1) := dk_42 (dk_at dksX1_pass_2 17 rfl rfl)
theorem dX1_pass_65 : decode cX1_pass 65 = .ok (.getfield 16, 3) := dk_180 0 16 (dk_at dksX1_pass_2 18 rfl rfl)
theorem dX1_pass_68 : decode cX1_pass 68 = .ok (.iload_n 3, 1) := dk_29 (dk_at dksX1_pass_2 21 rfl rfl)
theorem dX1_pass_69 : decode cX1_pass 69 = .ok (.invokeinterface 121 2, 5) := by decide +kernel
theorem dX1_pass_74 : decode cX1_pass 74 = .ok (.pop, 1) := dk_87 (dk_at dksX1_pass_3 5 rfl rfl)
theorem dX1_pass_75 : decode cX1_pass 75 = .ok (.iinc 2 1, 3) := dk_132 2 1 (dk_at dksX1_pass_3 6 rfl rfl)
theorem dX1_pass_78 : decode cX1_pass 78 = .ok (.iinc 3 (-1), 3) := dk_132 3 255 (dk_at dksX1_pass_3 9 rfl rfl)
theorem dX1_pass_81 : decode cX1_pass 81 = .ok (.goto (-47), 3) := dk_167 255 209 (dk_at dksX1_pass_3 12 rfl rfl)
theorem dX1_pass_84 : decode cX1_pass 84 = .ok (.iload_n 2, 1) := dk_28 (dk_at dksX1_pass_3 15 rfl rfl)
theorem dX1_pass_85 : decode cX1_pass 85 = .ok (.ireturn, 1) := dk_172 (dk_at dksX1_pass_3 16 rfl rfl)
abbrev cX1_kindOf : ByteArray := prog_1_method_31_code
def yX1_kindOf : MethodName := ⟨RX1, "kindOf", "(I)C"⟩
def dkwX1_kindOf_0 : List UInt8 := [42, 27, 182, 0, 89, 182, 0, 201, 172]
abbrev dktX1_kindOf_0 : List UInt8 := dkwX1_kindOf_0 ++ []
theorem dksX1_kindOf_0 : cX1_kindOf.data.toList.drop 0 = dktX1_kindOf_0 := by decide +kernel
theorem dX1_kindOf_0 : decode cX1_kindOf 0 = .ok (.aload_n 0, 1) := dk_42 (dk_at dksX1_kindOf_0 0 rfl rfl)
theorem dX1_kindOf_1 : decode cX1_kindOf 1 = .ok (.iload_n 1, 1) := dk_27 (dk_at dksX1_kindOf_0 1 rfl rfl)
theorem dX1_kindOf_2 : decode cX1_kindOf 2 = .ok (.invokevirtual 89, 3) := dk_182 0 89 (dk_at dksX1_kindOf_0 2 rfl rfl)
theorem dX1_kindOf_5 : decode cX1_kindOf 5 = .ok (.invokevirtual 201, 3) := dk_182 0 201 (dk_at dksX1_kindOf_0 5 rfl rfl)
theorem dX1_kindOf_8 : decode cX1_kindOf 8 = .ok (.ireturn, 1) := dk_172 (dk_at dksX1_kindOf_0 8 rfl rfl)
abbrev cX1_points : ByteArray := prog_1_method_32_code
def yX1_points : MethodName := ⟨RX1, "points", "(I)I"⟩
def dkwX1_points_0 : List UInt8 := [42, 27, 182, 0, 154, 180, 0, 158, 185, 0, 104, 1, 0, 172]
abbrev dktX1_points_0 : List UInt8 := dkwX1_points_0 ++ []
theorem dksX1_points_0 : cX1_points.data.toList.drop 0 = dktX1_points_0 := by decide +kernel
theorem dX1_points_0 : decode cX1_points 0 = .ok (.aload_n 0, 1) := dk_42 (dk_at dksX1_points_0 0 rfl rfl)
theorem dX1_points_1 : decode cX1_points 1 = .ok (.iload_n 1, 1) := dk_27 (dk_at dksX1_points_0 1 rfl rfl)
theorem dX1_points_2 : decode cX1_points 2 = .ok (.invokevirtual 154, 3) := dk_182 0 154 (dk_at dksX1_points_0 2 rfl rfl)
theorem dX1_points_5 : decode cX1_points 5 = .ok (.getfield 158, 3) := dk_180 0 158 (dk_at dksX1_points_0 5 rfl rfl)
theorem dX1_points_8 : decode cX1_points 8 = .ok (.invokeinterface 104 1, 5) := by decide +kernel
theorem dX1_points_13 : decode cX1_points 13 = .ok (.ireturn, 1) := dk_172 (dk_at dksX1_points_0 13 rfl rfl)
abbrev cX1_xOf : ByteArray := prog_1_method_33_code
def yX1_xOf : MethodName := ⟨RX1, "xOf", "(II)I"⟩
def dkwX1_xOf_0 : List UInt8 := [42, 27, 182, 0, 154, 28, 182, 0, 162, 3, 46, 172]
abbrev dktX1_xOf_0 : List UInt8 := dkwX1_xOf_0 ++ []
theorem dksX1_xOf_0 : cX1_xOf.data.toList.drop 0 = dktX1_xOf_0 := by decide +kernel
theorem dX1_xOf_0 : decode cX1_xOf 0 = .ok (.aload_n 0, 1) := dk_42 (dk_at dksX1_xOf_0 0 rfl rfl)
theorem dX1_xOf_1 : decode cX1_xOf 1 = .ok (.iload_n 1, 1) := dk_27 (dk_at dksX1_xOf_0 1 rfl rfl)
theorem dX1_xOf_2 : decode cX1_xOf 2 = .ok (.invokevirtual 154, 3) := dk_182 0 154 (dk_at dksX1_xOf_0 2 rfl rfl)
theorem dX1_xOf_5 : decode cX1_xOf 5 = .ok (.iload_n 2, 1) := dk_28 (dk_at dksX1_xOf_0 5 rfl rfl)
theorem dX1_xOf_6 : decode cX1_xOf 6 = .ok (.invokevirtual 162, 3) := dk_182 0 162 (dk_at dksX1_xOf_0 6 rfl rfl)
theorem dX1_xOf_9 : decode cX1_xOf 9 = .ok (.iconst 0, 1) := dk_3 (dk_at dksX1_xOf_0 9 rfl rfl)
theorem dX1_xOf_10 : decode cX1_xOf 10 = .ok (.iaload, 1) := dk_46 (dk_at dksX1_xOf_0 10 rfl rfl)
theorem dX1_xOf_11 : decode cX1_xOf 11 = .ok (.ireturn, 1) := dk_172 (dk_at dksX1_xOf_0 11 rfl rfl)
abbrev cX1_yOf : ByteArray := prog_1_method_34_code
def yX1_yOf : MethodName := ⟨RX1, "yOf", "(II)I"⟩
def dkwX1_yOf_0 : List UInt8 := [42, 27, 182, 0, 154, 28, 182, 0, 162, 4, 46, 172]
abbrev dktX1_yOf_0 : List UInt8 := dkwX1_yOf_0 ++ []
theorem dksX1_yOf_0 : cX1_yOf.data.toList.drop 0 = dktX1_yOf_0 := by decide +kernel
theorem dX1_yOf_0 : decode cX1_yOf 0 = .ok (.aload_n 0, 1) := dk_42 (dk_at dksX1_yOf_0 0 rfl rfl)
theorem dX1_yOf_1 : decode cX1_yOf 1 = .ok (.iload_n 1, 1) := dk_27 (dk_at dksX1_yOf_0 1 rfl rfl)
theorem dX1_yOf_2 : decode cX1_yOf 2 = .ok (.invokevirtual 154, 3) := dk_182 0 154 (dk_at dksX1_yOf_0 2 rfl rfl)
theorem dX1_yOf_5 : decode cX1_yOf 5 = .ok (.iload_n 2, 1) := dk_28 (dk_at dksX1_yOf_0 5 rfl rfl)
theorem dX1_yOf_6 : decode cX1_yOf 6 = .ok (.invokevirtual 162, 3) := dk_182 0 162 (dk_at dksX1_yOf_0 6 rfl rfl)
theorem dX1_yOf_9 : decode cX1_yOf 9 = .ok (.iconst 1, 1) := dk_4 (dk_at dksX1_yOf_0 9 rfl rfl)
theorem dX1_yOf_10 : decode cX1_yOf 10 = .ok (.iaload, 1) := dk_46 (dk_at dksX1_yOf_0 10 rfl rfl)
theorem dX1_yOf_11 : decode cX1_yOf 11 = .ok (.ireturn, 1) := dk_172 (dk_at dksX1_yOf_0 11 rfl rfl)
abbrev cX1_isKept : ByteArray := prog_1_method_35_code
def yX1_isKept : MethodName := ⟨RX1, "isKept", "(III)Z"⟩
def dkwX1_isKept_1 : List UInt8 := [28, 46, 182, 0, 205, 29, 51, 172]
abbrev dktX1_isKept_1 : List UInt8 := dkwX1_isKept_1 ++ []
def dkwX1_isKept_0 : List UInt8 := [42, 27, 182, 0, 154, 58, 4, 28, 184, 0, 60, 25, 4, 29, 182, 0, 162, 87, 25, 4, 42, 180, 0, 19]
abbrev dktX1_isKept_0 : List UInt8 := dkwX1_isKept_0 ++ dktX1_isKept_1
theorem dksX1_isKept_0 : cX1_isKept.data.toList.drop 0 = dktX1_isKept_0 := by decide +kernel
theorem dksX1_isKept_1 : cX1_isKept.data.toList.drop 24 = dktX1_isKept_1 := dk_seg dksX1_isKept_0 24 rfl rfl
theorem dX1_isKept_0 : decode cX1_isKept 0 = .ok (.aload_n 0, 1) := dk_42 (dk_at dksX1_isKept_0 0 rfl rfl)
theorem dX1_isKept_1 : decode cX1_isKept 1 = .ok (.iload_n 1, 1) := dk_27 (dk_at dksX1_isKept_0 1 rfl rfl)
theorem dX1_isKept_2 : decode cX1_isKept 2 = .ok (.invokevirtual 154, 3) := dk_182 0 154 (dk_at dksX1_isKept_0 2 rfl rfl)
theorem dX1_isKept_5 : decode cX1_isKept 5 = .ok (.astore 4, 2) := dk_58 4 (dk_at dksX1_isKept_0 5 rfl rfl)
theorem dX1_isKept_7 : decode cX1_isKept 7 = .ok (.iload_n 2, 1) := dk_28 (dk_at dksX1_isKept_0 7 rfl rfl)
theorem dX1_isKept_8 : decode cX1_isKept 8 = .ok (.invokestatic 60, 3) := dk_184 0 60 (dk_at dksX1_isKept_0 8 rfl rfl)
theorem dX1_isKept_11 : decode cX1_isKept 11 = .ok (.aload 4, 2) := dk_25 4 (dk_at dksX1_isKept_0 11 rfl rfl)
theorem dX1_isKept_13 : decode cX1_isKept 13 = .ok (.iload_n 3, 1) := dk_29 (dk_at dksX1_isKept_0 13 rfl rfl)
theorem dX1_isKept_14 : decode cX1_isKept 14 = .ok (.invokevirtual 162, 3) := dk_182 0 162 (dk_at dksX1_isKept_0 14 rfl rfl)
theorem dX1_isKept_17 : decode cX1_isKept 17 = .ok (.pop, 1) := dk_87 (dk_at dksX1_isKept_0 17 rfl rfl)
theorem dX1_isKept_18 : decode cX1_isKept 18 = .ok (.aload 4, 2) := dk_25 4 (dk_at dksX1_isKept_0 18 rfl rfl)
theorem dX1_isKept_20 : decode cX1_isKept 20 = .ok (.aload_n 0, 1) := dk_42 (dk_at dksX1_isKept_0 20 rfl rfl)
theorem dX1_isKept_21 : decode cX1_isKept 21 = .ok (.getfield 19, 3) := dk_180 0 19 (dk_at dksX1_isKept_0 21 rfl rfl)
theorem dX1_isKept_24 : decode cX1_isKept 24 = .ok (.iload_n 2, 1) := dk_28 (dk_at dksX1_isKept_1 0 rfl rfl)
theorem dX1_isKept_25 : decode cX1_isKept 25 = .ok (.iaload, 1) := dk_46 (dk_at dksX1_isKept_1 1 rfl rfl)
theorem dX1_isKept_26 : decode cX1_isKept 26 = .ok (.invokevirtual 205, 3) := dk_182 0 205 (dk_at dksX1_isKept_1 2 rfl rfl)
theorem dX1_isKept_29 : decode cX1_isKept 29 = .ok (.iload_n 3, 1) := dk_29 (dk_at dksX1_isKept_1 5 rfl rfl)
theorem dX1_isKept_30 : decode cX1_isKept 30 = .ok (.baload, 1) := dk_51 (dk_at dksX1_isKept_1 6 rfl rfl)
theorem dX1_isKept_31 : decode cX1_isKept 31 = .ok (.ireturn, 1) := dk_172 (dk_at dksX1_isKept_1 7 rfl rfl)
abbrev cX1_isKeptByMarks : ByteArray := prog_1_method_36_code
def yX1_isKeptByMarks : MethodName := ⟨RX1, "isKeptByMarks", "(III)Z"⟩
def dkwX1_isKeptByMarks_1 : List UInt8 := [28, 46, 182, 0, 209, 29, 51, 172]
abbrev dktX1_isKeptByMarks_1 : List UInt8 := dkwX1_isKeptByMarks_1 ++ []
def dkwX1_isKeptByMarks_0 : List UInt8 := [42, 27, 182, 0, 154, 58, 4, 28, 184, 0, 60, 25, 4, 29, 182, 0, 162, 87, 25, 4, 42, 180, 0, 19]
abbrev dktX1_isKeptByMarks_0 : List UInt8 := dkwX1_isKeptByMarks_0 ++ dktX1_isKeptByMarks_1
theorem dksX1_isKeptByMarks_0 : cX1_isKeptByMarks.data.toList.drop 0 = dktX1_isKeptByMarks_0 := by decide +kernel
theorem dksX1_isKeptByMarks_1 : cX1_isKeptByMarks.data.toList.drop 24 = dktX1_isKeptByMarks_1 := dk_seg dksX1_isKeptByMarks_0 24 rfl rfl
theorem dX1_isKeptByMarks_0 : decode cX1_isKeptByMarks 0 = .ok (.aload_n 0, 1) := dk_42 (dk_at dksX1_isKeptByMarks_0 0 rfl rfl)
theorem dX1_isKeptByMarks_1 : decode cX1_isKeptByMarks 1 = .ok (.iload_n 1, 1) := dk_27 (dk_at dksX1_isKeptByMarks_0 1 rfl rfl)
theorem dX1_isKeptByMarks_2 : decode cX1_isKeptByMarks 2 = .ok (.invokevirtual 154, 3) := dk_182 0 154 (dk_at dksX1_isKeptByMarks_0 2 rfl rfl)
theorem dX1_isKeptByMarks_5 : decode cX1_isKeptByMarks 5 = .ok (.astore 4, 2) := dk_58 4 (dk_at dksX1_isKeptByMarks_0 5 rfl rfl)
theorem dX1_isKeptByMarks_7 : decode cX1_isKeptByMarks 7 = .ok (.iload_n 2, 1) := dk_28 (dk_at dksX1_isKeptByMarks_0 7 rfl rfl)
theorem dX1_isKeptByMarks_8 : decode cX1_isKeptByMarks 8 = .ok (.invokestatic 60, 3) := dk_184 0 60 (dk_at dksX1_isKeptByMarks_0 8 rfl rfl)
theorem dX1_isKeptByMarks_11 : decode cX1_isKeptByMarks 11 = .ok (.aload 4, 2) := dk_25 4 (dk_at dksX1_isKeptByMarks_0 11 rfl rfl)
theorem dX1_isKeptByMarks_13 : decode cX1_isKeptByMarks 13 = .ok (.iload_n 3, 1) := dk_29 (dk_at dksX1_isKeptByMarks_0 13 rfl rfl)
theorem dX1_isKeptByMarks_14 : decode cX1_isKeptByMarks 14 = .ok (.invokevirtual 162, 3) := dk_182 0 162 (dk_at dksX1_isKeptByMarks_0 14 rfl rfl)
theorem dX1_isKeptByMarks_17 : decode cX1_isKeptByMarks 17 = .ok (.pop, 1) := dk_87 (dk_at dksX1_isKeptByMarks_0 17 rfl rfl)
theorem dX1_isKeptByMarks_18 : decode cX1_isKeptByMarks 18 = .ok (.aload 4, 2) := dk_25 4 (dk_at dksX1_isKeptByMarks_0 18 rfl rfl)
theorem dX1_isKeptByMarks_20 : decode cX1_isKeptByMarks 20 = .ok (.aload_n 0, 1) := dk_42 (dk_at dksX1_isKeptByMarks_0 20 rfl rfl)
theorem dX1_isKeptByMarks_21 : decode cX1_isKeptByMarks 21 = .ok (.getfield 19, 3) := dk_180 0 19 (dk_at dksX1_isKeptByMarks_0 21 rfl rfl)
theorem dX1_isKeptByMarks_24 : decode cX1_isKeptByMarks 24 = .ok (.iload_n 2, 1) := dk_28 (dk_at dksX1_isKeptByMarks_1 0 rfl rfl)
theorem dX1_isKeptByMarks_25 : decode cX1_isKeptByMarks 25 = .ok (.iaload, 1) := dk_46 (dk_at dksX1_isKeptByMarks_1 1 rfl rfl)
theorem dX1_isKeptByMarks_26 : decode cX1_isKeptByMarks 26 = .ok (.invokevirtual 209, 3) := dk_182 0 209 (dk_at dksX1_isKeptByMarks_1 2 rfl rfl)
theorem dX1_isKeptByMarks_29 : decode cX1_isKeptByMarks 29 = .ok (.iload_n 3, 1) := dk_29 (dk_at dksX1_isKeptByMarks_1 5 rfl rfl)
theorem dX1_isKeptByMarks_30 : decode cX1_isKeptByMarks 30 = .ok (.baload, 1) := dk_51 (dk_at dksX1_isKeptByMarks_1 6 rfl rfl)
theorem dX1_isKeptByMarks_31 : decode cX1_isKeptByMarks 31 = .ok (.ireturn, 1) := dk_172 (dk_at dksX1_isKeptByMarks_1 7 rfl rfl)
abbrev cX1_keptPoints : ByteArray := prog_1_method_38_code
def yX1_keptPoints : MethodName := ⟨RX1, "keptPoints", "(II)I"⟩
def dkwX1_keptPoints_0 : List UInt8 := [42, 27, 182, 0, 154, 78, 28, 184, 0, 60, 42, 45, 28, 182, 0, 221, 172]
abbrev dktX1_keptPoints_0 : List UInt8 := dkwX1_keptPoints_0 ++ []
theorem dksX1_keptPoints_0 : cX1_keptPoints.data.toList.drop 0 = dktX1_keptPoints_0 := by decide +kernel
theorem dX1_keptPoints_0 : decode cX1_keptPoints 0 = .ok (.aload_n 0, 1) := dk_42 (dk_at dksX1_keptPoints_0 0 rfl rfl)
theorem dX1_keptPoints_1 : decode cX1_keptPoints 1 = .ok (.iload_n 1, 1) := dk_27 (dk_at dksX1_keptPoints_0 1 rfl rfl)
theorem dX1_keptPoints_2 : decode cX1_keptPoints 2 = .ok (.invokevirtual 154, 3) := dk_182 0 154 (dk_at dksX1_keptPoints_0 2 rfl rfl)
theorem dX1_keptPoints_5 : decode cX1_keptPoints 5 = .ok (.astore_n 3, 1) := dk_78 (dk_at dksX1_keptPoints_0 5 rfl rfl)
theorem dX1_keptPoints_6 : decode cX1_keptPoints 6 = .ok (.iload_n 2, 1) := dk_28 (dk_at dksX1_keptPoints_0 6 rfl rfl)
theorem dX1_keptPoints_7 : decode cX1_keptPoints 7 = .ok (.invokestatic 60, 3) := dk_184 0 60 (dk_at dksX1_keptPoints_0 7 rfl rfl)
theorem dX1_keptPoints_10 : decode cX1_keptPoints 10 = .ok (.aload_n 0, 1) := dk_42 (dk_at dksX1_keptPoints_0 10 rfl rfl)
theorem dX1_keptPoints_11 : decode cX1_keptPoints 11 = .ok (.aload_n 3, 1) := dk_45 (dk_at dksX1_keptPoints_0 11 rfl rfl)
theorem dX1_keptPoints_12 : decode cX1_keptPoints 12 = .ok (.iload_n 2, 1) := dk_28 (dk_at dksX1_keptPoints_0 12 rfl rfl)
theorem dX1_keptPoints_13 : decode cX1_keptPoints 13 = .ok (.invokevirtual 221, 3) := dk_182 0 221 (dk_at dksX1_keptPoints_0 13 rfl rfl)
theorem dX1_keptPoints_16 : decode cX1_keptPoints 16 = .ok (.ireturn, 1) := dk_172 (dk_at dksX1_keptPoints_0 16 rfl rfl)
abbrev cX1_countKept : ByteArray := prog_1_method_37_code
def yX1_countKept : MethodName := ⟨RX1, "countKept", "(LTileServer$Line;I)I"⟩
def dkwX1_countKept_0 : List UInt8 := [43, 42, 180, 0, 19, 28, 46, 182, 0, 212, 182, 0, 216, 4, 96, 172]
abbrev dktX1_countKept_0 : List UInt8 := dkwX1_countKept_0 ++ []
theorem dksX1_countKept_0 : cX1_countKept.data.toList.drop 0 = dktX1_countKept_0 := by decide +kernel
theorem dX1_countKept_0 : decode cX1_countKept 0 = .ok (.aload_n 1, 1) := dk_43 (dk_at dksX1_countKept_0 0 rfl rfl)
theorem dX1_countKept_1 : decode cX1_countKept 1 = .ok (.aload_n 0, 1) := dk_42 (dk_at dksX1_countKept_0 1 rfl rfl)
theorem dX1_countKept_2 : decode cX1_countKept 2 = .ok (.getfield 19, 3) := dk_180 0 19 (dk_at dksX1_countKept_0 2 rfl rfl)
theorem dX1_countKept_5 : decode cX1_countKept 5 = .ok (.iload_n 2, 1) := dk_28 (dk_at dksX1_countKept_0 5 rfl rfl)
theorem dX1_countKept_6 : decode cX1_countKept 6 = .ok (.iaload, 1) := dk_46 (dk_at dksX1_countKept_0 6 rfl rfl)
theorem dX1_countKept_7 : decode cX1_countKept 7 = .ok (.invokevirtual 212, 3) := dk_182 0 212 (dk_at dksX1_countKept_0 7 rfl rfl)
theorem dX1_countKept_10 : decode cX1_countKept 10 = .ok (.invokevirtual 216, 3) := dk_182 0 216 (dk_at dksX1_countKept_0 10 rfl rfl)
theorem dX1_countKept_13 : decode cX1_countKept 13 = .ok (.iconst 1, 1) := dk_4 (dk_at dksX1_countKept_0 13 rfl rfl)
theorem dX1_countKept_14 : decode cX1_countKept 14 = .ok (.iadd, 1) := dk_96 (dk_at dksX1_countKept_0 14 rfl rfl)
theorem dX1_countKept_15 : decode cX1_countKept 15 = .ok (.ireturn, 1) := dk_172 (dk_at dksX1_countKept_0 15 rfl rfl)
abbrev cX1_cellAt : ByteArray := prog_1_method_42_code
def yX1_cellAt : MethodName := ⟨RX1, "cellAt", "(IIIII)I"⟩
def dkwX1_cellAt_5 : List UInt8 := [25, 6, 21, 4, 21, 5, 182, 1, 10, 172]
abbrev dktX1_cellAt_5 : List UInt8 := dkwX1_cellAt_5 ++ []
def dkwX1_cellAt_4 : List UInt8 := [180, 0, 16, 25, 6, 185, 0, 184, 2, 0, 87, 42, 180, 0, 16, 25, 6, 185, 0, 124, 2, 0, 87]
abbrev dktX1_cellAt_4 : List UInt8 := dkwX1_cellAt_4 ++ dktX1_cellAt_5
def dkwX1_cellAt_3 : List UInt8 := [25, 6, 182, 1, 4, 133, 97, 181, 1, 0, 167, 0, 25, 42, 89, 180, 1, 7, 4, 96, 181, 1, 7, 42]
abbrev dktX1_cellAt_3 : List UInt8 := dkwX1_cellAt_3 ++ dktX1_cellAt_4
def dkwX1_cellAt_2 : List UInt8 := [180, 0, 16, 3, 185, 0, 121, 2, 0, 87, 42, 27, 28, 29, 182, 0, 253, 58, 6, 42, 89, 180, 1, 0]
abbrev dktX1_cellAt_2 : List UInt8 := dkwX1_cellAt_2 ++ dktX1_cellAt_3
def dkwX1_cellAt_1 : List UInt8 := [42, 89, 180, 0, 250, 4, 96, 181, 0, 250, 42, 180, 0, 16, 185, 0, 104, 1, 0, 8, 160, 0, 14, 42]
abbrev dktX1_cellAt_1 : List UInt8 := dkwX1_cellAt_1 ++ dktX1_cellAt_2
def dkwX1_cellAt_0 : List UInt8 := [27, 28, 29, 21, 4, 21, 5, 184, 0, 243, 42, 27, 28, 29, 182, 0, 246, 58, 6, 25, 6, 199, 0, 64]
abbrev dktX1_cellAt_0 : List UInt8 := dkwX1_cellAt_0 ++ dktX1_cellAt_1
theorem dksX1_cellAt_0 : cX1_cellAt.data.toList.drop 0 = dktX1_cellAt_0 := by decide +kernel
theorem dksX1_cellAt_1 : cX1_cellAt.data.toList.drop 24 = dktX1_cellAt_1 := dk_seg dksX1_cellAt_0 24 rfl rfl
theorem dksX1_cellAt_2 : cX1_cellAt.data.toList.drop 48 = dktX1_cellAt_2 := dk_seg dksX1_cellAt_1 24 rfl rfl
theorem dksX1_cellAt_3 : cX1_cellAt.data.toList.drop 72 = dktX1_cellAt_3 := dk_seg dksX1_cellAt_2 24 rfl rfl
theorem dksX1_cellAt_4 : cX1_cellAt.data.toList.drop 96 = dktX1_cellAt_4 := dk_seg dksX1_cellAt_3 24 rfl rfl
theorem dksX1_cellAt_5 : cX1_cellAt.data.toList.drop 119 = dktX1_cellAt_5 := dk_seg dksX1_cellAt_4 23 rfl rfl
theorem dX1_cellAt_0 : decode cX1_cellAt 0 = .ok (.iload_n 1, 1) := dk_27 (dk_at dksX1_cellAt_0 0 rfl rfl)
theorem dX1_cellAt_1 : decode cX1_cellAt 1 = .ok (.iload_n 2, 1) := dk_28 (dk_at dksX1_cellAt_0 1 rfl rfl)
theorem dX1_cellAt_2 : decode cX1_cellAt 2 = .ok (.iload_n 3, 1) := dk_29 (dk_at dksX1_cellAt_0 2 rfl rfl)
theorem dX1_cellAt_3 : decode cX1_cellAt 3 = .ok (.iload 4, 2) := dk_21 4 (dk_at dksX1_cellAt_0 3 rfl rfl)
theorem dX1_cellAt_5 : decode cX1_cellAt 5 = .ok (.iload 5, 2) := dk_21 5 (dk_at dksX1_cellAt_0 5 rfl rfl)
theorem dX1_cellAt_7 : decode cX1_cellAt 7 = .ok (.invokestatic 243, 3) := dk_184 0 243 (dk_at dksX1_cellAt_0 7 rfl rfl)
theorem dX1_cellAt_10 : decode cX1_cellAt 10 = .ok (.aload_n 0, 1) := dk_42 (dk_at dksX1_cellAt_0 10 rfl rfl)
theorem dX1_cellAt_11 : decode cX1_cellAt 11 = .ok (.iload_n 1, 1) := dk_27 (dk_at dksX1_cellAt_0 11 rfl rfl)
theorem dX1_cellAt_12 : decode cX1_cellAt 12 = .ok (.iload_n 2, 1) := dk_28 (dk_at dksX1_cellAt_0 12 rfl rfl)
theorem dX1_cellAt_13 : decode cX1_cellAt 13 = .ok (.iload_n 3, 1) := dk_29 (dk_at dksX1_cellAt_0 13 rfl rfl)
theorem dX1_cellAt_14 : decode cX1_cellAt 14 = .ok (.invokevirtual 246, 3) := dk_182 0 246 (dk_at dksX1_cellAt_0 14 rfl rfl)
theorem dX1_cellAt_17 : decode cX1_cellAt 17 = .ok (.astore 6, 2) := dk_58 6 (dk_at dksX1_cellAt_0 17 rfl rfl)
theorem dX1_cellAt_19 : decode cX1_cellAt 19 = .ok (.aload 6, 2) := dk_25 6 (dk_at dksX1_cellAt_0 19 rfl rfl)
theorem dX1_cellAt_21 : decode cX1_cellAt 21 = .ok (.ifnonnull 64, 3) := dk_199 0 64 (dk_at dksX1_cellAt_0 21 rfl rfl)
theorem dX1_cellAt_24 : decode cX1_cellAt 24 = .ok (.aload_n 0, 1) := dk_42 (dk_at dksX1_cellAt_1 0 rfl rfl)
theorem dX1_cellAt_25 : decode cX1_cellAt 25 = .ok (.dup, 1) := dk_89 (dk_at dksX1_cellAt_1 1 rfl rfl)
theorem dX1_cellAt_26 : decode cX1_cellAt 26 = .ok (.getfield 250, 3) := dk_180 0 250 (dk_at dksX1_cellAt_1 2 rfl rfl)
theorem dX1_cellAt_29 : decode cX1_cellAt 29 = .ok (.iconst 1, 1) := dk_4 (dk_at dksX1_cellAt_1 5 rfl rfl)
theorem dX1_cellAt_30 : decode cX1_cellAt 30 = .ok (.iadd, 1) := dk_96 (dk_at dksX1_cellAt_1 6 rfl rfl)
theorem dX1_cellAt_31 : decode cX1_cellAt 31 = .ok (.putfield 250, 3) := dk_181 0 250 (dk_at dksX1_cellAt_1 7 rfl rfl)
theorem dX1_cellAt_34 : decode cX1_cellAt 34 = .ok (.aload_n 0, 1) := dk_42 (dk_at dksX1_cellAt_1 10 rfl rfl)
theorem dX1_cellAt_35 : decode cX1_cellAt 35 = .ok (.getfield 16, 3) := dk_180 0 16 (dk_at dksX1_cellAt_1 11 rfl rfl)
theorem dX1_cellAt_38 : decode cX1_cellAt 38 = .ok (.invokeinterface 104 1, 5) := by decide +kernel
theorem dX1_cellAt_43 : decode cX1_cellAt 43 = .ok (.iconst 5, 1) := dk_8 (dk_at dksX1_cellAt_1 19 rfl rfl)
theorem dX1_cellAt_44 : decode cX1_cellAt 44 = .ok (.if_icmp .ne 14, 3) := dk_160 0 14 (dk_at dksX1_cellAt_1 20 rfl rfl)
theorem dX1_cellAt_47 : decode cX1_cellAt 47 = .ok (.aload_n 0, 1) := dk_42 (dk_at dksX1_cellAt_1 23 rfl rfl)
theorem dX1_cellAt_48 : decode cX1_cellAt 48 = .ok (.getfield 16, 3) := dk_180 0 16 (dk_at dksX1_cellAt_2 0 rfl rfl)
theorem dX1_cellAt_51 : decode cX1_cellAt 51 = .ok (.iconst 0, 1) := dk_3 (dk_at dksX1_cellAt_2 3 rfl rfl)
theorem dX1_cellAt_52 : decode cX1_cellAt 52 = .ok (.invokeinterface 121 2, 5) := by decide +kernel
theorem dX1_cellAt_57 : decode cX1_cellAt 57 = .ok (.pop, 1) := dk_87 (dk_at dksX1_cellAt_2 9 rfl rfl)
theorem dX1_cellAt_58 : decode cX1_cellAt 58 = .ok (.aload_n 0, 1) := dk_42 (dk_at dksX1_cellAt_2 10 rfl rfl)
theorem dX1_cellAt_59 : decode cX1_cellAt 59 = .ok (.iload_n 1, 1) := dk_27 (dk_at dksX1_cellAt_2 11 rfl rfl)
theorem dX1_cellAt_60 : decode cX1_cellAt 60 = .ok (.iload_n 2, 1) := dk_28 (dk_at dksX1_cellAt_2 12 rfl rfl)
theorem dX1_cellAt_61 : decode cX1_cellAt 61 = .ok (.iload_n 3, 1) := dk_29 (dk_at dksX1_cellAt_2 13 rfl rfl)
theorem dX1_cellAt_62 : decode cX1_cellAt 62 = .ok (.invokevirtual 253, 3) := dk_182 0 253 (dk_at dksX1_cellAt_2 14 rfl rfl)
theorem dX1_cellAt_65 : decode cX1_cellAt 65 = .ok (.astore 6, 2) := dk_58 6 (dk_at dksX1_cellAt_2 17 rfl rfl)
theorem dX1_cellAt_67 : decode cX1_cellAt 67 = .ok (.aload_n 0, 1) := dk_42 (dk_at dksX1_cellAt_2 19 rfl rfl)
theorem dX1_cellAt_68 : decode cX1_cellAt 68 = .ok (.dup, 1) := dk_89 (dk_at dksX1_cellAt_2 20 rfl rfl)
theorem dX1_cellAt_69 : decode cX1_cellAt 69 = .ok (.getfield 256, 3) := dk_180 1 0 (dk_at dksX1_cellAt_2 21 rfl rfl)
theorem dX1_cellAt_72 : decode cX1_cellAt 72 = .ok (.aload 6, 2) := dk_25 6 (dk_at dksX1_cellAt_3 0 rfl rfl)
theorem dX1_cellAt_74 : decode cX1_cellAt 74 = .ok (.invokevirtual 260, 3) := dk_182 1 4 (dk_at dksX1_cellAt_3 2 rfl rfl)
theorem dX1_cellAt_77 : decode cX1_cellAt 77 = .ok (.i2l, 1) := dk_133 (dk_at dksX1_cellAt_3 5 rfl rfl)
theorem dX1_cellAt_78 : decode cX1_cellAt 78 = .ok (.ladd, 1) := dk_97 (dk_at dksX1_cellAt_3 6 rfl rfl)
theorem dX1_cellAt_79 : decode cX1_cellAt 79 = .ok (.putfield 256, 3) := dk_181 1 0 (dk_at dksX1_cellAt_3 7 rfl rfl)
theorem dX1_cellAt_82 : decode cX1_cellAt 82 = .ok (.goto 25, 3) := dk_167 0 25 (dk_at dksX1_cellAt_3 10 rfl rfl)
theorem dX1_cellAt_85 : decode cX1_cellAt 85 = .ok (.aload_n 0, 1) := dk_42 (dk_at dksX1_cellAt_3 13 rfl rfl)
theorem dX1_cellAt_86 : decode cX1_cellAt 86 = .ok (.dup, 1) := dk_89 (dk_at dksX1_cellAt_3 14 rfl rfl)
theorem dX1_cellAt_87 : decode cX1_cellAt 87 = .ok (.getfield 263, 3) := dk_180 1 7 (dk_at dksX1_cellAt_3 15 rfl rfl)
theorem dX1_cellAt_90 : decode cX1_cellAt 90 = .ok (.iconst 1, 1) := dk_4 (dk_at dksX1_cellAt_3 18 rfl rfl)
theorem dX1_cellAt_91 : decode cX1_cellAt 91 = .ok (.iadd, 1) := dk_96 (dk_at dksX1_cellAt_3 19 rfl rfl)
theorem dX1_cellAt_92 : decode cX1_cellAt 92 = .ok (.putfield 263, 3) := dk_181 1 7 (dk_at dksX1_cellAt_3 20 rfl rfl)
theorem dX1_cellAt_95 : decode cX1_cellAt 95 = .ok (.aload_n 0, 1) := dk_42 (dk_at dksX1_cellAt_3 23 rfl rfl)
theorem dX1_cellAt_96 : decode cX1_cellAt 96 = .ok (.getfield 16, 3) := dk_180 0 16 (dk_at dksX1_cellAt_4 0 rfl rfl)
theorem dX1_cellAt_99 : decode cX1_cellAt 99 = .ok (.aload 6, 2) := dk_25 6 (dk_at dksX1_cellAt_4 3 rfl rfl)
theorem dX1_cellAt_101 : decode cX1_cellAt 101 = .ok (.invokeinterface 184 2, 5) := by decide +kernel
theorem dX1_cellAt_106 : decode cX1_cellAt 106 = .ok (.pop, 1) := dk_87 (dk_at dksX1_cellAt_4 10 rfl rfl)
theorem dX1_cellAt_107 : decode cX1_cellAt 107 = .ok (.aload_n 0, 1) := dk_42 (dk_at dksX1_cellAt_4 11 rfl rfl)
theorem dX1_cellAt_108 : decode cX1_cellAt 108 = .ok (.getfield 16, 3) := dk_180 0 16 (dk_at dksX1_cellAt_4 12 rfl rfl)
theorem dX1_cellAt_111 : decode cX1_cellAt 111 = .ok (.aload 6, 2) := dk_25 6 (dk_at dksX1_cellAt_4 15 rfl rfl)
theorem dX1_cellAt_113 : decode cX1_cellAt 113 = .ok (.invokeinterface 124 2, 5) := by decide +kernel
theorem dX1_cellAt_118 : decode cX1_cellAt 118 = .ok (.pop, 1) := dk_87 (dk_at dksX1_cellAt_4 22 rfl rfl)
theorem dX1_cellAt_119 : decode cX1_cellAt 119 = .ok (.aload 6, 2) := dk_25 6 (dk_at dksX1_cellAt_5 0 rfl rfl)
theorem dX1_cellAt_121 : decode cX1_cellAt 121 = .ok (.iload 4, 2) := dk_21 4 (dk_at dksX1_cellAt_5 2 rfl rfl)
theorem dX1_cellAt_123 : decode cX1_cellAt 123 = .ok (.iload 5, 2) := dk_21 5 (dk_at dksX1_cellAt_5 4 rfl rfl)
theorem dX1_cellAt_125 : decode cX1_cellAt 125 = .ok (.invokevirtual 266, 3) := dk_182 1 10 (dk_at dksX1_cellAt_5 6 rfl rfl)
theorem dX1_cellAt_128 : decode cX1_cellAt 128 = .ok (.ireturn, 1) := dk_172 (dk_at dksX1_cellAt_5 9 rfl rfl)
abbrev cX1_checkCell : ByteArray := prog_1_method_41_code
def yX1_checkCell : MethodName := ⟨RX1, "checkCell", "(IIIII)V"⟩
def dkwX1_checkCell_1 : List UInt8 := [153, 0, 7, 4, 167, 0, 4, 3, 184, 0, 56, 177]
abbrev dktX1_checkCell_1 : List UInt8 := dkwX1_checkCell_1 ++ []
def dkwX1_checkCell_0 : List UInt8 := [26, 27, 28, 184, 0, 239, 29, 3, 16, 7, 184, 0, 43, 153, 0, 18, 21, 4, 3, 16, 7, 184, 0, 43]
abbrev dktX1_checkCell_0 : List UInt8 := dkwX1_checkCell_0 ++ dktX1_checkCell_1
theorem dksX1_checkCell_0 : cX1_checkCell.data.toList.drop 0 = dktX1_checkCell_0 := by decide +kernel
theorem dksX1_checkCell_1 : cX1_checkCell.data.toList.drop 24 = dktX1_checkCell_1 := dk_seg dksX1_checkCell_0 24 rfl rfl
theorem dX1_checkCell_0 : decode cX1_checkCell 0 = .ok (.iload_n 0, 1) := dk_26 (dk_at dksX1_checkCell_0 0 rfl rfl)
theorem dX1_checkCell_1 : decode cX1_checkCell 1 = .ok (.iload_n 1, 1) := dk_27 (dk_at dksX1_checkCell_0 1 rfl rfl)
theorem dX1_checkCell_2 : decode cX1_checkCell 2 = .ok (.iload_n 2, 1) := dk_28 (dk_at dksX1_checkCell_0 2 rfl rfl)
theorem dX1_checkCell_3 : decode cX1_checkCell 3 = .ok (.invokestatic 239, 3) := dk_184 0 239 (dk_at dksX1_checkCell_0 3 rfl rfl)
theorem dX1_checkCell_6 : decode cX1_checkCell 6 = .ok (.iload_n 3, 1) := dk_29 (dk_at dksX1_checkCell_0 6 rfl rfl)
theorem dX1_checkCell_7 : decode cX1_checkCell 7 = .ok (.iconst 0, 1) := dk_3 (dk_at dksX1_checkCell_0 7 rfl rfl)
theorem dX1_checkCell_8 : decode cX1_checkCell 8 = .ok (.bipush 7, 2) := dk_16 7 (dk_at dksX1_checkCell_0 8 rfl rfl)
theorem dX1_checkCell_10 : decode cX1_checkCell 10 = .ok (.invokestatic 43, 3) := dk_184 0 43 (dk_at dksX1_checkCell_0 10 rfl rfl)
theorem dX1_checkCell_13 : decode cX1_checkCell 13 = .ok (.ifCond .eq 18, 3) := dk_153 0 18 (dk_at dksX1_checkCell_0 13 rfl rfl)
theorem dX1_checkCell_16 : decode cX1_checkCell 16 = .ok (.iload 4, 2) := dk_21 4 (dk_at dksX1_checkCell_0 16 rfl rfl)
theorem dX1_checkCell_18 : decode cX1_checkCell 18 = .ok (.iconst 0, 1) := dk_3 (dk_at dksX1_checkCell_0 18 rfl rfl)
theorem dX1_checkCell_19 : decode cX1_checkCell 19 = .ok (.bipush 7, 2) := dk_16 7 (dk_at dksX1_checkCell_0 19 rfl rfl)
theorem dX1_checkCell_21 : decode cX1_checkCell 21 = .ok (.invokestatic 43, 3) := dk_184 0 43 (dk_at dksX1_checkCell_0 21 rfl rfl)
theorem dX1_checkCell_24 : decode cX1_checkCell 24 = .ok (.ifCond .eq 7, 3) := dk_153 0 7 (dk_at dksX1_checkCell_1 0 rfl rfl)
theorem dX1_checkCell_27 : decode cX1_checkCell 27 = .ok (.iconst 1, 1) := dk_4 (dk_at dksX1_checkCell_1 3 rfl rfl)
theorem dX1_checkCell_28 : decode cX1_checkCell 28 = .ok (.goto 4, 3) := dk_167 0 4 (dk_at dksX1_checkCell_1 4 rfl rfl)
theorem dX1_checkCell_31 : decode cX1_checkCell 31 = .ok (.iconst 0, 1) := dk_3 (dk_at dksX1_checkCell_1 7 rfl rfl)
theorem dX1_checkCell_32 : decode cX1_checkCell 32 = .ok (.invokestatic 56, 3) := dk_184 0 56 (dk_at dksX1_checkCell_1 8 rfl rfl)
theorem dX1_checkCell_35 : decode cX1_checkCell 35 = .ok (.return_, 1) := dk_177 (dk_at dksX1_checkCell_1 11 rfl rfl)
abbrev cX1_checkTile : ByteArray := prog_1_method_8_code
def yX1_checkTile : MethodName := ⟨RX1, "checkTile", "(III)V"⟩
def dkwX1_checkTile_1 : List UInt8 := [184, 0, 43, 153, 0, 7, 4, 167, 0, 4, 3, 184, 0, 56, 177]
abbrev dktX1_checkTile_1 : List UInt8 := dkwX1_checkTile_1 ++ []
def dkwX1_checkTile_0 : List UInt8 := [26, 184, 0, 60, 27, 3, 4, 26, 120, 4, 100, 184, 0, 43, 153, 0, 20, 28, 3, 4, 26, 120, 4, 100]
abbrev dktX1_checkTile_0 : List UInt8 := dkwX1_checkTile_0 ++ dktX1_checkTile_1
theorem dksX1_checkTile_0 : cX1_checkTile.data.toList.drop 0 = dktX1_checkTile_0 := by decide +kernel
theorem dksX1_checkTile_1 : cX1_checkTile.data.toList.drop 24 = dktX1_checkTile_1 := dk_seg dksX1_checkTile_0 24 rfl rfl
theorem dX1_checkTile_0 : decode cX1_checkTile 0 = .ok (.iload_n 0, 1) := dk_26 (dk_at dksX1_checkTile_0 0 rfl rfl)
theorem dX1_checkTile_1 : decode cX1_checkTile 1 = .ok (.invokestatic 60, 3) := dk_184 0 60 (dk_at dksX1_checkTile_0 1 rfl rfl)
theorem dX1_checkTile_4 : decode cX1_checkTile 4 = .ok (.iload_n 1, 1) := dk_27 (dk_at dksX1_checkTile_0 4 rfl rfl)
theorem dX1_checkTile_5 : decode cX1_checkTile 5 = .ok (.iconst 0, 1) := dk_3 (dk_at dksX1_checkTile_0 5 rfl rfl)
theorem dX1_checkTile_6 : decode cX1_checkTile 6 = .ok (.iconst 1, 1) := dk_4 (dk_at dksX1_checkTile_0 6 rfl rfl)
theorem dX1_checkTile_7 : decode cX1_checkTile 7 = .ok (.iload_n 0, 1) := dk_26 (dk_at dksX1_checkTile_0 7 rfl rfl)
theorem dX1_checkTile_8 : decode cX1_checkTile 8 = .ok (.ishl, 1) := dk_120 (dk_at dksX1_checkTile_0 8 rfl rfl)
theorem dX1_checkTile_9 : decode cX1_checkTile 9 = .ok (.iconst 1, 1) := dk_4 (dk_at dksX1_checkTile_0 9 rfl rfl)
theorem dX1_checkTile_10 : decode cX1_checkTile 10 = .ok (.isub, 1) := dk_100 (dk_at dksX1_checkTile_0 10 rfl rfl)
theorem dX1_checkTile_11 : decode cX1_checkTile 11 = .ok (.invokestatic 43, 3) := dk_184 0 43 (dk_at dksX1_checkTile_0 11 rfl rfl)
theorem dX1_checkTile_14 : decode cX1_checkTile 14 = .ok (.ifCond .eq 20, 3) := dk_153 0 20 (dk_at dksX1_checkTile_0 14 rfl rfl)
theorem dX1_checkTile_17 : decode cX1_checkTile 17 = .ok (.iload_n 2, 1) := dk_28 (dk_at dksX1_checkTile_0 17 rfl rfl)
theorem dX1_checkTile_18 : decode cX1_checkTile 18 = .ok (.iconst 0, 1) := dk_3 (dk_at dksX1_checkTile_0 18 rfl rfl)
theorem dX1_checkTile_19 : decode cX1_checkTile 19 = .ok (.iconst 1, 1) := dk_4 (dk_at dksX1_checkTile_0 19 rfl rfl)
theorem dX1_checkTile_20 : decode cX1_checkTile 20 = .ok (.iload_n 0, 1) := dk_26 (dk_at dksX1_checkTile_0 20 rfl rfl)
theorem dX1_checkTile_21 : decode cX1_checkTile 21 = .ok (.ishl, 1) := dk_120 (dk_at dksX1_checkTile_0 21 rfl rfl)
theorem dX1_checkTile_22 : decode cX1_checkTile 22 = .ok (.iconst 1, 1) := dk_4 (dk_at dksX1_checkTile_0 22 rfl rfl)
theorem dX1_checkTile_23 : decode cX1_checkTile 23 = .ok (.isub, 1) := dk_100 (dk_at dksX1_checkTile_0 23 rfl rfl)
theorem dX1_checkTile_24 : decode cX1_checkTile 24 = .ok (.invokestatic 43, 3) := dk_184 0 43 (dk_at dksX1_checkTile_1 0 rfl rfl)
theorem dX1_checkTile_27 : decode cX1_checkTile 27 = .ok (.ifCond .eq 7, 3) := dk_153 0 7 (dk_at dksX1_checkTile_1 3 rfl rfl)
theorem dX1_checkTile_30 : decode cX1_checkTile 30 = .ok (.iconst 1, 1) := dk_4 (dk_at dksX1_checkTile_1 6 rfl rfl)
theorem dX1_checkTile_31 : decode cX1_checkTile 31 = .ok (.goto 4, 3) := dk_167 0 4 (dk_at dksX1_checkTile_1 7 rfl rfl)
theorem dX1_checkTile_34 : decode cX1_checkTile 34 = .ok (.iconst 0, 1) := dk_3 (dk_at dksX1_checkTile_1 10 rfl rfl)
theorem dX1_checkTile_35 : decode cX1_checkTile 35 = .ok (.invokestatic 56, 3) := dk_184 0 56 (dk_at dksX1_checkTile_1 11 rfl rfl)
theorem dX1_checkTile_38 : decode cX1_checkTile 38 = .ok (.return_, 1) := dk_177 (dk_at dksX1_checkTile_1 14 rfl rfl)
abbrev cX1_cachedTile : ByteArray := prog_1_method_40_code
def yX1_cachedTile : MethodName := ⟨RX1, "cachedTile", "(III)LTileServer$Tile;"⟩
def dkwX1_cachedTile_2 : List UInt8 := [167, 255, 220, 1, 176]
abbrev dktX1_cachedTile_2 : List UInt8 := dkwX1_cachedTile_2 ++ []
def dkwX1_cachedTile_1 : List UInt8 := [185, 0, 76, 1, 0, 192, 0, 112, 58, 5, 25, 5, 27, 28, 29, 182, 0, 236, 153, 0, 6, 25, 5, 176]
abbrev dktX1_cachedTile_1 : List UInt8 := dkwX1_cachedTile_1 ++ dktX1_cachedTile_2
def dkwX1_cachedTile_0 : List UInt8 := [42, 180, 0, 16, 185, 0, 64, 1, 0, 58, 4, 25, 4, 185, 0, 70, 1, 0, 153, 0, 32, 25, 4]
abbrev dktX1_cachedTile_0 : List UInt8 := dkwX1_cachedTile_0 ++ dktX1_cachedTile_1
theorem dksX1_cachedTile_0 : cX1_cachedTile.data.toList.drop 0 = dktX1_cachedTile_0 := by decide +kernel
theorem dksX1_cachedTile_1 : cX1_cachedTile.data.toList.drop 23 = dktX1_cachedTile_1 := dk_seg dksX1_cachedTile_0 23 rfl rfl
theorem dksX1_cachedTile_2 : cX1_cachedTile.data.toList.drop 47 = dktX1_cachedTile_2 := dk_seg dksX1_cachedTile_1 24 rfl rfl
theorem dX1_cachedTile_0 : decode cX1_cachedTile 0 = .ok (.aload_n 0, 1) := dk_42 (dk_at dksX1_cachedTile_0 0 rfl rfl)
theorem dX1_cachedTile_1 : decode cX1_cachedTile 1 = .ok (.getfield 16, 3) := dk_180 0 16 (dk_at dksX1_cachedTile_0 1 rfl rfl)
theorem dX1_cachedTile_4 : decode cX1_cachedTile 4 = .ok (.invokeinterface 64 1, 5) := by decide +kernel
theorem dX1_cachedTile_9 : decode cX1_cachedTile 9 = .ok (.astore 4, 2) := dk_58 4 (dk_at dksX1_cachedTile_0 9 rfl rfl)
theorem dX1_cachedTile_11 : decode cX1_cachedTile 11 = .ok (.aload 4, 2) := dk_25 4 (dk_at dksX1_cachedTile_0 11 rfl rfl)
theorem dX1_cachedTile_13 : decode cX1_cachedTile 13 = .ok (.invokeinterface 70 1, 5) := by decide +kernel
theorem dX1_cachedTile_18 : decode cX1_cachedTile 18 = .ok (.ifCond .eq 32, 3) := dk_153 0 32 (dk_at dksX1_cachedTile_0 18 rfl rfl)
theorem dX1_cachedTile_21 : decode cX1_cachedTile 21 = .ok (.aload 4, 2) := dk_25 4 (dk_at dksX1_cachedTile_0 21 rfl rfl)
theorem dX1_cachedTile_23 : decode cX1_cachedTile 23 = .ok (.invokeinterface 76 1, 5) := by decide +kernel
theorem dX1_cachedTile_28 : decode cX1_cachedTile 28 = .ok (.checkcast 112, 3) := dk_192 0 112 (dk_at dksX1_cachedTile_1 5 rfl rfl)
theorem dX1_cachedTile_31 : decode cX1_cachedTile 31 = .ok (.astore 5, 2) := dk_58 5 (dk_at dksX1_cachedTile_1 8 rfl rfl)
theorem dX1_cachedTile_33 : decode cX1_cachedTile 33 = .ok (.aload 5, 2) := dk_25 5 (dk_at dksX1_cachedTile_1 10 rfl rfl)
theorem dX1_cachedTile_35 : decode cX1_cachedTile 35 = .ok (.iload_n 1, 1) := dk_27 (dk_at dksX1_cachedTile_1 12 rfl rfl)
theorem dX1_cachedTile_36 : decode cX1_cachedTile 36 = .ok (.iload_n 2, 1) := dk_28 (dk_at dksX1_cachedTile_1 13 rfl rfl)
theorem dX1_cachedTile_37 : decode cX1_cachedTile 37 = .ok (.iload_n 3, 1) := dk_29 (dk_at dksX1_cachedTile_1 14 rfl rfl)
theorem dX1_cachedTile_38 : decode cX1_cachedTile 38 = .ok (.invokevirtual 236, 3) := dk_182 0 236 (dk_at dksX1_cachedTile_1 15 rfl rfl)
theorem dX1_cachedTile_41 : decode cX1_cachedTile 41 = .ok (.ifCond .eq 6, 3) := dk_153 0 6 (dk_at dksX1_cachedTile_1 18 rfl rfl)
theorem dX1_cachedTile_44 : decode cX1_cachedTile 44 = .ok (.aload 5, 2) := dk_25 5 (dk_at dksX1_cachedTile_1 21 rfl rfl)
theorem dX1_cachedTile_46 : decode cX1_cachedTile 46 = .ok (.areturn, 1) := dk_176 (dk_at dksX1_cachedTile_1 23 rfl rfl)
theorem dX1_cachedTile_47 : decode cX1_cachedTile 47 = .ok (.goto (-36), 3) := dk_167 255 220 (dk_at dksX1_cachedTile_2 0 rfl rfl)
theorem dX1_cachedTile_50 : decode cX1_cachedTile 50 = .ok (.aconst_null, 1) := dk_1 (dk_at dksX1_cachedTile_2 3 rfl rfl)
theorem dX1_cachedTile_51 : decode cX1_cachedTile 51 = .ok (.areturn, 1) := dk_176 (dk_at dksX1_cachedTile_2 4 rfl rfl)
abbrev cX1_cellByDrawing : ByteArray := prog_1_method_43_code
def yX1_cellByDrawing : MethodName := ⟨RX1, "cellByDrawing", "(IIIII)I"⟩
def dkwX1_cellByDrawing_1 : List UInt8 := [172]
abbrev dktX1_cellByDrawing_1 : List UInt8 := dkwX1_cellByDrawing_1 ++ []
def dkwX1_cellByDrawing_0 : List UInt8 := [27, 28, 29, 21, 4, 21, 5, 184, 0, 243, 42, 27, 28, 29, 182, 0, 253, 21, 4, 21, 5, 182, 1, 10]
abbrev dktX1_cellByDrawing_0 : List UInt8 := dkwX1_cellByDrawing_0 ++ dktX1_cellByDrawing_1
theorem dksX1_cellByDrawing_0 : cX1_cellByDrawing.data.toList.drop 0 = dktX1_cellByDrawing_0 := by decide +kernel
theorem dksX1_cellByDrawing_1 : cX1_cellByDrawing.data.toList.drop 24 = dktX1_cellByDrawing_1 := dk_seg dksX1_cellByDrawing_0 24 rfl rfl
theorem dX1_cellByDrawing_0 : decode cX1_cellByDrawing 0 = .ok (.iload_n 1, 1) := dk_27 (dk_at dksX1_cellByDrawing_0 0 rfl rfl)
theorem dX1_cellByDrawing_1 : decode cX1_cellByDrawing 1 = .ok (.iload_n 2, 1) := dk_28 (dk_at dksX1_cellByDrawing_0 1 rfl rfl)
theorem dX1_cellByDrawing_2 : decode cX1_cellByDrawing 2 = .ok (.iload_n 3, 1) := dk_29 (dk_at dksX1_cellByDrawing_0 2 rfl rfl)
theorem dX1_cellByDrawing_3 : decode cX1_cellByDrawing 3 = .ok (.iload 4, 2) := dk_21 4 (dk_at dksX1_cellByDrawing_0 3 rfl rfl)
theorem dX1_cellByDrawing_5 : decode cX1_cellByDrawing 5 = .ok (.iload 5, 2) := dk_21 5 (dk_at dksX1_cellByDrawing_0 5 rfl rfl)
theorem dX1_cellByDrawing_7 : decode cX1_cellByDrawing 7 = .ok (.invokestatic 243, 3) := dk_184 0 243 (dk_at dksX1_cellByDrawing_0 7 rfl rfl)
theorem dX1_cellByDrawing_10 : decode cX1_cellByDrawing 10 = .ok (.aload_n 0, 1) := dk_42 (dk_at dksX1_cellByDrawing_0 10 rfl rfl)
theorem dX1_cellByDrawing_11 : decode cX1_cellByDrawing 11 = .ok (.iload_n 1, 1) := dk_27 (dk_at dksX1_cellByDrawing_0 11 rfl rfl)
theorem dX1_cellByDrawing_12 : decode cX1_cellByDrawing 12 = .ok (.iload_n 2, 1) := dk_28 (dk_at dksX1_cellByDrawing_0 12 rfl rfl)
theorem dX1_cellByDrawing_13 : decode cX1_cellByDrawing 13 = .ok (.iload_n 3, 1) := dk_29 (dk_at dksX1_cellByDrawing_0 13 rfl rfl)
theorem dX1_cellByDrawing_14 : decode cX1_cellByDrawing 14 = .ok (.invokevirtual 253, 3) := dk_182 0 253 (dk_at dksX1_cellByDrawing_0 14 rfl rfl)
theorem dX1_cellByDrawing_17 : decode cX1_cellByDrawing 17 = .ok (.iload 4, 2) := dk_21 4 (dk_at dksX1_cellByDrawing_0 17 rfl rfl)
theorem dX1_cellByDrawing_19 : decode cX1_cellByDrawing 19 = .ok (.iload 5, 2) := dk_21 5 (dk_at dksX1_cellByDrawing_0 19 rfl rfl)
theorem dX1_cellByDrawing_21 : decode cX1_cellByDrawing 21 = .ok (.invokevirtual 266, 3) := dk_182 1 10 (dk_at dksX1_cellByDrawing_0 21 rfl rfl)
theorem dX1_cellByDrawing_24 : decode cX1_cellByDrawing 24 = .ok (.ireturn, 1) := dk_172 (dk_at dksX1_cellByDrawing_1 0 rfl rfl)
abbrev cX1_isCached : ByteArray := prog_1_method_44_code
def yX1_isCached : MethodName := ⟨RX1, "isCached", "(III)Z"⟩
def dkwX1_isCached_0 : List UInt8 := [27, 28, 29, 184, 0, 239, 42, 27, 28, 29, 182, 0, 246, 198, 0, 7, 4, 167, 0, 4, 3, 172]
abbrev dktX1_isCached_0 : List UInt8 := dkwX1_isCached_0 ++ []
theorem dksX1_isCached_0 : cX1_isCached.data.toList.drop 0 = dktX1_isCached_0 := by decide +kernel
theorem dX1_isCached_0 : decode cX1_isCached 0 = .ok (.iload_n 1, 1) := dk_27 (dk_at dksX1_isCached_0 0 rfl rfl)
theorem dX1_isCached_1 : decode cX1_isCached 1 = .ok (.iload_n 2, 1) := dk_28 (dk_at dksX1_isCached_0 1 rfl rfl)
theorem dX1_isCached_2 : decode cX1_isCached 2 = .ok (.iload_n 3, 1) := dk_29 (dk_at dksX1_isCached_0 2 rfl rfl)
theorem dX1_isCached_3 : decode cX1_isCached 3 = .ok (.invokestatic 239, 3) := dk_184 0 239 (dk_at dksX1_isCached_0 3 rfl rfl)
theorem dX1_isCached_6 : decode cX1_isCached 6 = .ok (.aload_n 0, 1) := dk_42 (dk_at dksX1_isCached_0 6 rfl rfl)
theorem dX1_isCached_7 : decode cX1_isCached 7 = .ok (.iload_n 1, 1) := dk_27 (dk_at dksX1_isCached_0 7 rfl rfl)
theorem dX1_isCached_8 : decode cX1_isCached 8 = .ok (.iload_n 2, 1) := dk_28 (dk_at dksX1_isCached_0 8 rfl rfl)
theorem dX1_isCached_9 : decode cX1_isCached 9 = .ok (.iload_n 3, 1) := dk_29 (dk_at dksX1_isCached_0 9 rfl rfl)
theorem dX1_isCached_10 : decode cX1_isCached 10 = .ok (.invokevirtual 246, 3) := dk_182 0 246 (dk_at dksX1_isCached_0 10 rfl rfl)
theorem dX1_isCached_13 : decode cX1_isCached 13 = .ok (.ifnull 7, 3) := dk_198 0 7 (dk_at dksX1_isCached_0 13 rfl rfl)
theorem dX1_isCached_16 : decode cX1_isCached 16 = .ok (.iconst 1, 1) := dk_4 (dk_at dksX1_isCached_0 16 rfl rfl)
theorem dX1_isCached_17 : decode cX1_isCached 17 = .ok (.goto 4, 3) := dk_167 0 4 (dk_at dksX1_isCached_0 17 rfl rfl)
theorem dX1_isCached_20 : decode cX1_isCached 20 = .ok (.iconst 0, 1) := dk_3 (dk_at dksX1_isCached_0 20 rfl rfl)
theorem dX1_isCached_21 : decode cX1_isCached 21 = .ok (.ireturn, 1) := dk_172 (dk_at dksX1_isCached_0 21 rfl rfl)
abbrev cX1_ageOf : ByteArray := prog_1_method_45_code
def yX1_ageOf : MethodName := ⟨RX1, "ageOf", "(III)I"⟩
def dkwX1_ageOf_1 : List UInt8 := [183, 0, 88, 191, 42, 180, 0, 195, 25, 4, 180, 0, 198, 100, 172]
abbrev dktX1_ageOf_1 : List UInt8 := dkwX1_ageOf_1 ++ []
def dkwX1_ageOf_0 : List UInt8 := [27, 28, 29, 184, 0, 239, 42, 27, 28, 29, 182, 0, 246, 58, 4, 25, 4, 199, 0, 11, 187, 0, 86, 89]
abbrev dktX1_ageOf_0 : List UInt8 := dkwX1_ageOf_0 ++ dktX1_ageOf_1
theorem dksX1_ageOf_0 : cX1_ageOf.data.toList.drop 0 = dktX1_ageOf_0 := by decide +kernel
theorem dksX1_ageOf_1 : cX1_ageOf.data.toList.drop 24 = dktX1_ageOf_1 := dk_seg dksX1_ageOf_0 24 rfl rfl
theorem dX1_ageOf_0 : decode cX1_ageOf 0 = .ok (.iload_n 1, 1) := dk_27 (dk_at dksX1_ageOf_0 0 rfl rfl)
theorem dX1_ageOf_1 : decode cX1_ageOf 1 = .ok (.iload_n 2, 1) := dk_28 (dk_at dksX1_ageOf_0 1 rfl rfl)
theorem dX1_ageOf_2 : decode cX1_ageOf 2 = .ok (.iload_n 3, 1) := dk_29 (dk_at dksX1_ageOf_0 2 rfl rfl)
theorem dX1_ageOf_3 : decode cX1_ageOf 3 = .ok (.invokestatic 239, 3) := dk_184 0 239 (dk_at dksX1_ageOf_0 3 rfl rfl)
theorem dX1_ageOf_6 : decode cX1_ageOf 6 = .ok (.aload_n 0, 1) := dk_42 (dk_at dksX1_ageOf_0 6 rfl rfl)
theorem dX1_ageOf_7 : decode cX1_ageOf 7 = .ok (.iload_n 1, 1) := dk_27 (dk_at dksX1_ageOf_0 7 rfl rfl)
theorem dX1_ageOf_8 : decode cX1_ageOf 8 = .ok (.iload_n 2, 1) := dk_28 (dk_at dksX1_ageOf_0 8 rfl rfl)
theorem dX1_ageOf_9 : decode cX1_ageOf 9 = .ok (.iload_n 3, 1) := dk_29 (dk_at dksX1_ageOf_0 9 rfl rfl)
theorem dX1_ageOf_10 : decode cX1_ageOf 10 = .ok (.invokevirtual 246, 3) := dk_182 0 246 (dk_at dksX1_ageOf_0 10 rfl rfl)
theorem dX1_ageOf_13 : decode cX1_ageOf 13 = .ok (.astore 4, 2) := dk_58 4 (dk_at dksX1_ageOf_0 13 rfl rfl)
theorem dX1_ageOf_15 : decode cX1_ageOf 15 = .ok (.aload 4, 2) := dk_25 4 (dk_at dksX1_ageOf_0 15 rfl rfl)
theorem dX1_ageOf_17 : decode cX1_ageOf 17 = .ok (.ifnonnull 11, 3) := dk_199 0 11 (dk_at dksX1_ageOf_0 17 rfl rfl)
theorem dX1_ageOf_20 : decode cX1_ageOf 20 = .ok (.new 86, 3) := dk_187 0 86 (dk_at dksX1_ageOf_0 20 rfl rfl)
theorem dX1_ageOf_23 : decode cX1_ageOf 23 = .ok (.dup, 1) := dk_89 (dk_at dksX1_ageOf_0 23 rfl rfl)
theorem dX1_ageOf_24 : decode cX1_ageOf 24 = .ok (.invokespecial 88, 3) := dk_183 0 88 (dk_at dksX1_ageOf_1 0 rfl rfl)
theorem dX1_ageOf_27 : decode cX1_ageOf 27 = .ok (.athrow, 1) := dk_191 (dk_at dksX1_ageOf_1 3 rfl rfl)
theorem dX1_ageOf_28 : decode cX1_ageOf 28 = .ok (.aload_n 0, 1) := dk_42 (dk_at dksX1_ageOf_1 4 rfl rfl)
theorem dX1_ageOf_29 : decode cX1_ageOf 29 = .ok (.getfield 195, 3) := dk_180 0 195 (dk_at dksX1_ageOf_1 5 rfl rfl)
theorem dX1_ageOf_32 : decode cX1_ageOf 32 = .ok (.aload 4, 2) := dk_25 4 (dk_at dksX1_ageOf_1 8 rfl rfl)
theorem dX1_ageOf_34 : decode cX1_ageOf 34 = .ok (.getfield 198, 3) := dk_180 0 198 (dk_at dksX1_ageOf_1 10 rfl rfl)
theorem dX1_ageOf_37 : decode cX1_ageOf 37 = .ok (.isub, 1) := dk_100 (dk_at dksX1_ageOf_1 13 rfl rfl)
theorem dX1_ageOf_38 : decode cX1_ageOf 38 = .ok (.ireturn, 1) := dk_172 (dk_at dksX1_ageOf_1 14 rfl rfl)
abbrev cX1_hitShare : ByteArray := prog_1_method_48_code
def yX1_hitShare : MethodName := ⟨RX1, "hitShare", "()F"⟩
def dkwX1_hitShare_1 : List UInt8 := [134, 42, 180, 1, 7, 42, 180, 0, 250, 96, 134, 110, 174]
abbrev dktX1_hitShare_1 : List UInt8 := dkwX1_hitShare_1 ++ []
def dkwX1_hitShare_0 : List UInt8 := [42, 180, 1, 7, 42, 180, 0, 250, 96, 154, 0, 11, 187, 1, 13, 89, 183, 1, 15, 191, 42, 180, 1, 7]
abbrev dktX1_hitShare_0 : List UInt8 := dkwX1_hitShare_0 ++ dktX1_hitShare_1
theorem dksX1_hitShare_0 : cX1_hitShare.data.toList.drop 0 = dktX1_hitShare_0 := by decide +kernel
theorem dksX1_hitShare_1 : cX1_hitShare.data.toList.drop 24 = dktX1_hitShare_1 := dk_seg dksX1_hitShare_0 24 rfl rfl
theorem dX1_hitShare_0 : decode cX1_hitShare 0 = .ok (.aload_n 0, 1) := dk_42 (dk_at dksX1_hitShare_0 0 rfl rfl)
theorem dX1_hitShare_1 : decode cX1_hitShare 1 = .ok (.getfield 263, 3) := dk_180 1 7 (dk_at dksX1_hitShare_0 1 rfl rfl)
theorem dX1_hitShare_4 : decode cX1_hitShare 4 = .ok (.aload_n 0, 1) := dk_42 (dk_at dksX1_hitShare_0 4 rfl rfl)
theorem dX1_hitShare_5 : decode cX1_hitShare 5 = .ok (.getfield 250, 3) := dk_180 0 250 (dk_at dksX1_hitShare_0 5 rfl rfl)
theorem dX1_hitShare_8 : decode cX1_hitShare 8 = .ok (.iadd, 1) := dk_96 (dk_at dksX1_hitShare_0 8 rfl rfl)
theorem dX1_hitShare_9 : decode cX1_hitShare 9 = .ok (.ifCond .ne 11, 3) := dk_154 0 11 (dk_at dksX1_hitShare_0 9 rfl rfl)
theorem dX1_hitShare_12 : decode cX1_hitShare 12 = .ok (.new 269, 3) := dk_187 1 13 (dk_at dksX1_hitShare_0 12 rfl rfl)
theorem dX1_hitShare_15 : decode cX1_hitShare 15 = .ok (.dup, 1) := dk_89 (dk_at dksX1_hitShare_0 15 rfl rfl)
theorem dX1_hitShare_16 : decode cX1_hitShare 16 = .ok (.invokespecial 271, 3) := dk_183 1 15 (dk_at dksX1_hitShare_0 16 rfl rfl)
theorem dX1_hitShare_19 : decode cX1_hitShare 19 = .ok (.athrow, 1) := dk_191 (dk_at dksX1_hitShare_0 19 rfl rfl)
theorem dX1_hitShare_20 : decode cX1_hitShare 20 = .ok (.aload_n 0, 1) := dk_42 (dk_at dksX1_hitShare_0 20 rfl rfl)
theorem dX1_hitShare_21 : decode cX1_hitShare 21 = .ok (.getfield 263, 3) := dk_180 1 7 (dk_at dksX1_hitShare_0 21 rfl rfl)
theorem dX1_hitShare_24 : decode cX1_hitShare 24 = .ok (.i2f, 1) := dk_134 (dk_at dksX1_hitShare_1 0 rfl rfl)
theorem dX1_hitShare_25 : decode cX1_hitShare 25 = .ok (.aload_n 0, 1) := dk_42 (dk_at dksX1_hitShare_1 1 rfl rfl)
theorem dX1_hitShare_26 : decode cX1_hitShare 26 = .ok (.getfield 263, 3) := dk_180 1 7 (dk_at dksX1_hitShare_1 2 rfl rfl)
theorem dX1_hitShare_29 : decode cX1_hitShare 29 = .ok (.aload_n 0, 1) := dk_42 (dk_at dksX1_hitShare_1 5 rfl rfl)
theorem dX1_hitShare_30 : decode cX1_hitShare 30 = .ok (.getfield 250, 3) := dk_180 0 250 (dk_at dksX1_hitShare_1 6 rfl rfl)
theorem dX1_hitShare_33 : decode cX1_hitShare 33 = .ok (.iadd, 1) := dk_96 (dk_at dksX1_hitShare_1 9 rfl rfl)
theorem dX1_hitShare_34 : decode cX1_hitShare 34 = .ok (.i2f, 1) := dk_134 (dk_at dksX1_hitShare_1 10 rfl rfl)
theorem dX1_hitShare_35 : decode cX1_hitShare 35 = .ok (.fdiv, 1) := dk_110 (dk_at dksX1_hitShare_1 11 rfl rfl)
theorem dX1_hitShare_36 : decode cX1_hitShare 36 = .ok (.freturn, 1) := dk_174 (dk_at dksX1_hitShare_1 12 rfl rfl)
abbrev cX1_areaIn : ByteArray := prog_1_method_51_code
def yX1_areaIn : MethodName := ⟨RX1, "areaIn", "(IIII)I"⟩
def dkwX1_areaIn_3 : List UInt8 := [25, 7, 3, 2, 25, 6, 180, 1, 37, 116, 184, 1, 27, 58, 7, 5, 25, 7, 184, 1, 40, 104, 172]
abbrev dktX1_areaIn_3 : List UInt8 := dkwX1_areaIn_3 ++ []
def dkwX1_areaIn_2 : List UInt8 := [180, 1, 31, 116, 184, 1, 27, 58, 7, 25, 7, 3, 4, 25, 6, 180, 1, 34, 184, 1, 27, 58, 7]
abbrev dktX1_areaIn_2 : List UInt8 := dkwX1_areaIn_2 ++ dktX1_areaIn_3
def dkwX1_areaIn_1 : List UInt8 := [25, 5, 182, 1, 20, 4, 3, 25, 6, 180, 1, 24, 184, 1, 27, 58, 7, 25, 7, 2, 3, 25, 6]
abbrev dktX1_areaIn_1 : List UInt8 := dkwX1_areaIn_1 ++ dktX1_areaIn_2
def dkwX1_areaIn_0 : List UInt8 := [42, 27, 182, 0, 169, 58, 5, 28, 29, 21, 4, 184, 0, 239, 28, 29, 21, 4, 184, 1, 17, 58, 6]
abbrev dktX1_areaIn_0 : List UInt8 := dkwX1_areaIn_0 ++ dktX1_areaIn_1
theorem dksX1_areaIn_0 : cX1_areaIn.data.toList.drop 0 = dktX1_areaIn_0 := by decide +kernel
theorem dksX1_areaIn_1 : cX1_areaIn.data.toList.drop 23 = dktX1_areaIn_1 := dk_seg dksX1_areaIn_0 23 rfl rfl
theorem dksX1_areaIn_2 : cX1_areaIn.data.toList.drop 46 = dktX1_areaIn_2 := dk_seg dksX1_areaIn_1 23 rfl rfl
theorem dksX1_areaIn_3 : cX1_areaIn.data.toList.drop 69 = dktX1_areaIn_3 := dk_seg dksX1_areaIn_2 23 rfl rfl
theorem dX1_areaIn_0 : decode cX1_areaIn 0 = .ok (.aload_n 0, 1) := dk_42 (dk_at dksX1_areaIn_0 0 rfl rfl)
theorem dX1_areaIn_1 : decode cX1_areaIn 1 = .ok (.iload_n 1, 1) := dk_27 (dk_at dksX1_areaIn_0 1 rfl rfl)
theorem dX1_areaIn_2 : decode cX1_areaIn 2 = .ok (.invokevirtual 169, 3) := dk_182 0 169 (dk_at dksX1_areaIn_0 2 rfl rfl)
theorem dX1_areaIn_5 : decode cX1_areaIn 5 = .ok (.astore 5, 2) := dk_58 5 (dk_at dksX1_areaIn_0 5 rfl rfl)
theorem dX1_areaIn_7 : decode cX1_areaIn 7 = .ok (.iload_n 2, 1) := dk_28 (dk_at dksX1_areaIn_0 7 rfl rfl)
theorem dX1_areaIn_8 : decode cX1_areaIn 8 = .ok (.iload_n 3, 1) := dk_29 (dk_at dksX1_areaIn_0 8 rfl rfl)
theorem dX1_areaIn_9 : decode cX1_areaIn 9 = .ok (.iload 4, 2) := dk_21 4 (dk_at dksX1_areaIn_0 9 rfl rfl)
theorem dX1_areaIn_11 : decode cX1_areaIn 11 = .ok (.invokestatic 239, 3) := dk_184 0 239 (dk_at dksX1_areaIn_0 11 rfl rfl)
theorem dX1_areaIn_14 : decode cX1_areaIn 14 = .ok (.iload_n 2, 1) := dk_28 (dk_at dksX1_areaIn_0 14 rfl rfl)
theorem dX1_areaIn_15 : decode cX1_areaIn 15 = .ok (.iload_n 3, 1) := dk_29 (dk_at dksX1_areaIn_0 15 rfl rfl)
theorem dX1_areaIn_16 : decode cX1_areaIn 16 = .ok (.iload 4, 2) := dk_21 4 (dk_at dksX1_areaIn_0 16 rfl rfl)
theorem dX1_areaIn_18 : decode cX1_areaIn 18 = .ok (.invokestatic 273, 3) := dk_184 1 17 (dk_at dksX1_areaIn_0 18 rfl rfl)
theorem dX1_areaIn_21 : decode cX1_areaIn 21 = .ok (.astore 6, 2) := dk_58 6 (dk_at dksX1_areaIn_0 21 rfl rfl)
theorem dX1_areaIn_23 : decode cX1_areaIn 23 = .ok (.aload 5, 2) := dk_25 5 (dk_at dksX1_areaIn_1 0 rfl rfl)
theorem dX1_areaIn_25 : decode cX1_areaIn 25 = .ok (.invokevirtual 276, 3) := dk_182 1 20 (dk_at dksX1_areaIn_1 2 rfl rfl)
theorem dX1_areaIn_28 : decode cX1_areaIn 28 = .ok (.iconst 1, 1) := dk_4 (dk_at dksX1_areaIn_1 5 rfl rfl)
theorem dX1_areaIn_29 : decode cX1_areaIn 29 = .ok (.iconst 0, 1) := dk_3 (dk_at dksX1_areaIn_1 6 rfl rfl)
theorem dX1_areaIn_30 : decode cX1_areaIn 30 = .ok (.aload 6, 2) := dk_25 6 (dk_at dksX1_areaIn_1 7 rfl rfl)
theorem dX1_areaIn_32 : decode cX1_areaIn 32 = .ok (.getfield 280, 3) := dk_180 1 24 (dk_at dksX1_areaIn_1 9 rfl rfl)
theorem dX1_areaIn_35 : decode cX1_areaIn 35 = .ok (.invokestatic 283, 3) := dk_184 1 27 (dk_at dksX1_areaIn_1 12 rfl rfl)
theorem dX1_areaIn_38 : decode cX1_areaIn 38 = .ok (.astore 7, 2) := dk_58 7 (dk_at dksX1_areaIn_1 15 rfl rfl)
theorem dX1_areaIn_40 : decode cX1_areaIn 40 = .ok (.aload 7, 2) := dk_25 7 (dk_at dksX1_areaIn_1 17 rfl rfl)
theorem dX1_areaIn_42 : decode cX1_areaIn 42 = .ok (.iconst (-1), 1) := dk_2 (dk_at dksX1_areaIn_1 19 rfl rfl)
theorem dX1_areaIn_43 : decode cX1_areaIn 43 = .ok (.iconst 0, 1) := dk_3 (dk_at dksX1_areaIn_1 20 rfl rfl)
theorem dX1_areaIn_44 : decode cX1_areaIn 44 = .ok (.aload 6, 2) := dk_25 6 (dk_at dksX1_areaIn_1 21 rfl rfl)
theorem dX1_areaIn_46 : decode cX1_areaIn 46 = .ok (.getfield 287, 3) := dk_180 1 31 (dk_at dksX1_areaIn_2 0 rfl rfl)
theorem dX1_areaIn_49 : decode cX1_areaIn 49 = .ok (.ineg, 1) := dk_116 (dk_at dksX1_areaIn_2 3 rfl rfl)
theorem dX1_areaIn_50 : decode cX1_areaIn 50 = .ok (.invokestatic 283, 3) := dk_184 1 27 (dk_at dksX1_areaIn_2 4 rfl rfl)
theorem dX1_areaIn_53 : decode cX1_areaIn 53 = .ok (.astore 7, 2) := dk_58 7 (dk_at dksX1_areaIn_2 7 rfl rfl)
theorem dX1_areaIn_55 : decode cX1_areaIn 55 = .ok (.aload 7, 2) := dk_25 7 (dk_at dksX1_areaIn_2 9 rfl rfl)
theorem dX1_areaIn_57 : decode cX1_areaIn 57 = .ok (.iconst 0, 1) := dk_3 (dk_at dksX1_areaIn_2 11 rfl rfl)
theorem dX1_areaIn_58 : decode cX1_areaIn 58 = .ok (.iconst 1, 1) := dk_4 (dk_at dksX1_areaIn_2 12 rfl rfl)
theorem dX1_areaIn_59 : decode cX1_areaIn 59 = .ok (.aload 6, 2) := dk_25 6 (dk_at dksX1_areaIn_2 13 rfl rfl)
theorem dX1_areaIn_61 : decode cX1_areaIn 61 = .ok (.getfield 290, 3) := dk_180 1 34 (dk_at dksX1_areaIn_2 15 rfl rfl)
theorem dX1_areaIn_64 : decode cX1_areaIn 64 = .ok (.invokestatic 283, 3) := dk_184 1 27 (dk_at dksX1_areaIn_2 18 rfl rfl)
theorem dX1_areaIn_67 : decode cX1_areaIn 67 = .ok (.astore 7, 2) := dk_58 7 (dk_at dksX1_areaIn_2 21 rfl rfl)
theorem dX1_areaIn_69 : decode cX1_areaIn 69 = .ok (.aload 7, 2) := dk_25 7 (dk_at dksX1_areaIn_3 0 rfl rfl)
theorem dX1_areaIn_71 : decode cX1_areaIn 71 = .ok (.iconst 0, 1) := dk_3 (dk_at dksX1_areaIn_3 2 rfl rfl)
theorem dX1_areaIn_72 : decode cX1_areaIn 72 = .ok (.iconst (-1), 1) := dk_2 (dk_at dksX1_areaIn_3 3 rfl rfl)
theorem dX1_areaIn_73 : decode cX1_areaIn 73 = .ok (.aload 6, 2) := dk_25 6 (dk_at dksX1_areaIn_3 4 rfl rfl)
theorem dX1_areaIn_75 : decode cX1_areaIn 75 = .ok (.getfield 293, 3) := dk_180 1 37 (dk_at dksX1_areaIn_3 6 rfl rfl)
theorem dX1_areaIn_78 : decode cX1_areaIn 78 = .ok (.ineg, 1) := dk_116 (dk_at dksX1_areaIn_3 9 rfl rfl)
theorem dX1_areaIn_79 : decode cX1_areaIn 79 = .ok (.invokestatic 283, 3) := dk_184 1 27 (dk_at dksX1_areaIn_3 10 rfl rfl)
theorem dX1_areaIn_82 : decode cX1_areaIn 82 = .ok (.astore 7, 2) := dk_58 7 (dk_at dksX1_areaIn_3 13 rfl rfl)
theorem dX1_areaIn_84 : decode cX1_areaIn 84 = .ok (.iconst 2, 1) := dk_5 (dk_at dksX1_areaIn_3 15 rfl rfl)
theorem dX1_areaIn_85 : decode cX1_areaIn 85 = .ok (.aload 7, 2) := dk_25 7 (dk_at dksX1_areaIn_3 16 rfl rfl)
theorem dX1_areaIn_87 : decode cX1_areaIn 87 = .ok (.invokestatic 296, 3) := dk_184 1 40 (dk_at dksX1_areaIn_3 18 rfl rfl)
theorem dX1_areaIn_90 : decode cX1_areaIn 90 = .ok (.imul, 1) := dk_104 (dk_at dksX1_areaIn_3 21 rfl rfl)
theorem dX1_areaIn_91 : decode cX1_areaIn 91 = .ok (.ireturn, 1) := dk_172 (dk_at dksX1_areaIn_3 22 rfl rfl)
abbrev cX1_cutOff : ByteArray := prog_1_method_49_code
def yX1_cutOff : MethodName := ⟨RX1, "cutOff", "(Ljava/util/List;III)Ljava/util/List;"⟩
def dkwX1_cutOff_8 : List UInt8 := [185, 0, 124, 2, 0, 87, 132, 5, 1, 167, 255, 74, 25, 4, 176]
abbrev dktX1_cutOff_8 : List UInt8 := dkwX1_cutOff_8 ++ []
def dkwX1_cutOff_7 : List UInt8 := [25, 6, 4, 46, 25, 7, 4, 46, 25, 6, 4, 46, 100, 21, 8, 104, 21, 10, 108, 96, 79]
abbrev dktX1_cutOff_7 : List UInt8 := dkwX1_cutOff_7 ++ dktX1_cutOff_8
def dkwX1_cutOff_6 : List UInt8 := [25, 6, 3, 46, 25, 7, 3, 46, 25, 6, 3, 46, 100, 21, 8, 104, 21, 10, 108, 96, 79, 89, 4]
abbrev dktX1_cutOff_6 : List UInt8 := dkwX1_cutOff_6 ++ dktX1_cutOff_7
def dkwX1_cutOff_5 : List UInt8 := [21, 8, 158, 0, 72, 21, 9, 156, 0, 67, 21, 8, 21, 9, 100, 54, 10, 25, 4, 5, 188, 10, 89, 3]
abbrev dktX1_cutOff_5 : List UInt8 := dkwX1_cutOff_5 ++ dktX1_cutOff_6
def dkwX1_cutOff_4 : List UInt8 := [157, 0, 13, 25, 4, 25, 6, 185, 0, 124, 2, 0, 87, 21, 8, 156, 0, 8, 21, 9, 157, 0, 13]
abbrev dktX1_cutOff_4 : List UInt8 := dkwX1_cutOff_4 ++ dktX1_cutOff_5
def dkwX1_cutOff_3 : List UInt8 := [100, 54, 8, 27, 25, 7, 3, 46, 104, 28, 25, 7, 4, 46, 104, 96, 29, 100, 54, 9, 21, 8]
abbrev dktX1_cutOff_3 : List UInt8 := dkwX1_cutOff_3 ++ dktX1_cutOff_4
def dkwX1_cutOff_2 : List UInt8 := [185, 0, 108, 2, 0, 192, 1, 16, 58, 7, 27, 25, 6, 3, 46, 104, 28, 25, 6, 4, 46, 104, 96, 29]
abbrev dktX1_cutOff_2 : List UInt8 := dkwX1_cutOff_2 ++ dktX1_cutOff_3
def dkwX1_cutOff_1 : List UInt8 := [21, 5, 185, 0, 108, 2, 0, 192, 1, 16, 58, 6, 42, 21, 5, 4, 96, 42, 185, 0, 104, 1, 0, 112]
abbrev dktX1_cutOff_1 : List UInt8 := dkwX1_cutOff_1 ++ dktX1_cutOff_2
def dkwX1_cutOff_0 : List UInt8 := [187, 0, 7, 89, 183, 0, 9, 58, 4, 3, 54, 5, 21, 5, 42, 185, 0, 104, 1, 0, 162, 0, 177, 42]
abbrev dktX1_cutOff_0 : List UInt8 := dkwX1_cutOff_0 ++ dktX1_cutOff_1
theorem dksX1_cutOff_0 : cX1_cutOff.data.toList.drop 0 = dktX1_cutOff_0 := by decide +kernel
theorem dksX1_cutOff_1 : cX1_cutOff.data.toList.drop 24 = dktX1_cutOff_1 := dk_seg dksX1_cutOff_0 24 rfl rfl
theorem dksX1_cutOff_2 : cX1_cutOff.data.toList.drop 48 = dktX1_cutOff_2 := dk_seg dksX1_cutOff_1 24 rfl rfl
theorem dksX1_cutOff_3 : cX1_cutOff.data.toList.drop 72 = dktX1_cutOff_3 := dk_seg dksX1_cutOff_2 24 rfl rfl
theorem dksX1_cutOff_4 : cX1_cutOff.data.toList.drop 94 = dktX1_cutOff_4 := dk_seg dksX1_cutOff_3 22 rfl rfl
theorem dksX1_cutOff_5 : cX1_cutOff.data.toList.drop 117 = dktX1_cutOff_5 := dk_seg dksX1_cutOff_4 23 rfl rfl
theorem dksX1_cutOff_6 : cX1_cutOff.data.toList.drop 141 = dktX1_cutOff_6 := dk_seg dksX1_cutOff_5 24 rfl rfl
theorem dksX1_cutOff_7 : cX1_cutOff.data.toList.drop 164 = dktX1_cutOff_7 := dk_seg dksX1_cutOff_6 23 rfl rfl
theorem dksX1_cutOff_8 : cX1_cutOff.data.toList.drop 185 = dktX1_cutOff_8 := dk_seg dksX1_cutOff_7 21 rfl rfl
theorem dX1_cutOff_0 : decode cX1_cutOff 0 = .ok (.new 7, 3) := dk_187 0 7 (dk_at dksX1_cutOff_0 0 rfl rfl)
theorem dX1_cutOff_3 : decode cX1_cutOff 3 = .ok (.dup, 1) := dk_89 (dk_at dksX1_cutOff_0 3 rfl rfl)
theorem dX1_cutOff_4 : decode cX1_cutOff 4 = .ok (.invokespecial 9, 3) := dk_183 0 9 (dk_at dksX1_cutOff_0 4 rfl rfl)
theorem dX1_cutOff_7 : decode cX1_cutOff 7 = .ok (.astore 4, 2) := dk_58 4 (dk_at dksX1_cutOff_0 7 rfl rfl)
theorem dX1_cutOff_9 : decode cX1_cutOff 9 = .ok (.iconst 0, 1) := dk_3 (dk_at dksX1_cutOff_0 9 rfl rfl)
theorem dX1_cutOff_10 : decode cX1_cutOff 10 = .ok (.istore 5, 2) := dk_54 5 (dk_at dksX1_cutOff_0 10 rfl rfl)
theorem dX1_cutOff_12 : decode cX1_cutOff 12 = .ok (.iload 5, 2) := dk_21 5 (dk_at dksX1_cutOff_0 12 rfl rfl)
theorem dX1_cutOff_14 : decode cX1_cutOff 14 = .ok (.aload_n 0, 1) := dk_42 (dk_at dksX1_cutOff_0 14 rfl rfl)
theorem dX1_cutOff_15 : decode cX1_cutOff 15 = .ok (.invokeinterface 104 1, 5) := by decide +kernel
theorem dX1_cutOff_20 : decode cX1_cutOff 20 = .ok (.if_icmp .ge 177, 3) := dk_162 0 177 (dk_at dksX1_cutOff_0 20 rfl rfl)
theorem dX1_cutOff_23 : decode cX1_cutOff 23 = .ok (.aload_n 0, 1) := dk_42 (dk_at dksX1_cutOff_0 23 rfl rfl)
theorem dX1_cutOff_24 : decode cX1_cutOff 24 = .ok (.iload 5, 2) := dk_21 5 (dk_at dksX1_cutOff_1 0 rfl rfl)
theorem dX1_cutOff_26 : decode cX1_cutOff 26 = .ok (.invokeinterface 108 2, 5) := by decide +kernel
theorem dX1_cutOff_31 : decode cX1_cutOff 31 = .ok (.checkcast 272, 3) := dk_192 1 16 (dk_at dksX1_cutOff_1 7 rfl rfl)
theorem dX1_cutOff_34 : decode cX1_cutOff 34 = .ok (.astore 6, 2) := dk_58 6 (dk_at dksX1_cutOff_1 10 rfl rfl)
theorem dX1_cutOff_36 : decode cX1_cutOff 36 = .ok (.aload_n 0, 1) := dk_42 (dk_at dksX1_cutOff_1 12 rfl rfl)
theorem dX1_cutOff_37 : decode cX1_cutOff 37 = .ok (.iload 5, 2) := dk_21 5 (dk_at dksX1_cutOff_1 13 rfl rfl)
theorem dX1_cutOff_39 : decode cX1_cutOff 39 = .ok (.iconst 1, 1) := dk_4 (dk_at dksX1_cutOff_1 15 rfl rfl)
theorem dX1_cutOff_40 : decode cX1_cutOff 40 = .ok (.iadd, 1) := dk_96 (dk_at dksX1_cutOff_1 16 rfl rfl)
theorem dX1_cutOff_41 : decode cX1_cutOff 41 = .ok (.aload_n 0, 1) := dk_42 (dk_at dksX1_cutOff_1 17 rfl rfl)
theorem dX1_cutOff_42 : decode cX1_cutOff 42 = .ok (.invokeinterface 104 1, 5) := by decide +kernel
theorem dX1_cutOff_47 : decode cX1_cutOff 47 = .ok (.irem, 1) := dk_112 (dk_at dksX1_cutOff_1 23 rfl rfl)
theorem dX1_cutOff_48 : decode cX1_cutOff 48 = .ok (.invokeinterface 108 2, 5) := by decide +kernel
theorem dX1_cutOff_53 : decode cX1_cutOff 53 = .ok (.checkcast 272, 3) := dk_192 1 16 (dk_at dksX1_cutOff_2 5 rfl rfl)
theorem dX1_cutOff_56 : decode cX1_cutOff 56 = .ok (.astore 7, 2) := dk_58 7 (dk_at dksX1_cutOff_2 8 rfl rfl)
theorem dX1_cutOff_58 : decode cX1_cutOff 58 = .ok (.iload_n 1, 1) := dk_27 (dk_at dksX1_cutOff_2 10 rfl rfl)
theorem dX1_cutOff_59 : decode cX1_cutOff 59 = .ok (.aload 6, 2) := dk_25 6 (dk_at dksX1_cutOff_2 11 rfl rfl)
theorem dX1_cutOff_61 : decode cX1_cutOff 61 = .ok (.iconst 0, 1) := dk_3 (dk_at dksX1_cutOff_2 13 rfl rfl)
theorem dX1_cutOff_62 : decode cX1_cutOff 62 = .ok (.iaload, 1) := dk_46 (dk_at dksX1_cutOff_2 14 rfl rfl)
theorem dX1_cutOff_63 : decode cX1_cutOff 63 = .ok (.imul, 1) := dk_104 (dk_at dksX1_cutOff_2 15 rfl rfl)
theorem dX1_cutOff_64 : decode cX1_cutOff 64 = .ok (.iload_n 2, 1) := dk_28 (dk_at dksX1_cutOff_2 16 rfl rfl)
theorem dX1_cutOff_65 : decode cX1_cutOff 65 = .ok (.aload 6, 2) := dk_25 6 (dk_at dksX1_cutOff_2 17 rfl rfl)
theorem dX1_cutOff_67 : decode cX1_cutOff 67 = .ok (.iconst 1, 1) := dk_4 (dk_at dksX1_cutOff_2 19 rfl rfl)
theorem dX1_cutOff_68 : decode cX1_cutOff 68 = .ok (.iaload, 1) := dk_46 (dk_at dksX1_cutOff_2 20 rfl rfl)
theorem dX1_cutOff_69 : decode cX1_cutOff 69 = .ok (.imul, 1) := dk_104 (dk_at dksX1_cutOff_2 21 rfl rfl)
theorem dX1_cutOff_70 : decode cX1_cutOff 70 = .ok (.iadd, 1) := dk_96 (dk_at dksX1_cutOff_2 22 rfl rfl)
theorem dX1_cutOff_71 : decode cX1_cutOff 71 = .ok (.iload_n 3, 1) := dk_29 (dk_at dksX1_cutOff_2 23 rfl rfl)
theorem dX1_cutOff_72 : decode cX1_cutOff 72 = .ok (.isub, 1) := dk_100 (dk_at dksX1_cutOff_3 0 rfl rfl)
theorem dX1_cutOff_73 : decode cX1_cutOff 73 = .ok (.istore 8, 2) := dk_54 8 (dk_at dksX1_cutOff_3 1 rfl rfl)
theorem dX1_cutOff_75 : decode cX1_cutOff 75 = .ok (.iload_n 1, 1) := dk_27 (dk_at dksX1_cutOff_3 3 rfl rfl)
theorem dX1_cutOff_76 : decode cX1_cutOff 76 = .ok (.aload 7, 2) := dk_25 7 (dk_at dksX1_cutOff_3 4 rfl rfl)
theorem dX1_cutOff_78 : decode cX1_cutOff 78 = .ok (.iconst 0, 1) := dk_3 (dk_at dksX1_cutOff_3 6 rfl rfl)
theorem dX1_cutOff_79 : decode cX1_cutOff 79 = .ok (.iaload, 1) := dk_46 (dk_at dksX1_cutOff_3 7 rfl rfl)
theorem dX1_cutOff_80 : decode cX1_cutOff 80 = .ok (.imul, 1) := dk_104 (dk_at dksX1_cutOff_3 8 rfl rfl)
theorem dX1_cutOff_81 : decode cX1_cutOff 81 = .ok (.iload_n 2, 1) := dk_28 (dk_at dksX1_cutOff_3 9 rfl rfl)
theorem dX1_cutOff_82 : decode cX1_cutOff 82 = .ok (.aload 7, 2) := dk_25 7 (dk_at dksX1_cutOff_3 10 rfl rfl)
theorem dX1_cutOff_84 : decode cX1_cutOff 84 = .ok (.iconst 1, 1) := dk_4 (dk_at dksX1_cutOff_3 12 rfl rfl)
theorem dX1_cutOff_85 : decode cX1_cutOff 85 = .ok (.iaload, 1) := dk_46 (dk_at dksX1_cutOff_3 13 rfl rfl)
theorem dX1_cutOff_86 : decode cX1_cutOff 86 = .ok (.imul, 1) := dk_104 (dk_at dksX1_cutOff_3 14 rfl rfl)
theorem dX1_cutOff_87 : decode cX1_cutOff 87 = .ok (.iadd, 1) := dk_96 (dk_at dksX1_cutOff_3 15 rfl rfl)
theorem dX1_cutOff_88 : decode cX1_cutOff 88 = .ok (.iload_n 3, 1) := dk_29 (dk_at dksX1_cutOff_3 16 rfl rfl)
theorem dX1_cutOff_89 : decode cX1_cutOff 89 = .ok (.isub, 1) := dk_100 (dk_at dksX1_cutOff_3 17 rfl rfl)
theorem dX1_cutOff_90 : decode cX1_cutOff 90 = .ok (.istore 9, 2) := dk_54 9 (dk_at dksX1_cutOff_3 18 rfl rfl)
theorem dX1_cutOff_92 : decode cX1_cutOff 92 = .ok (.iload 8, 2) := dk_21 8 (dk_at dksX1_cutOff_3 20 rfl rfl)
theorem dX1_cutOff_94 : decode cX1_cutOff 94 = .ok (.ifCond .gt 13, 3) := dk_157 0 13 (dk_at dksX1_cutOff_4 0 rfl rfl)
theorem dX1_cutOff_97 : decode cX1_cutOff 97 = .ok (.aload 4, 2) := dk_25 4 (dk_at dksX1_cutOff_4 3 rfl rfl)
theorem dX1_cutOff_99 : decode cX1_cutOff 99 = .ok (.aload 6, 2) := dk_25 6 (dk_at dksX1_cutOff_4 5 rfl rfl)
theorem dX1_cutOff_101 : decode cX1_cutOff 101 = .ok (.invokeinterface 124 2, 5) := by decide +kernel
theorem dX1_cutOff_106 : decode cX1_cutOff 106 = .ok (.pop, 1) := dk_87 (dk_at dksX1_cutOff_4 12 rfl rfl)
theorem dX1_cutOff_107 : decode cX1_cutOff 107 = .ok (.iload 8, 2) := dk_21 8 (dk_at dksX1_cutOff_4 13 rfl rfl)
theorem dX1_cutOff_109 : decode cX1_cutOff 109 = .ok (.ifCond .ge 8, 3) := dk_156 0 8 (dk_at dksX1_cutOff_4 15 rfl rfl)
theorem dX1_cutOff_112 : decode cX1_cutOff 112 = .ok (.iload 9, 2) := dk_21 9 (dk_at dksX1_cutOff_4 18 rfl rfl)
theorem dX1_cutOff_114 : decode cX1_cutOff 114 = .ok (.ifCond .gt 13, 3) := dk_157 0 13 (dk_at dksX1_cutOff_4 20 rfl rfl)
theorem dX1_cutOff_117 : decode cX1_cutOff 117 = .ok (.iload 8, 2) := dk_21 8 (dk_at dksX1_cutOff_5 0 rfl rfl)
theorem dX1_cutOff_119 : decode cX1_cutOff 119 = .ok (.ifCond .le 72, 3) := dk_158 0 72 (dk_at dksX1_cutOff_5 2 rfl rfl)
theorem dX1_cutOff_122 : decode cX1_cutOff 122 = .ok (.iload 9, 2) := dk_21 9 (dk_at dksX1_cutOff_5 5 rfl rfl)
theorem dX1_cutOff_124 : decode cX1_cutOff 124 = .ok (.ifCond .ge 67, 3) := dk_156 0 67 (dk_at dksX1_cutOff_5 7 rfl rfl)
theorem dX1_cutOff_127 : decode cX1_cutOff 127 = .ok (.iload 8, 2) := dk_21 8 (dk_at dksX1_cutOff_5 10 rfl rfl)
theorem dX1_cutOff_129 : decode cX1_cutOff 129 = .ok (.iload 9, 2) := dk_21 9 (dk_at dksX1_cutOff_5 12 rfl rfl)
theorem dX1_cutOff_131 : decode cX1_cutOff 131 = .ok (.isub, 1) := dk_100 (dk_at dksX1_cutOff_5 14 rfl rfl)
theorem dX1_cutOff_132 : decode cX1_cutOff 132 = .ok (.istore 10, 2) := dk_54 10 (dk_at dksX1_cutOff_5 15 rfl rfl)
theorem dX1_cutOff_134 : decode cX1_cutOff 134 = .ok (.aload 4, 2) := dk_25 4 (dk_at dksX1_cutOff_5 17 rfl rfl)
theorem dX1_cutOff_136 : decode cX1_cutOff 136 = .ok (.iconst 2, 1) := dk_5 (dk_at dksX1_cutOff_5 19 rfl rfl)
theorem dX1_cutOff_137 : decode cX1_cutOff 137 = .ok (.newarray .int, 2) := dk_188_10 (dk_at dksX1_cutOff_5 20 rfl rfl)
theorem dX1_cutOff_139 : decode cX1_cutOff 139 = .ok (.dup, 1) := dk_89 (dk_at dksX1_cutOff_5 22 rfl rfl)
theorem dX1_cutOff_140 : decode cX1_cutOff 140 = .ok (.iconst 0, 1) := dk_3 (dk_at dksX1_cutOff_5 23 rfl rfl)
theorem dX1_cutOff_141 : decode cX1_cutOff 141 = .ok (.aload 6, 2) := dk_25 6 (dk_at dksX1_cutOff_6 0 rfl rfl)
theorem dX1_cutOff_143 : decode cX1_cutOff 143 = .ok (.iconst 0, 1) := dk_3 (dk_at dksX1_cutOff_6 2 rfl rfl)
theorem dX1_cutOff_144 : decode cX1_cutOff 144 = .ok (.iaload, 1) := dk_46 (dk_at dksX1_cutOff_6 3 rfl rfl)
theorem dX1_cutOff_145 : decode cX1_cutOff 145 = .ok (.aload 7, 2) := dk_25 7 (dk_at dksX1_cutOff_6 4 rfl rfl)
theorem dX1_cutOff_147 : decode cX1_cutOff 147 = .ok (.iconst 0, 1) := dk_3 (dk_at dksX1_cutOff_6 6 rfl rfl)
theorem dX1_cutOff_148 : decode cX1_cutOff 148 = .ok (.iaload, 1) := dk_46 (dk_at dksX1_cutOff_6 7 rfl rfl)
theorem dX1_cutOff_149 : decode cX1_cutOff 149 = .ok (.aload 6, 2) := dk_25 6 (dk_at dksX1_cutOff_6 8 rfl rfl)
theorem dX1_cutOff_151 : decode cX1_cutOff 151 = .ok (.iconst 0, 1) := dk_3 (dk_at dksX1_cutOff_6 10 rfl rfl)
theorem dX1_cutOff_152 : decode cX1_cutOff 152 = .ok (.iaload, 1) := dk_46 (dk_at dksX1_cutOff_6 11 rfl rfl)
theorem dX1_cutOff_153 : decode cX1_cutOff 153 = .ok (.isub, 1) := dk_100 (dk_at dksX1_cutOff_6 12 rfl rfl)
theorem dX1_cutOff_154 : decode cX1_cutOff 154 = .ok (.iload 8, 2) := dk_21 8 (dk_at dksX1_cutOff_6 13 rfl rfl)
theorem dX1_cutOff_156 : decode cX1_cutOff 156 = .ok (.imul, 1) := dk_104 (dk_at dksX1_cutOff_6 15 rfl rfl)
theorem dX1_cutOff_157 : decode cX1_cutOff 157 = .ok (.iload 10, 2) := dk_21 10 (dk_at dksX1_cutOff_6 16 rfl rfl)
theorem dX1_cutOff_159 : decode cX1_cutOff 159 = .ok (.idiv, 1) := dk_108 (dk_at dksX1_cutOff_6 18 rfl rfl)
theorem dX1_cutOff_160 : decode cX1_cutOff 160 = .ok (.iadd, 1) := dk_96 (dk_at dksX1_cutOff_6 19 rfl rfl)
theorem dX1_cutOff_161 : decode cX1_cutOff 161 = .ok (.iastore, 1) := dk_79 (dk_at dksX1_cutOff_6 20 rfl rfl)
theorem dX1_cutOff_162 : decode cX1_cutOff 162 = .ok (.dup, 1) := dk_89 (dk_at dksX1_cutOff_6 21 rfl rfl)
theorem dX1_cutOff_163 : decode cX1_cutOff 163 = .ok (.iconst 1, 1) := dk_4 (dk_at dksX1_cutOff_6 22 rfl rfl)
theorem dX1_cutOff_164 : decode cX1_cutOff 164 = .ok (.aload 6, 2) := dk_25 6 (dk_at dksX1_cutOff_7 0 rfl rfl)
theorem dX1_cutOff_166 : decode cX1_cutOff 166 = .ok (.iconst 1, 1) := dk_4 (dk_at dksX1_cutOff_7 2 rfl rfl)
theorem dX1_cutOff_167 : decode cX1_cutOff 167 = .ok (.iaload, 1) := dk_46 (dk_at dksX1_cutOff_7 3 rfl rfl)
theorem dX1_cutOff_168 : decode cX1_cutOff 168 = .ok (.aload 7, 2) := dk_25 7 (dk_at dksX1_cutOff_7 4 rfl rfl)
theorem dX1_cutOff_170 : decode cX1_cutOff 170 = .ok (.iconst 1, 1) := dk_4 (dk_at dksX1_cutOff_7 6 rfl rfl)
theorem dX1_cutOff_171 : decode cX1_cutOff 171 = .ok (.iaload, 1) := dk_46 (dk_at dksX1_cutOff_7 7 rfl rfl)
theorem dX1_cutOff_172 : decode cX1_cutOff 172 = .ok (.aload 6, 2) := dk_25 6 (dk_at dksX1_cutOff_7 8 rfl rfl)
theorem dX1_cutOff_174 : decode cX1_cutOff 174 = .ok (.iconst 1, 1) := dk_4 (dk_at dksX1_cutOff_7 10 rfl rfl)
theorem dX1_cutOff_175 : decode cX1_cutOff 175 = .ok (.iaload, 1) := dk_46 (dk_at dksX1_cutOff_7 11 rfl rfl)
theorem dX1_cutOff_176 : decode cX1_cutOff 176 = .ok (.isub, 1) := dk_100 (dk_at dksX1_cutOff_7 12 rfl rfl)
theorem dX1_cutOff_177 : decode cX1_cutOff 177 = .ok (.iload 8, 2) := dk_21 8 (dk_at dksX1_cutOff_7 13 rfl rfl)
theorem dX1_cutOff_179 : decode cX1_cutOff 179 = .ok (.imul, 1) := dk_104 (dk_at dksX1_cutOff_7 15 rfl rfl)
theorem dX1_cutOff_180 : decode cX1_cutOff 180 = .ok (.iload 10, 2) := dk_21 10 (dk_at dksX1_cutOff_7 16 rfl rfl)
theorem dX1_cutOff_182 : decode cX1_cutOff 182 = .ok (.idiv, 1) := dk_108 (dk_at dksX1_cutOff_7 18 rfl rfl)
theorem dX1_cutOff_183 : decode cX1_cutOff 183 = .ok (.iadd, 1) := dk_96 (dk_at dksX1_cutOff_7 19 rfl rfl)
theorem dX1_cutOff_184 : decode cX1_cutOff 184 = .ok (.iastore, 1) := dk_79 (dk_at dksX1_cutOff_7 20 rfl rfl)
theorem dX1_cutOff_185 : decode cX1_cutOff 185 = .ok (.invokeinterface 124 2, 5) := by decide +kernel
theorem dX1_cutOff_190 : decode cX1_cutOff 190 = .ok (.pop, 1) := dk_87 (dk_at dksX1_cutOff_8 5 rfl rfl)
theorem dX1_cutOff_191 : decode cX1_cutOff 191 = .ok (.iinc 5 1, 3) := dk_132 5 1 (dk_at dksX1_cutOff_8 6 rfl rfl)
theorem dX1_cutOff_194 : decode cX1_cutOff 194 = .ok (.goto (-182), 3) := dk_167 255 74 (dk_at dksX1_cutOff_8 9 rfl rfl)
theorem dX1_cutOff_197 : decode cX1_cutOff 197 = .ok (.aload 4, 2) := dk_25 4 (dk_at dksX1_cutOff_8 12 rfl rfl)
theorem dX1_cutOff_199 : decode cX1_cutOff 199 = .ok (.areturn, 1) := dk_176 (dk_at dksX1_cutOff_8 14 rfl rfl)
abbrev cX1_twiceSize : ByteArray := prog_1_method_50_code
def yX1_twiceSize : MethodName := ⟨RX1, "twiceSize", "(Ljava/util/List;)I"⟩
def dkwX1_twiceSize_3 : List UInt8 := [27, 172]
abbrev dktX1_twiceSize_3 : List UInt8 := dkwX1_twiceSize_3 ++ []
def dkwX1_twiceSize_2 : List UInt8 := [3, 46, 25, 4, 4, 46, 104, 25, 4, 3, 46, 45, 4, 46, 104, 100, 96, 60, 132, 2, 1, 167, 255, 191]
abbrev dktX1_twiceSize_2 : List UInt8 := dkwX1_twiceSize_2 ++ dktX1_twiceSize_3
def dkwX1_twiceSize_1 : List UInt8 := [78, 42, 28, 4, 96, 42, 185, 0, 104, 1, 0, 112, 185, 0, 108, 2, 0, 192, 1, 16, 58, 4, 27, 45]
abbrev dktX1_twiceSize_1 : List UInt8 := dkwX1_twiceSize_1 ++ dktX1_twiceSize_2
def dkwX1_twiceSize_0 : List UInt8 := [3, 60, 3, 61, 28, 42, 185, 0, 104, 1, 0, 162, 0, 61, 42, 28, 185, 0, 108, 2, 0, 192, 1, 16]
abbrev dktX1_twiceSize_0 : List UInt8 := dkwX1_twiceSize_0 ++ dktX1_twiceSize_1
theorem dksX1_twiceSize_0 : cX1_twiceSize.data.toList.drop 0 = dktX1_twiceSize_0 := by decide +kernel
theorem dksX1_twiceSize_1 : cX1_twiceSize.data.toList.drop 24 = dktX1_twiceSize_1 := dk_seg dksX1_twiceSize_0 24 rfl rfl
theorem dksX1_twiceSize_2 : cX1_twiceSize.data.toList.drop 48 = dktX1_twiceSize_2 := dk_seg dksX1_twiceSize_1 24 rfl rfl
theorem dksX1_twiceSize_3 : cX1_twiceSize.data.toList.drop 72 = dktX1_twiceSize_3 := dk_seg dksX1_twiceSize_2 24 rfl rfl
theorem dX1_twiceSize_0 : decode cX1_twiceSize 0 = .ok (.iconst 0, 1) := dk_3 (dk_at dksX1_twiceSize_0 0 rfl rfl)
theorem dX1_twiceSize_1 : decode cX1_twiceSize 1 = .ok (.istore_n 1, 1) := dk_60 (dk_at dksX1_twiceSize_0 1 rfl rfl)
theorem dX1_twiceSize_2 : decode cX1_twiceSize 2 = .ok (.iconst 0, 1) := dk_3 (dk_at dksX1_twiceSize_0 2 rfl rfl)
theorem dX1_twiceSize_3 : decode cX1_twiceSize 3 = .ok (.istore_n 2, 1) := dk_61 (dk_at dksX1_twiceSize_0 3 rfl rfl)
theorem dX1_twiceSize_4 : decode cX1_twiceSize 4 = .ok (.iload_n 2, 1) := dk_28 (dk_at dksX1_twiceSize_0 4 rfl rfl)
theorem dX1_twiceSize_5 : decode cX1_twiceSize 5 = .ok (.aload_n 0, 1) := dk_42 (dk_at dksX1_twiceSize_0 5 rfl rfl)
theorem dX1_twiceSize_6 : decode cX1_twiceSize 6 = .ok (.invokeinterface 104 1, 5) := by decide +kernel
theorem dX1_twiceSize_11 : decode cX1_twiceSize 11 = .ok (.if_icmp .ge 61, 3) := dk_162 0 61 (dk_at dksX1_twiceSize_0 11 rfl rfl)
theorem dX1_twiceSize_14 : decode cX1_twiceSize 14 = .ok (.aload_n 0, 1) := dk_42 (dk_at dksX1_twiceSize_0 14 rfl rfl)
theorem dX1_twiceSize_15 : decode cX1_twiceSize 15 = .ok (.iload_n 2, 1) := dk_28 (dk_at dksX1_twiceSize_0 15 rfl rfl)
theorem dX1_twiceSize_16 : decode cX1_twiceSize 16 = .ok (.invokeinterface 108 2, 5) := by decide +kernel
theorem dX1_twiceSize_21 : decode cX1_twiceSize 21 = .ok (.checkcast 272, 3) := dk_192 1 16 (dk_at dksX1_twiceSize_0 21 rfl rfl)
theorem dX1_twiceSize_24 : decode cX1_twiceSize 24 = .ok (.astore_n 3, 1) := dk_78 (dk_at dksX1_twiceSize_1 0 rfl rfl)
theorem dX1_twiceSize_25 : decode cX1_twiceSize 25 = .ok (.aload_n 0, 1) := dk_42 (dk_at dksX1_twiceSize_1 1 rfl rfl)
theorem dX1_twiceSize_26 : decode cX1_twiceSize 26 = .ok (.iload_n 2, 1) := dk_28 (dk_at dksX1_twiceSize_1 2 rfl rfl)
theorem dX1_twiceSize_27 : decode cX1_twiceSize 27 = .ok (.iconst 1, 1) := dk_4 (dk_at dksX1_twiceSize_1 3 rfl rfl)
theorem dX1_twiceSize_28 : decode cX1_twiceSize 28 = .ok (.iadd, 1) := dk_96 (dk_at dksX1_twiceSize_1 4 rfl rfl)
theorem dX1_twiceSize_29 : decode cX1_twiceSize 29 = .ok (.aload_n 0, 1) := dk_42 (dk_at dksX1_twiceSize_1 5 rfl rfl)
theorem dX1_twiceSize_30 : decode cX1_twiceSize 30 = .ok (.invokeinterface 104 1, 5) := by decide +kernel
theorem dX1_twiceSize_35 : decode cX1_twiceSize 35 = .ok (.irem, 1) := dk_112 (dk_at dksX1_twiceSize_1 11 rfl rfl)
theorem dX1_twiceSize_36 : decode cX1_twiceSize 36 = .ok (.invokeinterface 108 2, 5) := by decide +kernel
theorem dX1_twiceSize_41 : decode cX1_twiceSize 41 = .ok (.checkcast 272, 3) := dk_192 1 16 (dk_at dksX1_twiceSize_1 17 rfl rfl)
theorem dX1_twiceSize_44 : decode cX1_twiceSize 44 = .ok (.astore 4, 2) := dk_58 4 (dk_at dksX1_twiceSize_1 20 rfl rfl)
theorem dX1_twiceSize_46 : decode cX1_twiceSize 46 = .ok (.iload_n 1, 1) := dk_27 (dk_at dksX1_twiceSize_1 22 rfl rfl)
theorem dX1_twiceSize_47 : decode cX1_twiceSize 47 = .ok (.aload_n 3, 1) := dk_45 (dk_at dksX1_twiceSize_1 23 rfl rfl)
theorem dX1_twiceSize_48 : decode cX1_twiceSize 48 = .ok (.iconst 0, 1) := dk_3 (dk_at dksX1_twiceSize_2 0 rfl rfl)
theorem dX1_twiceSize_49 : decode cX1_twiceSize 49 = .ok (.iaload, 1) := dk_46 (dk_at dksX1_twiceSize_2 1 rfl rfl)
theorem dX1_twiceSize_50 : decode cX1_twiceSize 50 = .ok (.aload 4, 2) := dk_25 4 (dk_at dksX1_twiceSize_2 2 rfl rfl)
theorem dX1_twiceSize_52 : decode cX1_twiceSize 52 = .ok (.iconst 1, 1) := dk_4 (dk_at dksX1_twiceSize_2 4 rfl rfl)
theorem dX1_twiceSize_53 : decode cX1_twiceSize 53 = .ok (.iaload, 1) := dk_46 (dk_at dksX1_twiceSize_2 5 rfl rfl)
theorem dX1_twiceSize_54 : decode cX1_twiceSize 54 = .ok (.imul, 1) := dk_104 (dk_at dksX1_twiceSize_2 6 rfl rfl)
theorem dX1_twiceSize_55 : decode cX1_twiceSize 55 = .ok (.aload 4, 2) := dk_25 4 (dk_at dksX1_twiceSize_2 7 rfl rfl)
theorem dX1_twiceSize_57 : decode cX1_twiceSize 57 = .ok (.iconst 0, 1) := dk_3 (dk_at dksX1_twiceSize_2 9 rfl rfl)
theorem dX1_twiceSize_58 : decode cX1_twiceSize 58 = .ok (.iaload, 1) := dk_46 (dk_at dksX1_twiceSize_2 10 rfl rfl)
theorem dX1_twiceSize_59 : decode cX1_twiceSize 59 = .ok (.aload_n 3, 1) := dk_45 (dk_at dksX1_twiceSize_2 11 rfl rfl)
theorem dX1_twiceSize_60 : decode cX1_twiceSize 60 = .ok (.iconst 1, 1) := dk_4 (dk_at dksX1_twiceSize_2 12 rfl rfl)
theorem dX1_twiceSize_61 : decode cX1_twiceSize 61 = .ok (.iaload, 1) := dk_46 (dk_at dksX1_twiceSize_2 13 rfl rfl)
theorem dX1_twiceSize_62 : decode cX1_twiceSize 62 = .ok (.imul, 1) := dk_104 (dk_at dksX1_twiceSize_2 14 rfl rfl)
theorem dX1_twiceSize_63 : decode cX1_twiceSize 63 = .ok (.isub, 1) := dk_100 (dk_at dksX1_twiceSize_2 15 rfl rfl)
theorem dX1_twiceSize_64 : decode cX1_twiceSize 64 = .ok (.iadd, 1) := dk_96 (dk_at dksX1_twiceSize_2 16 rfl rfl)
theorem dX1_twiceSize_65 : decode cX1_twiceSize 65 = .ok (.istore_n 1, 1) := dk_60 (dk_at dksX1_twiceSize_2 17 rfl rfl)
theorem dX1_twiceSize_66 : decode cX1_twiceSize 66 = .ok (.iinc 2 1, 3) := dk_132 2 1 (dk_at dksX1_twiceSize_2 18 rfl rfl)
theorem dX1_twiceSize_69 : decode cX1_twiceSize 69 = .ok (.goto (-65), 3) := dk_167 255 191 (dk_at dksX1_twiceSize_2 21 rfl rfl)
theorem dX1_twiceSize_72 : decode cX1_twiceSize 72 = .ok (.iload_n 1, 1) := dk_27 (dk_at dksX1_twiceSize_3 0 rfl rfl)
theorem dX1_twiceSize_73 : decode cX1_twiceSize 73 = .ok (.ireturn, 1) := dk_172 (dk_at dksX1_twiceSize_3 1 rfl rfl)
abbrev cX1_areaByQuarters : ByteArray := prog_1_method_52_code
def yX1_areaByQuarters : MethodName := ⟨RX1, "areaByQuarters", "(IIII)I"⟩
def dkwX1_areaByQuarters_8 : List UInt8 := [132, 9, 1, 167, 255, 115, 132, 8, 1, 167, 255, 92, 21, 7, 172]
abbrev dktX1_areaByQuarters_8 : List UInt8 := dkwX1_areaByQuarters_8 ++ []
def dkwX1_areaByQuarters_7 : List UInt8 := [8, 96, 16, 6, 21, 8, 104, 6, 96, 182, 1, 44, 153, 0, 7, 4, 167, 0, 4, 3, 96, 54, 7]
abbrev dktX1_areaByQuarters_7 : List UInt8 := dkwX1_areaByQuarters_7 ++ dktX1_areaByQuarters_8
def dkwX1_areaByQuarters_6 : List UInt8 := [96, 182, 1, 44, 153, 0, 7, 4, 167, 0, 4, 3, 96, 54, 7, 21, 7, 25, 5, 16, 6, 21, 9, 104]
abbrev dktX1_areaByQuarters_6 : List UInt8 := dkwX1_areaByQuarters_6 ++ dktX1_areaByQuarters_7
def dkwX1_areaByQuarters_5 : List UInt8 := [167, 0, 4, 3, 96, 54, 7, 21, 7, 25, 5, 16, 6, 21, 9, 104, 4, 96, 16, 6, 21, 8, 104, 6]
abbrev dktX1_areaByQuarters_5 : List UInt8 := dkwX1_areaByQuarters_5 ++ dktX1_areaByQuarters_6
def dkwX1_areaByQuarters_4 : List UInt8 := [25, 5, 16, 6, 21, 9, 104, 6, 96, 16, 6, 21, 8, 104, 8, 96, 182, 1, 44, 153, 0, 7, 4]
abbrev dktX1_areaByQuarters_4 : List UInt8 := dkwX1_areaByQuarters_4 ++ dktX1_areaByQuarters_5
def dkwX1_areaByQuarters_3 : List UInt8 := [16, 6, 21, 8, 104, 4, 96, 182, 1, 44, 153, 0, 7, 4, 167, 0, 4, 3, 96, 54, 7, 21, 7]
abbrev dktX1_areaByQuarters_3 : List UInt8 := dkwX1_areaByQuarters_3 ++ dktX1_areaByQuarters_4
def dkwX1_areaByQuarters_2 : List UInt8 := [54, 9, 21, 9, 25, 6, 180, 1, 24, 162, 0, 137, 21, 7, 25, 5, 16, 6, 21, 9, 104, 6, 96]
abbrev dktX1_areaByQuarters_2 : List UInt8 := dkwX1_areaByQuarters_2 ++ dktX1_areaByQuarters_3
def dkwX1_areaByQuarters_1 : List UInt8 := [54, 7, 25, 6, 180, 1, 37, 54, 8, 21, 8, 25, 6, 180, 1, 34, 162, 0, 160, 25, 6, 180, 1, 31]
abbrev dktX1_areaByQuarters_1 : List UInt8 := dkwX1_areaByQuarters_1 ++ dktX1_areaByQuarters_2
def dkwX1_areaByQuarters_0 : List UInt8 := [42, 27, 182, 0, 169, 58, 5, 28, 29, 21, 4, 184, 0, 239, 28, 29, 21, 4, 184, 1, 17, 58, 6, 3]
abbrev dktX1_areaByQuarters_0 : List UInt8 := dkwX1_areaByQuarters_0 ++ dktX1_areaByQuarters_1
theorem dksX1_areaByQuarters_0 : cX1_areaByQuarters.data.toList.drop 0 = dktX1_areaByQuarters_0 := by decide +kernel
theorem dksX1_areaByQuarters_1 : cX1_areaByQuarters.data.toList.drop 24 = dktX1_areaByQuarters_1 := dk_seg dksX1_areaByQuarters_0 24 rfl rfl
theorem dksX1_areaByQuarters_2 : cX1_areaByQuarters.data.toList.drop 48 = dktX1_areaByQuarters_2 := dk_seg dksX1_areaByQuarters_1 24 rfl rfl
theorem dksX1_areaByQuarters_3 : cX1_areaByQuarters.data.toList.drop 71 = dktX1_areaByQuarters_3 := dk_seg dksX1_areaByQuarters_2 23 rfl rfl
theorem dksX1_areaByQuarters_4 : cX1_areaByQuarters.data.toList.drop 94 = dktX1_areaByQuarters_4 := dk_seg dksX1_areaByQuarters_3 23 rfl rfl
theorem dksX1_areaByQuarters_5 : cX1_areaByQuarters.data.toList.drop 117 = dktX1_areaByQuarters_5 := dk_seg dksX1_areaByQuarters_4 23 rfl rfl
theorem dksX1_areaByQuarters_6 : cX1_areaByQuarters.data.toList.drop 141 = dktX1_areaByQuarters_6 := dk_seg dksX1_areaByQuarters_5 24 rfl rfl
theorem dksX1_areaByQuarters_7 : cX1_areaByQuarters.data.toList.drop 165 = dktX1_areaByQuarters_7 := dk_seg dksX1_areaByQuarters_6 24 rfl rfl
theorem dksX1_areaByQuarters_8 : cX1_areaByQuarters.data.toList.drop 188 = dktX1_areaByQuarters_8 := dk_seg dksX1_areaByQuarters_7 23 rfl rfl
theorem dX1_areaByQuarters_0 : decode cX1_areaByQuarters 0 = .ok (.aload_n 0, 1) := dk_42 (dk_at dksX1_areaByQuarters_0 0 rfl rfl)
theorem dX1_areaByQuarters_1 : decode cX1_areaByQuarters 1 = .ok (.iload_n 1, 1) := dk_27 (dk_at dksX1_areaByQuarters_0 1 rfl rfl)
theorem dX1_areaByQuarters_2 : decode cX1_areaByQuarters 2 = .ok (.invokevirtual 169, 3) := dk_182 0 169 (dk_at dksX1_areaByQuarters_0 2 rfl rfl)
theorem dX1_areaByQuarters_5 : decode cX1_areaByQuarters 5 = .ok (.astore 5, 2) := dk_58 5 (dk_at dksX1_areaByQuarters_0 5 rfl rfl)
theorem dX1_areaByQuarters_7 : decode cX1_areaByQuarters 7 = .ok (.iload_n 2, 1) := dk_28 (dk_at dksX1_areaByQuarters_0 7 rfl rfl)
theorem dX1_areaByQuarters_8 : decode cX1_areaByQuarters 8 = .ok (.iload_n 3, 1) := dk_29 (dk_at dksX1_areaByQuarters_0 8 rfl rfl)
theorem dX1_areaByQuarters_9 : decode cX1_areaByQuarters 9 = .ok (.iload 4, 2) := dk_21 4 (dk_at dksX1_areaByQuarters_0 9 rfl rfl)
theorem dX1_areaByQuarters_11 : decode cX1_areaByQuarters 11 = .ok (.invokestatic 239, 3) := dk_184 0 239 (dk_at dksX1_areaByQuarters_0 11 rfl rfl)
theorem dX1_areaByQuarters_14 : decode cX1_areaByQuarters 14 = .ok (.iload_n 2, 1) := dk_28 (dk_at dksX1_areaByQuarters_0 14 rfl rfl)
theorem dX1_areaByQuarters_15 : decode cX1_areaByQuarters 15 = .ok (.iload_n 3, 1) := dk_29 (dk_at dksX1_areaByQuarters_0 15 rfl rfl)
theorem dX1_areaByQuarters_16 : decode cX1_areaByQuarters 16 = .ok (.iload 4, 2) := dk_21 4 (dk_at dksX1_areaByQuarters_0 16 rfl rfl)
theorem dX1_areaByQuarters_18 : decode cX1_areaByQuarters 18 = .ok (.invokestatic 273, 3) := dk_184 1 17 (dk_at dksX1_areaByQuarters_0 18 rfl rfl)
theorem dX1_areaByQuarters_21 : decode cX1_areaByQuarters 21 = .ok (.astore 6, 2) := dk_58 6 (dk_at dksX1_areaByQuarters_0 21 rfl rfl)
theorem dX1_areaByQuarters_23 : decode cX1_areaByQuarters 23 = .ok (.iconst 0, 1) := dk_3 (dk_at dksX1_areaByQuarters_0 23 rfl rfl)
theorem dX1_areaByQuarters_24 : decode cX1_areaByQuarters 24 = .ok (.istore 7, 2) := dk_54 7 (dk_at dksX1_areaByQuarters_1 0 rfl rfl)
theorem dX1_areaByQuarters_26 : decode cX1_areaByQuarters 26 = .ok (.aload 6, 2) := dk_25 6 (dk_at dksX1_areaByQuarters_1 2 rfl rfl)
theorem dX1_areaByQuarters_28 : decode cX1_areaByQuarters 28 = .ok (.getfield 293, 3) := dk_180 1 37 (dk_at dksX1_areaByQuarters_1 4 rfl rfl)
theorem dX1_areaByQuarters_31 : decode cX1_areaByQuarters 31 = .ok (.istore 8, 2) := dk_54 8 (dk_at dksX1_areaByQuarters_1 7 rfl rfl)
theorem dX1_areaByQuarters_33 : decode cX1_areaByQuarters 33 = .ok (.iload 8, 2) := dk_21 8 (dk_at dksX1_areaByQuarters_1 9 rfl rfl)
theorem dX1_areaByQuarters_35 : decode cX1_areaByQuarters 35 = .ok (.aload 6, 2) := dk_25 6 (dk_at dksX1_areaByQuarters_1 11 rfl rfl)
theorem dX1_areaByQuarters_37 : decode cX1_areaByQuarters 37 = .ok (.getfield 290, 3) := dk_180 1 34 (dk_at dksX1_areaByQuarters_1 13 rfl rfl)
theorem dX1_areaByQuarters_40 : decode cX1_areaByQuarters 40 = .ok (.if_icmp .ge 160, 3) := dk_162 0 160 (dk_at dksX1_areaByQuarters_1 16 rfl rfl)
theorem dX1_areaByQuarters_43 : decode cX1_areaByQuarters 43 = .ok (.aload 6, 2) := dk_25 6 (dk_at dksX1_areaByQuarters_1 19 rfl rfl)
theorem dX1_areaByQuarters_45 : decode cX1_areaByQuarters 45 = .ok (.getfield 287, 3) := dk_180 1 31 (dk_at dksX1_areaByQuarters_1 21 rfl rfl)
theorem dX1_areaByQuarters_48 : decode cX1_areaByQuarters 48 = .ok (.istore 9, 2) := dk_54 9 (dk_at dksX1_areaByQuarters_2 0 rfl rfl)
theorem dX1_areaByQuarters_50 : decode cX1_areaByQuarters 50 = .ok (.iload 9, 2) := dk_21 9 (dk_at dksX1_areaByQuarters_2 2 rfl rfl)
theorem dX1_areaByQuarters_52 : decode cX1_areaByQuarters 52 = .ok (.aload 6, 2) := dk_25 6 (dk_at dksX1_areaByQuarters_2 4 rfl rfl)
theorem dX1_areaByQuarters_54 : decode cX1_areaByQuarters 54 = .ok (.getfield 280, 3) := dk_180 1 24 (dk_at dksX1_areaByQuarters_2 6 rfl rfl)
theorem dX1_areaByQuarters_57 : decode cX1_areaByQuarters 57 = .ok (.if_icmp .ge 137, 3) := dk_162 0 137 (dk_at dksX1_areaByQuarters_2 9 rfl rfl)
theorem dX1_areaByQuarters_60 : decode cX1_areaByQuarters 60 = .ok (.iload 7, 2) := dk_21 7 (dk_at dksX1_areaByQuarters_2 12 rfl rfl)
theorem dX1_areaByQuarters_62 : decode cX1_areaByQuarters 62 = .ok (.aload 5, 2) := dk_25 5 (dk_at dksX1_areaByQuarters_2 14 rfl rfl)
theorem dX1_areaByQuarters_64 : decode cX1_areaByQuarters 64 = .ok (.bipush 6, 2) := dk_16 6 (dk_at dksX1_areaByQuarters_2 16 rfl rfl)
theorem dX1_areaByQuarters_66 : decode cX1_areaByQuarters 66 = .ok (.iload 9, 2) := dk_21 9 (dk_at dksX1_areaByQuarters_2 18 rfl rfl)
theorem dX1_areaByQuarters_68 : decode cX1_areaByQuarters 68 = .ok (.imul, 1) := dk_104 (dk_at dksX1_areaByQuarters_2 20 rfl rfl)
theorem dX1_areaByQuarters_69 : decode cX1_areaByQuarters 69 = .ok (.iconst 3, 1) := dk_6 (dk_at dksX1_areaByQuarters_2 21 rfl rfl)
theorem dX1_areaByQuarters_70 : decode cX1_areaByQuarters 70 = .ok (.iadd, 1) := dk_96 (dk_at dksX1_areaByQuarters_2 22 rfl rfl)
theorem dX1_areaByQuarters_71 : decode cX1_areaByQuarters 71 = .ok (.bipush 6, 2) := dk_16 6 (dk_at dksX1_areaByQuarters_3 0 rfl rfl)
theorem dX1_areaByQuarters_73 : decode cX1_areaByQuarters 73 = .ok (.iload 8, 2) := dk_21 8 (dk_at dksX1_areaByQuarters_3 2 rfl rfl)
theorem dX1_areaByQuarters_75 : decode cX1_areaByQuarters 75 = .ok (.imul, 1) := dk_104 (dk_at dksX1_areaByQuarters_3 4 rfl rfl)
theorem dX1_areaByQuarters_76 : decode cX1_areaByQuarters 76 = .ok (.iconst 1, 1) := dk_4 (dk_at dksX1_areaByQuarters_3 5 rfl rfl)
theorem dX1_areaByQuarters_77 : decode cX1_areaByQuarters 77 = .ok (.iadd, 1) := dk_96 (dk_at dksX1_areaByQuarters_3 6 rfl rfl)
theorem dX1_areaByQuarters_78 : decode cX1_areaByQuarters 78 = .ok (.invokevirtual 300, 3) := dk_182 1 44 (dk_at dksX1_areaByQuarters_3 7 rfl rfl)
theorem dX1_areaByQuarters_81 : decode cX1_areaByQuarters 81 = .ok (.ifCond .eq 7, 3) := dk_153 0 7 (dk_at dksX1_areaByQuarters_3 10 rfl rfl)
theorem dX1_areaByQuarters_84 : decode cX1_areaByQuarters 84 = .ok (.iconst 1, 1) := dk_4 (dk_at dksX1_areaByQuarters_3 13 rfl rfl)
theorem dX1_areaByQuarters_85 : decode cX1_areaByQuarters 85 = .ok (.goto 4, 3) := dk_167 0 4 (dk_at dksX1_areaByQuarters_3 14 rfl rfl)
theorem dX1_areaByQuarters_88 : decode cX1_areaByQuarters 88 = .ok (.iconst 0, 1) := dk_3 (dk_at dksX1_areaByQuarters_3 17 rfl rfl)
theorem dX1_areaByQuarters_89 : decode cX1_areaByQuarters 89 = .ok (.iadd, 1) := dk_96 (dk_at dksX1_areaByQuarters_3 18 rfl rfl)
theorem dX1_areaByQuarters_90 : decode cX1_areaByQuarters 90 = .ok (.istore 7, 2) := dk_54 7 (dk_at dksX1_areaByQuarters_3 19 rfl rfl)
theorem dX1_areaByQuarters_92 : decode cX1_areaByQuarters 92 = .ok (.iload 7, 2) := dk_21 7 (dk_at dksX1_areaByQuarters_3 21 rfl rfl)
theorem dX1_areaByQuarters_94 : decode cX1_areaByQuarters 94 = .ok (.aload 5, 2) := dk_25 5 (dk_at dksX1_areaByQuarters_4 0 rfl rfl)
theorem dX1_areaByQuarters_96 : decode cX1_areaByQuarters 96 = .ok (.bipush 6, 2) := dk_16 6 (dk_at dksX1_areaByQuarters_4 2 rfl rfl)
theorem dX1_areaByQuarters_98 : decode cX1_areaByQuarters 98 = .ok (.iload 9, 2) := dk_21 9 (dk_at dksX1_areaByQuarters_4 4 rfl rfl)
theorem dX1_areaByQuarters_100 : decode cX1_areaByQuarters 100 = .ok (.imul, 1) := dk_104 (dk_at dksX1_areaByQuarters_4 6 rfl rfl)
theorem dX1_areaByQuarters_101 : decode cX1_areaByQuarters 101 = .ok (.iconst 3, 1) := dk_6 (dk_at dksX1_areaByQuarters_4 7 rfl rfl)
theorem dX1_areaByQuarters_102 : decode cX1_areaByQuarters 102 = .ok (.iadd, 1) := dk_96 (dk_at dksX1_areaByQuarters_4 8 rfl rfl)
theorem dX1_areaByQuarters_103 : decode cX1_areaByQuarters 103 = .ok (.bipush 6, 2) := dk_16 6 (dk_at dksX1_areaByQuarters_4 9 rfl rfl)
theorem dX1_areaByQuarters_105 : decode cX1_areaByQuarters 105 = .ok (.iload 8, 2) := dk_21 8 (dk_at dksX1_areaByQuarters_4 11 rfl rfl)
theorem dX1_areaByQuarters_107 : decode cX1_areaByQuarters 107 = .ok (.imul, 1) := dk_104 (dk_at dksX1_areaByQuarters_4 13 rfl rfl)
theorem dX1_areaByQuarters_108 : decode cX1_areaByQuarters 108 = .ok (.iconst 5, 1) := dk_8 (dk_at dksX1_areaByQuarters_4 14 rfl rfl)
theorem dX1_areaByQuarters_109 : decode cX1_areaByQuarters 109 = .ok (.iadd, 1) := dk_96 (dk_at dksX1_areaByQuarters_4 15 rfl rfl)
theorem dX1_areaByQuarters_110 : decode cX1_areaByQuarters 110 = .ok (.invokevirtual 300, 3) := dk_182 1 44 (dk_at dksX1_areaByQuarters_4 16 rfl rfl)
theorem dX1_areaByQuarters_113 : decode cX1_areaByQuarters 113 = .ok (.ifCond .eq 7, 3) := dk_153 0 7 (dk_at dksX1_areaByQuarters_4 19 rfl rfl)
theorem dX1_areaByQuarters_116 : decode cX1_areaByQuarters 116 = .ok (.iconst 1, 1) := dk_4 (dk_at dksX1_areaByQuarters_4 22 rfl rfl)
theorem dX1_areaByQuarters_117 : decode cX1_areaByQuarters 117 = .ok (.goto 4, 3) := dk_167 0 4 (dk_at dksX1_areaByQuarters_5 0 rfl rfl)
theorem dX1_areaByQuarters_120 : decode cX1_areaByQuarters 120 = .ok (.iconst 0, 1) := dk_3 (dk_at dksX1_areaByQuarters_5 3 rfl rfl)
theorem dX1_areaByQuarters_121 : decode cX1_areaByQuarters 121 = .ok (.iadd, 1) := dk_96 (dk_at dksX1_areaByQuarters_5 4 rfl rfl)
theorem dX1_areaByQuarters_122 : decode cX1_areaByQuarters 122 = .ok (.istore 7, 2) := dk_54 7 (dk_at dksX1_areaByQuarters_5 5 rfl rfl)
theorem dX1_areaByQuarters_124 : decode cX1_areaByQuarters 124 = .ok (.iload 7, 2) := dk_21 7 (dk_at dksX1_areaByQuarters_5 7 rfl rfl)
theorem dX1_areaByQuarters_126 : decode cX1_areaByQuarters 126 = .ok (.aload 5, 2) := dk_25 5 (dk_at dksX1_areaByQuarters_5 9 rfl rfl)
theorem dX1_areaByQuarters_128 : decode cX1_areaByQuarters 128 = .ok (.bipush 6, 2) := dk_16 6 (dk_at dksX1_areaByQuarters_5 11 rfl rfl)
theorem dX1_areaByQuarters_130 : decode cX1_areaByQuarters 130 = .ok (.iload 9, 2) := dk_21 9 (dk_at dksX1_areaByQuarters_5 13 rfl rfl)
theorem dX1_areaByQuarters_132 : decode cX1_areaByQuarters 132 = .ok (.imul, 1) := dk_104 (dk_at dksX1_areaByQuarters_5 15 rfl rfl)
theorem dX1_areaByQuarters_133 : decode cX1_areaByQuarters 133 = .ok (.iconst 1, 1) := dk_4 (dk_at dksX1_areaByQuarters_5 16 rfl rfl)
theorem dX1_areaByQuarters_134 : decode cX1_areaByQuarters 134 = .ok (.iadd, 1) := dk_96 (dk_at dksX1_areaByQuarters_5 17 rfl rfl)
theorem dX1_areaByQuarters_135 : decode cX1_areaByQuarters 135 = .ok (.bipush 6, 2) := dk_16 6 (dk_at dksX1_areaByQuarters_5 18 rfl rfl)
theorem dX1_areaByQuarters_137 : decode cX1_areaByQuarters 137 = .ok (.iload 8, 2) := dk_21 8 (dk_at dksX1_areaByQuarters_5 20 rfl rfl)
theorem dX1_areaByQuarters_139 : decode cX1_areaByQuarters 139 = .ok (.imul, 1) := dk_104 (dk_at dksX1_areaByQuarters_5 22 rfl rfl)
theorem dX1_areaByQuarters_140 : decode cX1_areaByQuarters 140 = .ok (.iconst 3, 1) := dk_6 (dk_at dksX1_areaByQuarters_5 23 rfl rfl)
theorem dX1_areaByQuarters_141 : decode cX1_areaByQuarters 141 = .ok (.iadd, 1) := dk_96 (dk_at dksX1_areaByQuarters_6 0 rfl rfl)
theorem dX1_areaByQuarters_142 : decode cX1_areaByQuarters 142 = .ok (.invokevirtual 300, 3) := dk_182 1 44 (dk_at dksX1_areaByQuarters_6 1 rfl rfl)
theorem dX1_areaByQuarters_145 : decode cX1_areaByQuarters 145 = .ok (.ifCond .eq 7, 3) := dk_153 0 7 (dk_at dksX1_areaByQuarters_6 4 rfl rfl)
theorem dX1_areaByQuarters_148 : decode cX1_areaByQuarters 148 = .ok (.iconst 1, 1) := dk_4 (dk_at dksX1_areaByQuarters_6 7 rfl rfl)
theorem dX1_areaByQuarters_149 : decode cX1_areaByQuarters 149 = .ok (.goto 4, 3) := dk_167 0 4 (dk_at dksX1_areaByQuarters_6 8 rfl rfl)
theorem dX1_areaByQuarters_152 : decode cX1_areaByQuarters 152 = .ok (.iconst 0, 1) := dk_3 (dk_at dksX1_areaByQuarters_6 11 rfl rfl)
theorem dX1_areaByQuarters_153 : decode cX1_areaByQuarters 153 = .ok (.iadd, 1) := dk_96 (dk_at dksX1_areaByQuarters_6 12 rfl rfl)
theorem dX1_areaByQuarters_154 : decode cX1_areaByQuarters 154 = .ok (.istore 7, 2) := dk_54 7 (dk_at dksX1_areaByQuarters_6 13 rfl rfl)
theorem dX1_areaByQuarters_156 : decode cX1_areaByQuarters 156 = .ok (.iload 7, 2) := dk_21 7 (dk_at dksX1_areaByQuarters_6 15 rfl rfl)
theorem dX1_areaByQuarters_158 : decode cX1_areaByQuarters 158 = .ok (.aload 5, 2) := dk_25 5 (dk_at dksX1_areaByQuarters_6 17 rfl rfl)
theorem dX1_areaByQuarters_160 : decode cX1_areaByQuarters 160 = .ok (.bipush 6, 2) := dk_16 6 (dk_at dksX1_areaByQuarters_6 19 rfl rfl)
theorem dX1_areaByQuarters_162 : decode cX1_areaByQuarters 162 = .ok (.iload 9, 2) := dk_21 9 (dk_at dksX1_areaByQuarters_6 21 rfl rfl)
theorem dX1_areaByQuarters_164 : decode cX1_areaByQuarters 164 = .ok (.imul, 1) := dk_104 (dk_at dksX1_areaByQuarters_6 23 rfl rfl)
theorem dX1_areaByQuarters_165 : decode cX1_areaByQuarters 165 = .ok (.iconst 5, 1) := dk_8 (dk_at dksX1_areaByQuarters_7 0 rfl rfl)
theorem dX1_areaByQuarters_166 : decode cX1_areaByQuarters 166 = .ok (.iadd, 1) := dk_96 (dk_at dksX1_areaByQuarters_7 1 rfl rfl)
theorem dX1_areaByQuarters_167 : decode cX1_areaByQuarters 167 = .ok (.bipush 6, 2) := dk_16 6 (dk_at dksX1_areaByQuarters_7 2 rfl rfl)
theorem dX1_areaByQuarters_169 : decode cX1_areaByQuarters 169 = .ok (.iload 8, 2) := dk_21 8 (dk_at dksX1_areaByQuarters_7 4 rfl rfl)
theorem dX1_areaByQuarters_171 : decode cX1_areaByQuarters 171 = .ok (.imul, 1) := dk_104 (dk_at dksX1_areaByQuarters_7 6 rfl rfl)
theorem dX1_areaByQuarters_172 : decode cX1_areaByQuarters 172 = .ok (.iconst 3, 1) := dk_6 (dk_at dksX1_areaByQuarters_7 7 rfl rfl)
theorem dX1_areaByQuarters_173 : decode cX1_areaByQuarters 173 = .ok (.iadd, 1) := dk_96 (dk_at dksX1_areaByQuarters_7 8 rfl rfl)
theorem dX1_areaByQuarters_174 : decode cX1_areaByQuarters 174 = .ok (.invokevirtual 300, 3) := dk_182 1 44 (dk_at dksX1_areaByQuarters_7 9 rfl rfl)
theorem dX1_areaByQuarters_177 : decode cX1_areaByQuarters 177 = .ok (.ifCond .eq 7, 3) := dk_153 0 7 (dk_at dksX1_areaByQuarters_7 12 rfl rfl)
theorem dX1_areaByQuarters_180 : decode cX1_areaByQuarters 180 = .ok (.iconst 1, 1) := dk_4 (dk_at dksX1_areaByQuarters_7 15 rfl rfl)
theorem dX1_areaByQuarters_181 : decode cX1_areaByQuarters 181 = .ok (.goto 4, 3) := dk_167 0 4 (dk_at dksX1_areaByQuarters_7 16 rfl rfl)
theorem dX1_areaByQuarters_184 : decode cX1_areaByQuarters 184 = .ok (.iconst 0, 1) := dk_3 (dk_at dksX1_areaByQuarters_7 19 rfl rfl)
theorem dX1_areaByQuarters_185 : decode cX1_areaByQuarters 185 = .ok (.iadd, 1) := dk_96 (dk_at dksX1_areaByQuarters_7 20 rfl rfl)
theorem dX1_areaByQuarters_186 : decode cX1_areaByQuarters 186 = .ok (.istore 7, 2) := dk_54 7 (dk_at dksX1_areaByQuarters_7 21 rfl rfl)
theorem dX1_areaByQuarters_188 : decode cX1_areaByQuarters 188 = .ok (.iinc 9 1, 3) := dk_132 9 1 (dk_at dksX1_areaByQuarters_8 0 rfl rfl)
theorem dX1_areaByQuarters_191 : decode cX1_areaByQuarters 191 = .ok (.goto (-141), 3) := dk_167 255 115 (dk_at dksX1_areaByQuarters_8 3 rfl rfl)
theorem dX1_areaByQuarters_194 : decode cX1_areaByQuarters 194 = .ok (.iinc 8 1, 3) := dk_132 8 1 (dk_at dksX1_areaByQuarters_8 6 rfl rfl)
theorem dX1_areaByQuarters_197 : decode cX1_areaByQuarters 197 = .ok (.goto (-164), 3) := dk_167 255 92 (dk_at dksX1_areaByQuarters_8 9 rfl rfl)
theorem dX1_areaByQuarters_200 : decode cX1_areaByQuarters 200 = .ok (.iload 7, 2) := dk_21 7 (dk_at dksX1_areaByQuarters_8 12 rfl rfl)
theorem dX1_areaByQuarters_202 : decode cX1_areaByQuarters 202 = .ok (.ireturn, 1) := dk_172 (dk_at dksX1_areaByQuarters_8 14 rfl rfl)
abbrev cX1_crossesRight : ByteArray := prog_1_method_53_code
def yX1_crossesRight : MethodName := ⟨RX1, "crossesRight", "(IIII)I"⟩
def dkwX1_crossesRight_8 : List UInt8 := [153, 0, 7, 4, 167, 0, 4, 3, 96, 54, 9, 132, 12, 1, 167, 255, 224, 21, 9, 172]
abbrev dktX1_crossesRight_8 : List UInt8 := dkwX1_crossesRight_8 ++ []
def dkwX1_crossesRight_7 : List UInt8 := [54, 11, 3, 54, 12, 21, 12, 21, 11, 162, 0, 31, 25, 10, 21, 12, 51, 54, 13, 21, 9, 21, 13]
abbrev dktX1_crossesRight_7 : List UInt8 := dkwX1_crossesRight_7 ++ dktX1_crossesRight_8
def dkwX1_crossesRight_6 : List UInt8 := [128, 84, 132, 10, 1, 167, 255, 197, 132, 9, 1, 167, 255, 148, 3, 54, 9, 25, 8, 58, 10, 25, 10, 190]
abbrev dktX1_crossesRight_6 : List UInt8 := dkwX1_crossesRight_6 ++ dktX1_crossesRight_7
def dkwX1_crossesRight_5 : List UInt8 := [21, 9, 25, 6, 180, 1, 24, 21, 11, 25, 6, 180, 1, 24, 21, 11, 28, 184, 1, 51, 96, 182, 1, 47]
abbrev dktX1_crossesRight_5 : List UInt8 := dkwX1_crossesRight_5 ++ dktX1_crossesRight_6
def dkwX1_crossesRight_4 : List UInt8 := [25, 6, 180, 1, 37, 28, 184, 1, 51, 21, 10, 104, 96, 54, 11, 25, 8, 21, 10, 92, 51, 25, 7]
abbrev dktX1_crossesRight_4 : List UInt8 := dkwX1_crossesRight_4 ++ dktX1_crossesRight_5
def dkwX1_crossesRight_3 : List UInt8 := [180, 1, 24, 25, 6, 180, 1, 34, 182, 1, 47, 153, 0, 68, 3, 54, 10, 21, 10, 16, 8, 162, 0, 58]
abbrev dktX1_crossesRight_3 : List UInt8 := dkwX1_crossesRight_3 ++ dktX1_crossesRight_4
def dkwX1_crossesRight_2 : List UInt8 := [25, 7, 182, 0, 216, 162, 0, 104, 25, 7, 21, 9, 25, 6, 180, 1, 31, 25, 6, 180, 1, 37, 25, 6]
abbrev dktX1_crossesRight_2 : List UInt8 := dkwX1_crossesRight_2 ++ dktX1_crossesRight_3
def dkwX1_crossesRight_1 : List UInt8 := [25, 5, 42, 180, 0, 19, 28, 46, 182, 0, 212, 58, 7, 16, 8, 188, 4, 58, 8, 3, 54, 9, 21, 9]
abbrev dktX1_crossesRight_1 : List UInt8 := dkwX1_crossesRight_1 ++ dktX1_crossesRight_2
def dkwX1_crossesRight_0 : List UInt8 := [42, 27, 182, 0, 154, 58, 5, 28, 29, 21, 4, 184, 0, 239, 28, 29, 21, 4, 184, 1, 17, 58, 6]
abbrev dktX1_crossesRight_0 : List UInt8 := dkwX1_crossesRight_0 ++ dktX1_crossesRight_1
theorem dksX1_crossesRight_0 : cX1_crossesRight.data.toList.drop 0 = dktX1_crossesRight_0 := by decide +kernel
theorem dksX1_crossesRight_1 : cX1_crossesRight.data.toList.drop 23 = dktX1_crossesRight_1 := dk_seg dksX1_crossesRight_0 23 rfl rfl
theorem dksX1_crossesRight_2 : cX1_crossesRight.data.toList.drop 47 = dktX1_crossesRight_2 := dk_seg dksX1_crossesRight_1 24 rfl rfl
theorem dksX1_crossesRight_3 : cX1_crossesRight.data.toList.drop 71 = dktX1_crossesRight_3 := dk_seg dksX1_crossesRight_2 24 rfl rfl
theorem dksX1_crossesRight_4 : cX1_crossesRight.data.toList.drop 95 = dktX1_crossesRight_4 := dk_seg dksX1_crossesRight_3 24 rfl rfl
theorem dksX1_crossesRight_5 : cX1_crossesRight.data.toList.drop 118 = dktX1_crossesRight_5 := dk_seg dksX1_crossesRight_4 23 rfl rfl
theorem dksX1_crossesRight_6 : cX1_crossesRight.data.toList.drop 142 = dktX1_crossesRight_6 := dk_seg dksX1_crossesRight_5 24 rfl rfl
theorem dksX1_crossesRight_7 : cX1_crossesRight.data.toList.drop 166 = dktX1_crossesRight_7 := dk_seg dksX1_crossesRight_6 24 rfl rfl
theorem dksX1_crossesRight_8 : cX1_crossesRight.data.toList.drop 189 = dktX1_crossesRight_8 := dk_seg dksX1_crossesRight_7 23 rfl rfl
theorem dX1_crossesRight_0 : decode cX1_crossesRight 0 = .ok (.aload_n 0, 1) := dk_42 (dk_at dksX1_crossesRight_0 0 rfl rfl)
theorem dX1_crossesRight_1 : decode cX1_crossesRight 1 = .ok (.iload_n 1, 1) := dk_27 (dk_at dksX1_crossesRight_0 1 rfl rfl)
theorem dX1_crossesRight_2 : decode cX1_crossesRight 2 = .ok (.invokevirtual 154, 3) := dk_182 0 154 (dk_at dksX1_crossesRight_0 2 rfl rfl)
theorem dX1_crossesRight_5 : decode cX1_crossesRight 5 = .ok (.astore 5, 2) := dk_58 5 (dk_at dksX1_crossesRight_0 5 rfl rfl)
theorem dX1_crossesRight_7 : decode cX1_crossesRight 7 = .ok (.iload_n 2, 1) := dk_28 (dk_at dksX1_crossesRight_0 7 rfl rfl)
theorem dX1_crossesRight_8 : decode cX1_crossesRight 8 = .ok (.iload_n 3, 1) := dk_29 (dk_at dksX1_crossesRight_0 8 rfl rfl)
theorem dX1_crossesRight_9 : decode cX1_crossesRight 9 = .ok (.iload 4, 2) := dk_21 4 (dk_at dksX1_crossesRight_0 9 rfl rfl)
theorem dX1_crossesRight_11 : decode cX1_crossesRight 11 = .ok (.invokestatic 239, 3) := dk_184 0 239 (dk_at dksX1_crossesRight_0 11 rfl rfl)
theorem dX1_crossesRight_14 : decode cX1_crossesRight 14 = .ok (.iload_n 2, 1) := dk_28 (dk_at dksX1_crossesRight_0 14 rfl rfl)
theorem dX1_crossesRight_15 : decode cX1_crossesRight 15 = .ok (.iload_n 3, 1) := dk_29 (dk_at dksX1_crossesRight_0 15 rfl rfl)
theorem dX1_crossesRight_16 : decode cX1_crossesRight 16 = .ok (.iload 4, 2) := dk_21 4 (dk_at dksX1_crossesRight_0 16 rfl rfl)
theorem dX1_crossesRight_18 : decode cX1_crossesRight 18 = .ok (.invokestatic 273, 3) := dk_184 1 17 (dk_at dksX1_crossesRight_0 18 rfl rfl)
theorem dX1_crossesRight_21 : decode cX1_crossesRight 21 = .ok (.astore 6, 2) := dk_58 6 (dk_at dksX1_crossesRight_0 21 rfl rfl)
theorem dX1_crossesRight_23 : decode cX1_crossesRight 23 = .ok (.aload 5, 2) := dk_25 5 (dk_at dksX1_crossesRight_1 0 rfl rfl)
theorem dX1_crossesRight_25 : decode cX1_crossesRight 25 = .ok (.aload_n 0, 1) := dk_42 (dk_at dksX1_crossesRight_1 2 rfl rfl)
theorem dX1_crossesRight_26 : decode cX1_crossesRight 26 = .ok (.getfield 19, 3) := dk_180 0 19 (dk_at dksX1_crossesRight_1 3 rfl rfl)
theorem dX1_crossesRight_29 : decode cX1_crossesRight 29 = .ok (.iload_n 2, 1) := dk_28 (dk_at dksX1_crossesRight_1 6 rfl rfl)
theorem dX1_crossesRight_30 : decode cX1_crossesRight 30 = .ok (.iaload, 1) := dk_46 (dk_at dksX1_crossesRight_1 7 rfl rfl)
theorem dX1_crossesRight_31 : decode cX1_crossesRight 31 = .ok (.invokevirtual 212, 3) := dk_182 0 212 (dk_at dksX1_crossesRight_1 8 rfl rfl)
theorem dX1_crossesRight_34 : decode cX1_crossesRight 34 = .ok (.astore 7, 2) := dk_58 7 (dk_at dksX1_crossesRight_1 11 rfl rfl)
theorem dX1_crossesRight_36 : decode cX1_crossesRight 36 = .ok (.bipush 8, 2) := dk_16 8 (dk_at dksX1_crossesRight_1 13 rfl rfl)
theorem dX1_crossesRight_38 : decode cX1_crossesRight 38 = .ok (.newarray .boolean, 2) := dk_188_4 (dk_at dksX1_crossesRight_1 15 rfl rfl)
theorem dX1_crossesRight_40 : decode cX1_crossesRight 40 = .ok (.astore 8, 2) := dk_58 8 (dk_at dksX1_crossesRight_1 17 rfl rfl)
theorem dX1_crossesRight_42 : decode cX1_crossesRight 42 = .ok (.iconst 0, 1) := dk_3 (dk_at dksX1_crossesRight_1 19 rfl rfl)
theorem dX1_crossesRight_43 : decode cX1_crossesRight 43 = .ok (.istore 9, 2) := dk_54 9 (dk_at dksX1_crossesRight_1 20 rfl rfl)
theorem dX1_crossesRight_45 : decode cX1_crossesRight 45 = .ok (.iload 9, 2) := dk_21 9 (dk_at dksX1_crossesRight_1 22 rfl rfl)
theorem dX1_crossesRight_47 : decode cX1_crossesRight 47 = .ok (.aload 7, 2) := dk_25 7 (dk_at dksX1_crossesRight_2 0 rfl rfl)
theorem dX1_crossesRight_49 : decode cX1_crossesRight 49 = .ok (.invokevirtual 216, 3) := dk_182 0 216 (dk_at dksX1_crossesRight_2 2 rfl rfl)
theorem dX1_crossesRight_52 : decode cX1_crossesRight 52 = .ok (.if_icmp .ge 104, 3) := dk_162 0 104 (dk_at dksX1_crossesRight_2 5 rfl rfl)
theorem dX1_crossesRight_55 : decode cX1_crossesRight 55 = .ok (.aload 7, 2) := dk_25 7 (dk_at dksX1_crossesRight_2 8 rfl rfl)
theorem dX1_crossesRight_57 : decode cX1_crossesRight 57 = .ok (.iload 9, 2) := dk_21 9 (dk_at dksX1_crossesRight_2 10 rfl rfl)
theorem dX1_crossesRight_59 : decode cX1_crossesRight 59 = .ok (.aload 6, 2) := dk_25 6 (dk_at dksX1_crossesRight_2 12 rfl rfl)
theorem dX1_crossesRight_61 : decode cX1_crossesRight 61 = .ok (.getfield 287, 3) := dk_180 1 31 (dk_at dksX1_crossesRight_2 14 rfl rfl)
theorem dX1_crossesRight_64 : decode cX1_crossesRight 64 = .ok (.aload 6, 2) := dk_25 6 (dk_at dksX1_crossesRight_2 17 rfl rfl)
theorem dX1_crossesRight_66 : decode cX1_crossesRight 66 = .ok (.getfield 293, 3) := dk_180 1 37 (dk_at dksX1_crossesRight_2 19 rfl rfl)
theorem dX1_crossesRight_69 : decode cX1_crossesRight 69 = .ok (.aload 6, 2) := dk_25 6 (dk_at dksX1_crossesRight_2 22 rfl rfl)
theorem dX1_crossesRight_71 : decode cX1_crossesRight 71 = .ok (.getfield 280, 3) := dk_180 1 24 (dk_at dksX1_crossesRight_3 0 rfl rfl)
theorem dX1_crossesRight_74 : decode cX1_crossesRight 74 = .ok (.aload 6, 2) := dk_25 6 (dk_at dksX1_crossesRight_3 3 rfl rfl)
theorem dX1_crossesRight_76 : decode cX1_crossesRight 76 = .ok (.getfield 290, 3) := dk_180 1 34 (dk_at dksX1_crossesRight_3 5 rfl rfl)
theorem dX1_crossesRight_79 : decode cX1_crossesRight 79 = .ok (.invokevirtual 303, 3) := dk_182 1 47 (dk_at dksX1_crossesRight_3 8 rfl rfl)
theorem dX1_crossesRight_82 : decode cX1_crossesRight 82 = .ok (.ifCond .eq 68, 3) := dk_153 0 68 (dk_at dksX1_crossesRight_3 11 rfl rfl)
theorem dX1_crossesRight_85 : decode cX1_crossesRight 85 = .ok (.iconst 0, 1) := dk_3 (dk_at dksX1_crossesRight_3 14 rfl rfl)
theorem dX1_crossesRight_86 : decode cX1_crossesRight 86 = .ok (.istore 10, 2) := dk_54 10 (dk_at dksX1_crossesRight_3 15 rfl rfl)
theorem dX1_crossesRight_88 : decode cX1_crossesRight 88 = .ok (.iload 10, 2) := dk_21 10 (dk_at dksX1_crossesRight_3 17 rfl rfl)
theorem dX1_crossesRight_90 : decode cX1_crossesRight 90 = .ok (.bipush 8, 2) := dk_16 8 (dk_at dksX1_crossesRight_3 19 rfl rfl)
theorem dX1_crossesRight_92 : decode cX1_crossesRight 92 = .ok (.if_icmp .ge 58, 3) := dk_162 0 58 (dk_at dksX1_crossesRight_3 21 rfl rfl)
theorem dX1_crossesRight_95 : decode cX1_crossesRight 95 = .ok (.aload 6, 2) := dk_25 6 (dk_at dksX1_crossesRight_4 0 rfl rfl)
theorem dX1_crossesRight_97 : decode cX1_crossesRight 97 = .ok (.getfield 293, 3) := dk_180 1 37 (dk_at dksX1_crossesRight_4 2 rfl rfl)
theorem dX1_crossesRight_100 : decode cX1_crossesRight 100 = .ok (.iload_n 2, 1) := dk_28 (dk_at dksX1_crossesRight_4 5 rfl rfl)
theorem dX1_crossesRight_101 : decode cX1_crossesRight 101 = .ok (.invokestatic 307, 3) := dk_184 1 51 (dk_at dksX1_crossesRight_4 6 rfl rfl)
theorem dX1_crossesRight_104 : decode cX1_crossesRight 104 = .ok (.iload 10, 2) := dk_21 10 (dk_at dksX1_crossesRight_4 9 rfl rfl)
theorem dX1_crossesRight_106 : decode cX1_crossesRight 106 = .ok (.imul, 1) := dk_104 (dk_at dksX1_crossesRight_4 11 rfl rfl)
theorem dX1_crossesRight_107 : decode cX1_crossesRight 107 = .ok (.iadd, 1) := dk_96 (dk_at dksX1_crossesRight_4 12 rfl rfl)
theorem dX1_crossesRight_108 : decode cX1_crossesRight 108 = .ok (.istore 11, 2) := dk_54 11 (dk_at dksX1_crossesRight_4 13 rfl rfl)
theorem dX1_crossesRight_110 : decode cX1_crossesRight 110 = .ok (.aload 8, 2) := dk_25 8 (dk_at dksX1_crossesRight_4 15 rfl rfl)
theorem dX1_crossesRight_112 : decode cX1_crossesRight 112 = .ok (.iload 10, 2) := dk_21 10 (dk_at dksX1_crossesRight_4 17 rfl rfl)
theorem dX1_crossesRight_114 : decode cX1_crossesRight 114 = .ok (.dup2, 1) := dk_92 (dk_at dksX1_crossesRight_4 19 rfl rfl)
theorem dX1_crossesRight_115 : decode cX1_crossesRight 115 = .ok (.baload, 1) := dk_51 (dk_at dksX1_crossesRight_4 20 rfl rfl)
theorem dX1_crossesRight_116 : decode cX1_crossesRight 116 = .ok (.aload 7, 2) := dk_25 7 (dk_at dksX1_crossesRight_4 21 rfl rfl)
theorem dX1_crossesRight_118 : decode cX1_crossesRight 118 = .ok (.iload 9, 2) := dk_21 9 (dk_at dksX1_crossesRight_5 0 rfl rfl)
theorem dX1_crossesRight_120 : decode cX1_crossesRight 120 = .ok (.aload 6, 2) := dk_25 6 (dk_at dksX1_crossesRight_5 2 rfl rfl)
theorem dX1_crossesRight_122 : decode cX1_crossesRight 122 = .ok (.getfield 280, 3) := dk_180 1 24 (dk_at dksX1_crossesRight_5 4 rfl rfl)
theorem dX1_crossesRight_125 : decode cX1_crossesRight 125 = .ok (.iload 11, 2) := dk_21 11 (dk_at dksX1_crossesRight_5 7 rfl rfl)
theorem dX1_crossesRight_127 : decode cX1_crossesRight 127 = .ok (.aload 6, 2) := dk_25 6 (dk_at dksX1_crossesRight_5 9 rfl rfl)
theorem dX1_crossesRight_129 : decode cX1_crossesRight 129 = .ok (.getfield 280, 3) := dk_180 1 24 (dk_at dksX1_crossesRight_5 11 rfl rfl)
theorem dX1_crossesRight_132 : decode cX1_crossesRight 132 = .ok (.iload 11, 2) := dk_21 11 (dk_at dksX1_crossesRight_5 14 rfl rfl)
theorem dX1_crossesRight_134 : decode cX1_crossesRight 134 = .ok (.iload_n 2, 1) := dk_28 (dk_at dksX1_crossesRight_5 16 rfl rfl)
theorem dX1_crossesRight_135 : decode cX1_crossesRight 135 = .ok (.invokestatic 307, 3) := dk_184 1 51 (dk_at dksX1_crossesRight_5 17 rfl rfl)
theorem dX1_crossesRight_138 : decode cX1_crossesRight 138 = .ok (.iadd, 1) := dk_96 (dk_at dksX1_crossesRight_5 20 rfl rfl)
theorem dX1_crossesRight_139 : decode cX1_crossesRight 139 = .ok (.invokevirtual 303, 3) := dk_182 1 47 (dk_at dksX1_crossesRight_5 21 rfl rfl)
theorem dX1_crossesRight_142 : decode cX1_crossesRight 142 = .ok (.ior, 1) := dk_128 (dk_at dksX1_crossesRight_6 0 rfl rfl)
theorem dX1_crossesRight_143 : decode cX1_crossesRight 143 = .ok (.bastore, 1) := dk_84 (dk_at dksX1_crossesRight_6 1 rfl rfl)
theorem dX1_crossesRight_144 : decode cX1_crossesRight 144 = .ok (.iinc 10 1, 3) := dk_132 10 1 (dk_at dksX1_crossesRight_6 2 rfl rfl)
theorem dX1_crossesRight_147 : decode cX1_crossesRight 147 = .ok (.goto (-59), 3) := dk_167 255 197 (dk_at dksX1_crossesRight_6 5 rfl rfl)
theorem dX1_crossesRight_150 : decode cX1_crossesRight 150 = .ok (.iinc 9 1, 3) := dk_132 9 1 (dk_at dksX1_crossesRight_6 8 rfl rfl)
theorem dX1_crossesRight_153 : decode cX1_crossesRight 153 = .ok (.goto (-108), 3) := dk_167 255 148 (dk_at dksX1_crossesRight_6 11 rfl rfl)
theorem dX1_crossesRight_156 : decode cX1_crossesRight 156 = .ok (.iconst 0, 1) := dk_3 (dk_at dksX1_crossesRight_6 14 rfl rfl)
theorem dX1_crossesRight_157 : decode cX1_crossesRight 157 = .ok (.istore 9, 2) := dk_54 9 (dk_at dksX1_crossesRight_6 15 rfl rfl)
theorem dX1_crossesRight_159 : decode cX1_crossesRight 159 = .ok (.aload 8, 2) := dk_25 8 (dk_at dksX1_crossesRight_6 17 rfl rfl)
theorem dX1_crossesRight_161 : decode cX1_crossesRight 161 = .ok (.astore 10, 2) := dk_58 10 (dk_at dksX1_crossesRight_6 19 rfl rfl)
theorem dX1_crossesRight_163 : decode cX1_crossesRight 163 = .ok (.aload 10, 2) := dk_25 10 (dk_at dksX1_crossesRight_6 21 rfl rfl)
theorem dX1_crossesRight_165 : decode cX1_crossesRight 165 = .ok (.arraylength, 1) := dk_190 (dk_at dksX1_crossesRight_6 23 rfl rfl)
theorem dX1_crossesRight_166 : decode cX1_crossesRight 166 = .ok (.istore 11, 2) := dk_54 11 (dk_at dksX1_crossesRight_7 0 rfl rfl)
theorem dX1_crossesRight_168 : decode cX1_crossesRight 168 = .ok (.iconst 0, 1) := dk_3 (dk_at dksX1_crossesRight_7 2 rfl rfl)
theorem dX1_crossesRight_169 : decode cX1_crossesRight 169 = .ok (.istore 12, 2) := dk_54 12 (dk_at dksX1_crossesRight_7 3 rfl rfl)
theorem dX1_crossesRight_171 : decode cX1_crossesRight 171 = .ok (.iload 12, 2) := dk_21 12 (dk_at dksX1_crossesRight_7 5 rfl rfl)
theorem dX1_crossesRight_173 : decode cX1_crossesRight 173 = .ok (.iload 11, 2) := dk_21 11 (dk_at dksX1_crossesRight_7 7 rfl rfl)
theorem dX1_crossesRight_175 : decode cX1_crossesRight 175 = .ok (.if_icmp .ge 31, 3) := dk_162 0 31 (dk_at dksX1_crossesRight_7 9 rfl rfl)
theorem dX1_crossesRight_178 : decode cX1_crossesRight 178 = .ok (.aload 10, 2) := dk_25 10 (dk_at dksX1_crossesRight_7 12 rfl rfl)
theorem dX1_crossesRight_180 : decode cX1_crossesRight 180 = .ok (.iload 12, 2) := dk_21 12 (dk_at dksX1_crossesRight_7 14 rfl rfl)
theorem dX1_crossesRight_182 : decode cX1_crossesRight 182 = .ok (.baload, 1) := dk_51 (dk_at dksX1_crossesRight_7 16 rfl rfl)
theorem dX1_crossesRight_183 : decode cX1_crossesRight 183 = .ok (.istore 13, 2) := dk_54 13 (dk_at dksX1_crossesRight_7 17 rfl rfl)
theorem dX1_crossesRight_185 : decode cX1_crossesRight 185 = .ok (.iload 9, 2) := dk_21 9 (dk_at dksX1_crossesRight_7 19 rfl rfl)
theorem dX1_crossesRight_187 : decode cX1_crossesRight 187 = .ok (.iload 13, 2) := dk_21 13 (dk_at dksX1_crossesRight_7 21 rfl rfl)
theorem dX1_crossesRight_189 : decode cX1_crossesRight 189 = .ok (.ifCond .eq 7, 3) := dk_153 0 7 (dk_at dksX1_crossesRight_8 0 rfl rfl)
theorem dX1_crossesRight_192 : decode cX1_crossesRight 192 = .ok (.iconst 1, 1) := dk_4 (dk_at dksX1_crossesRight_8 3 rfl rfl)
theorem dX1_crossesRight_193 : decode cX1_crossesRight 193 = .ok (.goto 4, 3) := dk_167 0 4 (dk_at dksX1_crossesRight_8 4 rfl rfl)
theorem dX1_crossesRight_196 : decode cX1_crossesRight 196 = .ok (.iconst 0, 1) := dk_3 (dk_at dksX1_crossesRight_8 7 rfl rfl)
theorem dX1_crossesRight_197 : decode cX1_crossesRight 197 = .ok (.iadd, 1) := dk_96 (dk_at dksX1_crossesRight_8 8 rfl rfl)
theorem dX1_crossesRight_198 : decode cX1_crossesRight 198 = .ok (.istore 9, 2) := dk_54 9 (dk_at dksX1_crossesRight_8 9 rfl rfl)
theorem dX1_crossesRight_200 : decode cX1_crossesRight 200 = .ok (.iinc 12 1, 3) := dk_132 12 1 (dk_at dksX1_crossesRight_8 11 rfl rfl)
theorem dX1_crossesRight_203 : decode cX1_crossesRight 203 = .ok (.goto (-32), 3) := dk_167 255 224 (dk_at dksX1_crossesRight_8 14 rfl rfl)
theorem dX1_crossesRight_206 : decode cX1_crossesRight 206 = .ok (.iload 9, 2) := dk_21 9 (dk_at dksX1_crossesRight_8 17 rfl rfl)
theorem dX1_crossesRight_208 : decode cX1_crossesRight 208 = .ok (.ireturn, 1) := dk_172 (dk_at dksX1_crossesRight_8 19 rfl rfl)
abbrev cX1_crossesLeft : ByteArray := prog_1_method_54_code
def yX1_crossesLeft : MethodName := ⟨RX1, "crossesLeft", "(IIII)I"⟩
def dkwX1_crossesLeft_4 : List UInt8 := [167, 0, 4, 3, 96, 54, 8, 132, 9, 1, 167, 255, 194, 21, 8, 172]
abbrev dktX1_crossesLeft_4 : List UInt8 := dkwX1_crossesLeft_4 ++ []
def dkwX1_crossesLeft_3 : List UInt8 := [180, 1, 31, 21, 10, 25, 6, 180, 1, 31, 21, 10, 28, 184, 1, 51, 96, 182, 1, 54, 158, 0, 7, 4]
abbrev dktX1_crossesLeft_3 : List UInt8 := dkwX1_crossesLeft_3 ++ dktX1_crossesLeft_4
def dkwX1_crossesLeft_2 : List UInt8 := [162, 0, 61, 25, 6, 180, 1, 37, 28, 184, 1, 51, 21, 9, 104, 96, 54, 10, 21, 8, 25, 7, 25, 6]
abbrev dktX1_crossesLeft_2 : List UInt8 := dkwX1_crossesLeft_2 ++ dktX1_crossesLeft_3
def dkwX1_crossesLeft_1 : List UInt8 := [25, 5, 42, 180, 0, 19, 28, 46, 182, 0, 212, 58, 7, 3, 54, 8, 3, 54, 9, 21, 9, 16, 8]
abbrev dktX1_crossesLeft_1 : List UInt8 := dkwX1_crossesLeft_1 ++ dktX1_crossesLeft_2
def dkwX1_crossesLeft_0 : List UInt8 := [42, 27, 182, 0, 154, 58, 5, 28, 29, 21, 4, 184, 0, 239, 28, 29, 21, 4, 184, 1, 17, 58, 6]
abbrev dktX1_crossesLeft_0 : List UInt8 := dkwX1_crossesLeft_0 ++ dktX1_crossesLeft_1
theorem dksX1_crossesLeft_0 : cX1_crossesLeft.data.toList.drop 0 = dktX1_crossesLeft_0 := by decide +kernel
theorem dksX1_crossesLeft_1 : cX1_crossesLeft.data.toList.drop 23 = dktX1_crossesLeft_1 := dk_seg dksX1_crossesLeft_0 23 rfl rfl
theorem dksX1_crossesLeft_2 : cX1_crossesLeft.data.toList.drop 46 = dktX1_crossesLeft_2 := dk_seg dksX1_crossesLeft_1 23 rfl rfl
theorem dksX1_crossesLeft_3 : cX1_crossesLeft.data.toList.drop 70 = dktX1_crossesLeft_3 := dk_seg dksX1_crossesLeft_2 24 rfl rfl
theorem dksX1_crossesLeft_4 : cX1_crossesLeft.data.toList.drop 94 = dktX1_crossesLeft_4 := dk_seg dksX1_crossesLeft_3 24 rfl rfl
theorem dX1_crossesLeft_0 : decode cX1_crossesLeft 0 = .ok (.aload_n 0, 1) := dk_42 (dk_at dksX1_crossesLeft_0 0 rfl rfl)
theorem dX1_crossesLeft_1 : decode cX1_crossesLeft 1 = .ok (.iload_n 1, 1) := dk_27 (dk_at dksX1_crossesLeft_0 1 rfl rfl)
theorem dX1_crossesLeft_2 : decode cX1_crossesLeft 2 = .ok (.invokevirtual 154, 3) := dk_182 0 154 (dk_at dksX1_crossesLeft_0 2 rfl rfl)
theorem dX1_crossesLeft_5 : decode cX1_crossesLeft 5 = .ok (.astore 5, 2) := dk_58 5 (dk_at dksX1_crossesLeft_0 5 rfl rfl)
theorem dX1_crossesLeft_7 : decode cX1_crossesLeft 7 = .ok (.iload_n 2, 1) := dk_28 (dk_at dksX1_crossesLeft_0 7 rfl rfl)
theorem dX1_crossesLeft_8 : decode cX1_crossesLeft 8 = .ok (.iload_n 3, 1) := dk_29 (dk_at dksX1_crossesLeft_0 8 rfl rfl)
theorem dX1_crossesLeft_9 : decode cX1_crossesLeft 9 = .ok (.iload 4, 2) := dk_21 4 (dk_at dksX1_crossesLeft_0 9 rfl rfl)
theorem dX1_crossesLeft_11 : decode cX1_crossesLeft 11 = .ok (.invokestatic 239, 3) := dk_184 0 239 (dk_at dksX1_crossesLeft_0 11 rfl rfl)
theorem dX1_crossesLeft_14 : decode cX1_crossesLeft 14 = .ok (.iload_n 2, 1) := dk_28 (dk_at dksX1_crossesLeft_0 14 rfl rfl)
theorem dX1_crossesLeft_15 : decode cX1_crossesLeft 15 = .ok (.iload_n 3, 1) := dk_29 (dk_at dksX1_crossesLeft_0 15 rfl rfl)
theorem dX1_crossesLeft_16 : decode cX1_crossesLeft 16 = .ok (.iload 4, 2) := dk_21 4 (dk_at dksX1_crossesLeft_0 16 rfl rfl)
theorem dX1_crossesLeft_18 : decode cX1_crossesLeft 18 = .ok (.invokestatic 273, 3) := dk_184 1 17 (dk_at dksX1_crossesLeft_0 18 rfl rfl)
theorem dX1_crossesLeft_21 : decode cX1_crossesLeft 21 = .ok (.astore 6, 2) := dk_58 6 (dk_at dksX1_crossesLeft_0 21 rfl rfl)
theorem dX1_crossesLeft_23 : decode cX1_crossesLeft 23 = .ok (.aload 5, 2) := dk_25 5 (dk_at dksX1_crossesLeft_1 0 rfl rfl)
theorem dX1_crossesLeft_25 : decode cX1_crossesLeft 25 = .ok (.aload_n 0, 1) := dk_42 (dk_at dksX1_crossesLeft_1 2 rfl rfl)
theorem dX1_crossesLeft_26 : decode cX1_crossesLeft 26 = .ok (.getfield 19, 3) := dk_180 0 19 (dk_at dksX1_crossesLeft_1 3 rfl rfl)
theorem dX1_crossesLeft_29 : decode cX1_crossesLeft 29 = .ok (.iload_n 2, 1) := dk_28 (dk_at dksX1_crossesLeft_1 6 rfl rfl)
theorem dX1_crossesLeft_30 : decode cX1_crossesLeft 30 = .ok (.iaload, 1) := dk_46 (dk_at dksX1_crossesLeft_1 7 rfl rfl)
theorem dX1_crossesLeft_31 : decode cX1_crossesLeft 31 = .ok (.invokevirtual 212, 3) := dk_182 0 212 (dk_at dksX1_crossesLeft_1 8 rfl rfl)
theorem dX1_crossesLeft_34 : decode cX1_crossesLeft 34 = .ok (.astore 7, 2) := dk_58 7 (dk_at dksX1_crossesLeft_1 11 rfl rfl)
theorem dX1_crossesLeft_36 : decode cX1_crossesLeft 36 = .ok (.iconst 0, 1) := dk_3 (dk_at dksX1_crossesLeft_1 13 rfl rfl)
theorem dX1_crossesLeft_37 : decode cX1_crossesLeft 37 = .ok (.istore 8, 2) := dk_54 8 (dk_at dksX1_crossesLeft_1 14 rfl rfl)
theorem dX1_crossesLeft_39 : decode cX1_crossesLeft 39 = .ok (.iconst 0, 1) := dk_3 (dk_at dksX1_crossesLeft_1 16 rfl rfl)
theorem dX1_crossesLeft_40 : decode cX1_crossesLeft 40 = .ok (.istore 9, 2) := dk_54 9 (dk_at dksX1_crossesLeft_1 17 rfl rfl)
theorem dX1_crossesLeft_42 : decode cX1_crossesLeft 42 = .ok (.iload 9, 2) := dk_21 9 (dk_at dksX1_crossesLeft_1 19 rfl rfl)
theorem dX1_crossesLeft_44 : decode cX1_crossesLeft 44 = .ok (.bipush 8, 2) := dk_16 8 (dk_at dksX1_crossesLeft_1 21 rfl rfl)
theorem dX1_crossesLeft_46 : decode cX1_crossesLeft 46 = .ok (.if_icmp .ge 61, 3) := dk_162 0 61 (dk_at dksX1_crossesLeft_2 0 rfl rfl)
theorem dX1_crossesLeft_49 : decode cX1_crossesLeft 49 = .ok (.aload 6, 2) := dk_25 6 (dk_at dksX1_crossesLeft_2 3 rfl rfl)
theorem dX1_crossesLeft_51 : decode cX1_crossesLeft 51 = .ok (.getfield 293, 3) := dk_180 1 37 (dk_at dksX1_crossesLeft_2 5 rfl rfl)
theorem dX1_crossesLeft_54 : decode cX1_crossesLeft 54 = .ok (.iload_n 2, 1) := dk_28 (dk_at dksX1_crossesLeft_2 8 rfl rfl)
theorem dX1_crossesLeft_55 : decode cX1_crossesLeft 55 = .ok (.invokestatic 307, 3) := dk_184 1 51 (dk_at dksX1_crossesLeft_2 9 rfl rfl)
theorem dX1_crossesLeft_58 : decode cX1_crossesLeft 58 = .ok (.iload 9, 2) := dk_21 9 (dk_at dksX1_crossesLeft_2 12 rfl rfl)
theorem dX1_crossesLeft_60 : decode cX1_crossesLeft 60 = .ok (.imul, 1) := dk_104 (dk_at dksX1_crossesLeft_2 14 rfl rfl)
theorem dX1_crossesLeft_61 : decode cX1_crossesLeft 61 = .ok (.iadd, 1) := dk_96 (dk_at dksX1_crossesLeft_2 15 rfl rfl)
theorem dX1_crossesLeft_62 : decode cX1_crossesLeft 62 = .ok (.istore 10, 2) := dk_54 10 (dk_at dksX1_crossesLeft_2 16 rfl rfl)
theorem dX1_crossesLeft_64 : decode cX1_crossesLeft 64 = .ok (.iload 8, 2) := dk_21 8 (dk_at dksX1_crossesLeft_2 18 rfl rfl)
theorem dX1_crossesLeft_66 : decode cX1_crossesLeft 66 = .ok (.aload 7, 2) := dk_25 7 (dk_at dksX1_crossesLeft_2 20 rfl rfl)
theorem dX1_crossesLeft_68 : decode cX1_crossesLeft 68 = .ok (.aload 6, 2) := dk_25 6 (dk_at dksX1_crossesLeft_2 22 rfl rfl)
theorem dX1_crossesLeft_70 : decode cX1_crossesLeft 70 = .ok (.getfield 287, 3) := dk_180 1 31 (dk_at dksX1_crossesLeft_3 0 rfl rfl)
theorem dX1_crossesLeft_73 : decode cX1_crossesLeft 73 = .ok (.iload 10, 2) := dk_21 10 (dk_at dksX1_crossesLeft_3 3 rfl rfl)
theorem dX1_crossesLeft_75 : decode cX1_crossesLeft 75 = .ok (.aload 6, 2) := dk_25 6 (dk_at dksX1_crossesLeft_3 5 rfl rfl)
theorem dX1_crossesLeft_77 : decode cX1_crossesLeft 77 = .ok (.getfield 287, 3) := dk_180 1 31 (dk_at dksX1_crossesLeft_3 7 rfl rfl)
theorem dX1_crossesLeft_80 : decode cX1_crossesLeft 80 = .ok (.iload 10, 2) := dk_21 10 (dk_at dksX1_crossesLeft_3 10 rfl rfl)
theorem dX1_crossesLeft_82 : decode cX1_crossesLeft 82 = .ok (.iload_n 2, 1) := dk_28 (dk_at dksX1_crossesLeft_3 12 rfl rfl)
theorem dX1_crossesLeft_83 : decode cX1_crossesLeft 83 = .ok (.invokestatic 307, 3) := dk_184 1 51 (dk_at dksX1_crossesLeft_3 13 rfl rfl)
theorem dX1_crossesLeft_86 : decode cX1_crossesLeft 86 = .ok (.iadd, 1) := dk_96 (dk_at dksX1_crossesLeft_3 16 rfl rfl)
theorem dX1_crossesLeft_87 : decode cX1_crossesLeft 87 = .ok (.invokevirtual 310, 3) := dk_182 1 54 (dk_at dksX1_crossesLeft_3 17 rfl rfl)
theorem dX1_crossesLeft_90 : decode cX1_crossesLeft 90 = .ok (.ifCond .le 7, 3) := dk_158 0 7 (dk_at dksX1_crossesLeft_3 20 rfl rfl)
theorem dX1_crossesLeft_93 : decode cX1_crossesLeft 93 = .ok (.iconst 1, 1) := dk_4 (dk_at dksX1_crossesLeft_3 23 rfl rfl)
theorem dX1_crossesLeft_94 : decode cX1_crossesLeft 94 = .ok (.goto 4, 3) := dk_167 0 4 (dk_at dksX1_crossesLeft_4 0 rfl rfl)
theorem dX1_crossesLeft_97 : decode cX1_crossesLeft 97 = .ok (.iconst 0, 1) := dk_3 (dk_at dksX1_crossesLeft_4 3 rfl rfl)
theorem dX1_crossesLeft_98 : decode cX1_crossesLeft 98 = .ok (.iadd, 1) := dk_96 (dk_at dksX1_crossesLeft_4 4 rfl rfl)
theorem dX1_crossesLeft_99 : decode cX1_crossesLeft 99 = .ok (.istore 8, 2) := dk_54 8 (dk_at dksX1_crossesLeft_4 5 rfl rfl)
theorem dX1_crossesLeft_101 : decode cX1_crossesLeft 101 = .ok (.iinc 9 1, 3) := dk_132 9 1 (dk_at dksX1_crossesLeft_4 7 rfl rfl)
theorem dX1_crossesLeft_104 : decode cX1_crossesLeft 104 = .ok (.goto (-62), 3) := dk_167 255 194 (dk_at dksX1_crossesLeft_4 10 rfl rfl)
theorem dX1_crossesLeft_107 : decode cX1_crossesLeft 107 = .ok (.iload 8, 2) := dk_21 8 (dk_at dksX1_crossesLeft_4 13 rfl rfl)
theorem dX1_crossesLeft_109 : decode cX1_crossesLeft 109 = .ok (.ireturn, 1) := dk_172 (dk_at dksX1_crossesLeft_4 15 rfl rfl)
abbrev cX1_segmentsIn : ByteArray := prog_1_method_55_code
def yX1_segmentsIn : MethodName := ⟨RX1, "segmentsIn", "(III)I"⟩
def dkwX1_segmentsIn_4 : List UInt8 := [25, 4, 180, 1, 34, 182, 1, 54, 96, 54, 5, 167, 255, 180, 21, 5, 172]
abbrev dktX1_segmentsIn_4 : List UInt8 := dkwX1_segmentsIn_4 ++ []
def dkwX1_segmentsIn_3 : List UInt8 := [42, 180, 0, 19, 27, 46, 182, 0, 212, 25, 4, 180, 1, 31, 25, 4, 180, 1, 37, 25, 4, 180, 1, 24]
abbrev dktX1_segmentsIn_3 : List UInt8 := dkwX1_segmentsIn_3 ++ dktX1_segmentsIn_4
def dkwX1_segmentsIn_2 : List UInt8 := [192, 0, 80, 58, 7, 25, 7, 193, 0, 93, 153, 0, 49, 25, 7, 192, 0, 93, 58, 8, 21, 5, 25, 8]
abbrev dktX1_segmentsIn_2 : List UInt8 := dkwX1_segmentsIn_2 ++ dktX1_segmentsIn_3
def dkwX1_segmentsIn_1 : List UInt8 := [185, 0, 64, 1, 0, 58, 6, 25, 6, 185, 0, 70, 1, 0, 153, 0, 72, 25, 6, 185, 0, 76, 1, 0]
abbrev dktX1_segmentsIn_1 : List UInt8 := dkwX1_segmentsIn_1 ++ dktX1_segmentsIn_2
def dkwX1_segmentsIn_0 : List UInt8 := [27, 28, 29, 184, 0, 239, 27, 28, 29, 184, 1, 17, 58, 4, 3, 54, 5, 42, 180, 0, 10]
abbrev dktX1_segmentsIn_0 : List UInt8 := dkwX1_segmentsIn_0 ++ dktX1_segmentsIn_1
theorem dksX1_segmentsIn_0 : cX1_segmentsIn.data.toList.drop 0 = dktX1_segmentsIn_0 := by decide +kernel
theorem dksX1_segmentsIn_1 : cX1_segmentsIn.data.toList.drop 21 = dktX1_segmentsIn_1 := dk_seg dksX1_segmentsIn_0 21 rfl rfl
theorem dksX1_segmentsIn_2 : cX1_segmentsIn.data.toList.drop 45 = dktX1_segmentsIn_2 := dk_seg dksX1_segmentsIn_1 24 rfl rfl
theorem dksX1_segmentsIn_3 : cX1_segmentsIn.data.toList.drop 69 = dktX1_segmentsIn_3 := dk_seg dksX1_segmentsIn_2 24 rfl rfl
theorem dksX1_segmentsIn_4 : cX1_segmentsIn.data.toList.drop 93 = dktX1_segmentsIn_4 := dk_seg dksX1_segmentsIn_3 24 rfl rfl
theorem dX1_segmentsIn_0 : decode cX1_segmentsIn 0 = .ok (.iload_n 1, 1) := dk_27 (dk_at dksX1_segmentsIn_0 0 rfl rfl)
theorem dX1_segmentsIn_1 : decode cX1_segmentsIn 1 = .ok (.iload_n 2, 1) := dk_28 (dk_at dksX1_segmentsIn_0 1 rfl rfl)
theorem dX1_segmentsIn_2 : decode cX1_segmentsIn 2 = .ok (.iload_n 3, 1) := dk_29 (dk_at dksX1_segmentsIn_0 2 rfl rfl)
theorem dX1_segmentsIn_3 : decode cX1_segmentsIn 3 = .ok (.invokestatic 239, 3) := dk_184 0 239 (dk_at dksX1_segmentsIn_0 3 rfl rfl)
theorem dX1_segmentsIn_6 : decode cX1_segmentsIn 6 = .ok (.iload_n 1, 1) := dk_27 (dk_at dksX1_segmentsIn_0 6 rfl rfl)
theorem dX1_segmentsIn_7 : decode cX1_segmentsIn 7 = .ok (.iload_n 2, 1) := dk_28 (dk_at dksX1_segmentsIn_0 7 rfl rfl)
theorem dX1_segmentsIn_8 : decode cX1_segmentsIn 8 = .ok (.iload_n 3, 1) := dk_29 (dk_at dksX1_segmentsIn_0 8 rfl rfl)
theorem dX1_segmentsIn_9 : decode cX1_segmentsIn 9 = .ok (.invokestatic 273, 3) := dk_184 1 17 (dk_at dksX1_segmentsIn_0 9 rfl rfl)
theorem dX1_segmentsIn_12 : decode cX1_segmentsIn 12 = .ok (.astore 4, 2) := dk_58 4 (dk_at dksX1_segmentsIn_0 12 rfl rfl)
theorem dX1_segmentsIn_14 : decode cX1_segmentsIn 14 = .ok (.iconst 0, 1) := dk_3 (dk_at dksX1_segmentsIn_0 14 rfl rfl)
theorem dX1_segmentsIn_15 : decode cX1_segmentsIn 15 = .ok (.istore 5, 2) := dk_54 5 (dk_at dksX1_segmentsIn_0 15 rfl rfl)
theorem dX1_segmentsIn_17 : decode cX1_segmentsIn 17 = .ok (.aload_n 0, 1) := dk_42 (dk_at dksX1_segmentsIn_0 17 rfl rfl)
theorem dX1_segmentsIn_18 : decode cX1_segmentsIn 18 = .ok (.getfield 10, 3) := dk_180 0 10 (dk_at dksX1_segmentsIn_0 18 rfl rfl)
theorem dX1_segmentsIn_21 : decode cX1_segmentsIn 21 = .ok (.invokeinterface 64 1, 5) := by decide +kernel
theorem dX1_segmentsIn_26 : decode cX1_segmentsIn 26 = .ok (.astore 6, 2) := dk_58 6 (dk_at dksX1_segmentsIn_1 5 rfl rfl)
theorem dX1_segmentsIn_28 : decode cX1_segmentsIn 28 = .ok (.aload 6, 2) := dk_25 6 (dk_at dksX1_segmentsIn_1 7 rfl rfl)
theorem dX1_segmentsIn_30 : decode cX1_segmentsIn 30 = .ok (.invokeinterface 70 1, 5) := by decide +kernel
theorem dX1_segmentsIn_35 : decode cX1_segmentsIn 35 = .ok (.ifCond .eq 72, 3) := dk_153 0 72 (dk_at dksX1_segmentsIn_1 14 rfl rfl)
theorem dX1_segmentsIn_38 : decode cX1_segmentsIn 38 = .ok (.aload 6, 2) := dk_25 6 (dk_at dksX1_segmentsIn_1 17 rfl rfl)
theorem dX1_segmentsIn_40 : decode cX1_segmentsIn 40 = .ok (.invokeinterface 76 1, 5) := by decide +kernel
theorem dX1_segmentsIn_45 : decode cX1_segmentsIn 45 = .ok (.checkcast 80, 3) := dk_192 0 80 (dk_at dksX1_segmentsIn_2 0 rfl rfl)
theorem dX1_segmentsIn_48 : decode cX1_segmentsIn 48 = .ok (.astore 7, 2) := dk_58 7 (dk_at dksX1_segmentsIn_2 3 rfl rfl)
theorem dX1_segmentsIn_50 : decode cX1_segmentsIn 50 = .ok (.aload 7, 2) := dk_25 7 (dk_at dksX1_segmentsIn_2 5 rfl rfl)
theorem dX1_segmentsIn_52 : decode cX1_segmentsIn 52 = .ok (.instanceof 93, 3) := dk_193 0 93 (dk_at dksX1_segmentsIn_2 7 rfl rfl)
theorem dX1_segmentsIn_55 : decode cX1_segmentsIn 55 = .ok (.ifCond .eq 49, 3) := dk_153 0 49 (dk_at dksX1_segmentsIn_2 10 rfl rfl)
theorem dX1_segmentsIn_58 : decode cX1_segmentsIn 58 = .ok (.aload 7, 2) := dk_25 7 (dk_at dksX1_segmentsIn_2 13 rfl rfl)
theorem dX1_segmentsIn_60 : decode cX1_segmentsIn 60 = .ok (.checkcast 93, 3) := dk_192 0 93 (dk_at dksX1_segmentsIn_2 15 rfl rfl)
theorem dX1_segmentsIn_63 : decode cX1_segmentsIn 63 = .ok (.astore 8, 2) := dk_58 8 (dk_at dksX1_segmentsIn_2 18 rfl rfl)
theorem dX1_segmentsIn_65 : decode cX1_segmentsIn 65 = .ok (.iload 5, 2) := dk_21 5 (dk_at dksX1_segmentsIn_2 20 rfl rfl)
theorem dX1_segmentsIn_67 : decode cX1_segmentsIn 67 = .ok (.aload 8, 2) := dk_25 8 (dk_at dksX1_segmentsIn_2 22 rfl rfl)
theorem dX1_segmentsIn_69 : decode cX1_segmentsIn 69 = .ok (.aload_n 0, 1) := dk_42 (dk_at dksX1_segmentsIn_3 0 rfl rfl)
theorem dX1_segmentsIn_70 : decode cX1_segmentsIn 70 = .ok (.getfield 19, 3) := dk_180 0 19 (dk_at dksX1_segmentsIn_3 1 rfl rfl)
theorem dX1_segmentsIn_73 : decode cX1_segmentsIn 73 = .ok (.iload_n 1, 1) := dk_27 (dk_at dksX1_segmentsIn_3 4 rfl rfl)
theorem dX1_segmentsIn_74 : decode cX1_segmentsIn 74 = .ok (.iaload, 1) := dk_46 (dk_at dksX1_segmentsIn_3 5 rfl rfl)
theorem dX1_segmentsIn_75 : decode cX1_segmentsIn 75 = .ok (.invokevirtual 212, 3) := dk_182 0 212 (dk_at dksX1_segmentsIn_3 6 rfl rfl)
theorem dX1_segmentsIn_78 : decode cX1_segmentsIn 78 = .ok (.aload 4, 2) := dk_25 4 (dk_at dksX1_segmentsIn_3 9 rfl rfl)
theorem dX1_segmentsIn_80 : decode cX1_segmentsIn 80 = .ok (.getfield 287, 3) := dk_180 1 31 (dk_at dksX1_segmentsIn_3 11 rfl rfl)
theorem dX1_segmentsIn_83 : decode cX1_segmentsIn 83 = .ok (.aload 4, 2) := dk_25 4 (dk_at dksX1_segmentsIn_3 14 rfl rfl)
theorem dX1_segmentsIn_85 : decode cX1_segmentsIn 85 = .ok (.getfield 293, 3) := dk_180 1 37 (dk_at dksX1_segmentsIn_3 16 rfl rfl)
theorem dX1_segmentsIn_88 : decode cX1_segmentsIn 88 = .ok (.aload 4, 2) := dk_25 4 (dk_at dksX1_segmentsIn_3 19 rfl rfl)
theorem dX1_segmentsIn_90 : decode cX1_segmentsIn 90 = .ok (.getfield 280, 3) := dk_180 1 24 (dk_at dksX1_segmentsIn_3 21 rfl rfl)
theorem dX1_segmentsIn_93 : decode cX1_segmentsIn 93 = .ok (.aload 4, 2) := dk_25 4 (dk_at dksX1_segmentsIn_4 0 rfl rfl)
theorem dX1_segmentsIn_95 : decode cX1_segmentsIn 95 = .ok (.getfield 290, 3) := dk_180 1 34 (dk_at dksX1_segmentsIn_4 2 rfl rfl)
theorem dX1_segmentsIn_98 : decode cX1_segmentsIn 98 = .ok (.invokevirtual 310, 3) := dk_182 1 54 (dk_at dksX1_segmentsIn_4 5 rfl rfl)
theorem dX1_segmentsIn_101 : decode cX1_segmentsIn 101 = .ok (.iadd, 1) := dk_96 (dk_at dksX1_segmentsIn_4 8 rfl rfl)
theorem dX1_segmentsIn_102 : decode cX1_segmentsIn 102 = .ok (.istore 5, 2) := dk_54 5 (dk_at dksX1_segmentsIn_4 9 rfl rfl)
theorem dX1_segmentsIn_104 : decode cX1_segmentsIn 104 = .ok (.goto (-76), 3) := dk_167 255 180 (dk_at dksX1_segmentsIn_4 11 rfl rfl)
theorem dX1_segmentsIn_107 : decode cX1_segmentsIn 107 = .ok (.iload 5, 2) := dk_21 5 (dk_at dksX1_segmentsIn_4 14 rfl rfl)
theorem dX1_segmentsIn_109 : decode cX1_segmentsIn 109 = .ok (.ireturn, 1) := dk_172 (dk_at dksX1_segmentsIn_4 16 rfl rfl)
abbrev cX1_placeOf : ByteArray := prog_1_method_61_code
def yX1_placeOf : MethodName := ⟨RX1, "placeOf", "(II)C"⟩
def dkwX1_placeOf_0 : List UInt8 := [42, 27, 28, 182, 1, 96, 78, 45, 199, 0, 8, 16, 45, 167, 0, 10, 45, 180, 1, 100, 180, 1, 104, 172]
abbrev dktX1_placeOf_0 : List UInt8 := dkwX1_placeOf_0 ++ []
theorem dksX1_placeOf_0 : cX1_placeOf.data.toList.drop 0 = dktX1_placeOf_0 := by decide +kernel
theorem dX1_placeOf_0 : decode cX1_placeOf 0 = .ok (.aload_n 0, 1) := dk_42 (dk_at dksX1_placeOf_0 0 rfl rfl)
theorem dX1_placeOf_1 : decode cX1_placeOf 1 = .ok (.iload_n 1, 1) := dk_27 (dk_at dksX1_placeOf_0 1 rfl rfl)
theorem dX1_placeOf_2 : decode cX1_placeOf 2 = .ok (.iload_n 2, 1) := dk_28 (dk_at dksX1_placeOf_0 2 rfl rfl)
theorem dX1_placeOf_3 : decode cX1_placeOf 3 = .ok (.invokevirtual 352, 3) := dk_182 1 96 (dk_at dksX1_placeOf_0 3 rfl rfl)
theorem dX1_placeOf_6 : decode cX1_placeOf 6 = .ok (.astore_n 3, 1) := dk_78 (dk_at dksX1_placeOf_0 6 rfl rfl)
theorem dX1_placeOf_7 : decode cX1_placeOf 7 = .ok (.aload_n 3, 1) := dk_45 (dk_at dksX1_placeOf_0 7 rfl rfl)
theorem dX1_placeOf_8 : decode cX1_placeOf 8 = .ok (.ifnonnull 8, 3) := dk_199 0 8 (dk_at dksX1_placeOf_0 8 rfl rfl)
theorem dX1_placeOf_11 : decode cX1_placeOf 11 = .ok (.bipush 45, 2) := dk_16 45 (dk_at dksX1_placeOf_0 11 rfl rfl)
theorem dX1_placeOf_13 : decode cX1_placeOf 13 = .ok (.goto 10, 3) := dk_167 0 10 (dk_at dksX1_placeOf_0 13 rfl rfl)
theorem dX1_placeOf_16 : decode cX1_placeOf 16 = .ok (.aload_n 3, 1) := dk_45 (dk_at dksX1_placeOf_0 16 rfl rfl)
theorem dX1_placeOf_17 : decode cX1_placeOf 17 = .ok (.getfield 356, 3) := dk_180 1 100 (dk_at dksX1_placeOf_0 17 rfl rfl)
theorem dX1_placeOf_20 : decode cX1_placeOf 20 = .ok (.getfield 360, 3) := dk_180 1 104 (dk_at dksX1_placeOf_0 20 rfl rfl)
theorem dX1_placeOf_23 : decode cX1_placeOf 23 = .ok (.ireturn, 1) := dk_172 (dk_at dksX1_placeOf_0 23 rfl rfl)
abbrev cX1_checkedLabel : ByteArray := prog_1_method_60_code
def yX1_checkedLabel : MethodName := ⟨RX1, "checkedLabel", "(II)LTileServer$Label;"⟩
def dkwX1_checkedLabel_3 : List UInt8 := [25, 5, 176, 167, 255, 222, 1, 176]
abbrev dktX1_checkedLabel_3 : List UInt8 := dkwX1_checkedLabel_3 ++ []
def dkwX1_checkedLabel_2 : List UInt8 := [153, 0, 30, 25, 4, 185, 0, 76, 1, 0, 192, 1, 64, 58, 5, 25, 5, 180, 1, 92, 45, 166, 0, 6]
abbrev dktX1_checkedLabel_2 : List UInt8 := dkwX1_checkedLabel_2 ++ dktX1_checkedLabel_3
def dkwX1_checkedLabel_1 : List UInt8 := [184, 0, 60, 42, 28, 182, 1, 88, 185, 0, 64, 1, 0, 58, 4, 25, 4, 185, 0, 70, 1, 0]
abbrev dktX1_checkedLabel_1 : List UInt8 := dkwX1_checkedLabel_1 ++ dktX1_checkedLabel_2
def dkwX1_checkedLabel_0 : List UInt8 := [42, 27, 182, 0, 89, 78, 45, 180, 0, 186, 158, 0, 7, 4, 167, 0, 4, 3, 184, 0, 145, 28]
abbrev dktX1_checkedLabel_0 : List UInt8 := dkwX1_checkedLabel_0 ++ dktX1_checkedLabel_1
theorem dksX1_checkedLabel_0 : cX1_checkedLabel.data.toList.drop 0 = dktX1_checkedLabel_0 := by decide +kernel
theorem dksX1_checkedLabel_1 : cX1_checkedLabel.data.toList.drop 22 = dktX1_checkedLabel_1 := dk_seg dksX1_checkedLabel_0 22 rfl rfl
theorem dksX1_checkedLabel_2 : cX1_checkedLabel.data.toList.drop 44 = dktX1_checkedLabel_2 := dk_seg dksX1_checkedLabel_1 22 rfl rfl
theorem dksX1_checkedLabel_3 : cX1_checkedLabel.data.toList.drop 68 = dktX1_checkedLabel_3 := dk_seg dksX1_checkedLabel_2 24 rfl rfl
theorem dX1_checkedLabel_0 : decode cX1_checkedLabel 0 = .ok (.aload_n 0, 1) := dk_42 (dk_at dksX1_checkedLabel_0 0 rfl rfl)
theorem dX1_checkedLabel_1 : decode cX1_checkedLabel 1 = .ok (.iload_n 1, 1) := dk_27 (dk_at dksX1_checkedLabel_0 1 rfl rfl)
theorem dX1_checkedLabel_2 : decode cX1_checkedLabel 2 = .ok (.invokevirtual 89, 3) := dk_182 0 89 (dk_at dksX1_checkedLabel_0 2 rfl rfl)
theorem dX1_checkedLabel_5 : decode cX1_checkedLabel 5 = .ok (.astore_n 3, 1) := dk_78 (dk_at dksX1_checkedLabel_0 5 rfl rfl)
theorem dX1_checkedLabel_6 : decode cX1_checkedLabel 6 = .ok (.aload_n 3, 1) := dk_45 (dk_at dksX1_checkedLabel_0 6 rfl rfl)
theorem dX1_checkedLabel_7 : decode cX1_checkedLabel 7 = .ok (.getfield 186, 3) := dk_180 0 186 (dk_at dksX1_checkedLabel_0 7 rfl rfl)
theorem dX1_checkedLabel_10 : decode cX1_checkedLabel 10 = .ok (.ifCond .le 7, 3) := dk_158 0 7 (dk_at dksX1_checkedLabel_0 10 rfl rfl)
theorem dX1_checkedLabel_13 : decode cX1_checkedLabel 13 = .ok (.iconst 1, 1) := dk_4 (dk_at dksX1_checkedLabel_0 13 rfl rfl)
theorem dX1_checkedLabel_14 : decode cX1_checkedLabel 14 = .ok (.goto 4, 3) := dk_167 0 4 (dk_at dksX1_checkedLabel_0 14 rfl rfl)
theorem dX1_checkedLabel_17 : decode cX1_checkedLabel 17 = .ok (.iconst 0, 1) := dk_3 (dk_at dksX1_checkedLabel_0 17 rfl rfl)
theorem dX1_checkedLabel_18 : decode cX1_checkedLabel 18 = .ok (.invokestatic 145, 3) := dk_184 0 145 (dk_at dksX1_checkedLabel_0 18 rfl rfl)
theorem dX1_checkedLabel_21 : decode cX1_checkedLabel 21 = .ok (.iload_n 2, 1) := dk_28 (dk_at dksX1_checkedLabel_0 21 rfl rfl)
theorem dX1_checkedLabel_22 : decode cX1_checkedLabel 22 = .ok (.invokestatic 60, 3) := dk_184 0 60 (dk_at dksX1_checkedLabel_1 0 rfl rfl)
theorem dX1_checkedLabel_25 : decode cX1_checkedLabel 25 = .ok (.aload_n 0, 1) := dk_42 (dk_at dksX1_checkedLabel_1 3 rfl rfl)
theorem dX1_checkedLabel_26 : decode cX1_checkedLabel 26 = .ok (.iload_n 2, 1) := dk_28 (dk_at dksX1_checkedLabel_1 4 rfl rfl)
theorem dX1_checkedLabel_27 : decode cX1_checkedLabel 27 = .ok (.invokevirtual 344, 3) := dk_182 1 88 (dk_at dksX1_checkedLabel_1 5 rfl rfl)
theorem dX1_checkedLabel_30 : decode cX1_checkedLabel 30 = .ok (.invokeinterface 64 1, 5) := by decide +kernel
theorem dX1_checkedLabel_35 : decode cX1_checkedLabel 35 = .ok (.astore 4, 2) := dk_58 4 (dk_at dksX1_checkedLabel_1 13 rfl rfl)
theorem dX1_checkedLabel_37 : decode cX1_checkedLabel 37 = .ok (.aload 4, 2) := dk_25 4 (dk_at dksX1_checkedLabel_1 15 rfl rfl)
theorem dX1_checkedLabel_39 : decode cX1_checkedLabel 39 = .ok (.invokeinterface 70 1, 5) := by decide +kernel
theorem dX1_checkedLabel_44 : decode cX1_checkedLabel 44 = .ok (.ifCond .eq 30, 3) := dk_153 0 30 (dk_at dksX1_checkedLabel_2 0 rfl rfl)
theorem dX1_checkedLabel_47 : decode cX1_checkedLabel 47 = .ok (.aload 4, 2) := dk_25 4 (dk_at dksX1_checkedLabel_2 3 rfl rfl)
theorem dX1_checkedLabel_49 : decode cX1_checkedLabel 49 = .ok (.invokeinterface 76 1, 5) := by decide +kernel
theorem dX1_checkedLabel_54 : decode cX1_checkedLabel 54 = .ok (.checkcast 320, 3) := dk_192 1 64 (dk_at dksX1_checkedLabel_2 10 rfl rfl)
theorem dX1_checkedLabel_57 : decode cX1_checkedLabel 57 = .ok (.astore 5, 2) := dk_58 5 (dk_at dksX1_checkedLabel_2 13 rfl rfl)
theorem dX1_checkedLabel_59 : decode cX1_checkedLabel 59 = .ok (.aload 5, 2) := dk_25 5 (dk_at dksX1_checkedLabel_2 15 rfl rfl)
theorem dX1_checkedLabel_61 : decode cX1_checkedLabel 61 = .ok (.getfield 348, 3) := dk_180 1 92 (dk_at dksX1_checkedLabel_2 17 rfl rfl)
theorem dX1_checkedLabel_64 : decode cX1_checkedLabel 64 = .ok (.aload_n 3, 1) := dk_45 (dk_at dksX1_checkedLabel_2 20 rfl rfl)
theorem dX1_checkedLabel_65 : decode cX1_checkedLabel 65 = .ok (.if_acmp .ne 6, 3) := dk_166 0 6 (dk_at dksX1_checkedLabel_2 21 rfl rfl)
theorem dX1_checkedLabel_68 : decode cX1_checkedLabel 68 = .ok (.aload 5, 2) := dk_25 5 (dk_at dksX1_checkedLabel_3 0 rfl rfl)
theorem dX1_checkedLabel_70 : decode cX1_checkedLabel 70 = .ok (.areturn, 1) := dk_176 (dk_at dksX1_checkedLabel_3 2 rfl rfl)
theorem dX1_checkedLabel_71 : decode cX1_checkedLabel 71 = .ok (.goto (-34), 3) := dk_167 255 222 (dk_at dksX1_checkedLabel_3 3 rfl rfl)
theorem dX1_checkedLabel_74 : decode cX1_checkedLabel 74 = .ok (.aconst_null, 1) := dk_1 (dk_at dksX1_checkedLabel_3 6 rfl rfl)
theorem dX1_checkedLabel_75 : decode cX1_checkedLabel 75 = .ok (.areturn, 1) := dk_176 (dk_at dksX1_checkedLabel_3 7 rfl rfl)
abbrev cX1_labels : ByteArray := prog_1_method_59_code
def yX1_labels : MethodName := ⟨RX1, "labels", "(I)Ljava/util/List;"⟩
def dkwX1_labels_2 : List UInt8 := [25, 5, 198, 0, 12, 44, 25, 5, 185, 0, 124, 2, 0, 87, 167, 255, 212, 44, 176]
abbrev dktX1_labels_2 : List UInt8 := dkwX1_labels_2 ++ []
def dkwX1_labels_1 : List UInt8 := [153, 0, 41, 45, 185, 0, 76, 1, 0, 192, 0, 80, 58, 4, 42, 25, 4, 27, 44, 182, 1, 84, 58, 5]
abbrev dktX1_labels_1 : List UInt8 := dkwX1_labels_1 ++ dktX1_labels_2
def dkwX1_labels_0 : List UInt8 := [187, 0, 7, 89, 183, 0, 9, 77, 42, 182, 1, 81, 185, 0, 64, 1, 0, 78, 45, 185, 0, 70, 1, 0]
abbrev dktX1_labels_0 : List UInt8 := dkwX1_labels_0 ++ dktX1_labels_1
theorem dksX1_labels_0 : cX1_labels.data.toList.drop 0 = dktX1_labels_0 := by decide +kernel
theorem dksX1_labels_1 : cX1_labels.data.toList.drop 24 = dktX1_labels_1 := dk_seg dksX1_labels_0 24 rfl rfl
theorem dksX1_labels_2 : cX1_labels.data.toList.drop 48 = dktX1_labels_2 := dk_seg dksX1_labels_1 24 rfl rfl
theorem dX1_labels_0 : decode cX1_labels 0 = .ok (.new 7, 3) := dk_187 0 7 (dk_at dksX1_labels_0 0 rfl rfl)
theorem dX1_labels_3 : decode cX1_labels 3 = .ok (.dup, 1) := dk_89 (dk_at dksX1_labels_0 3 rfl rfl)
theorem dX1_labels_4 : decode cX1_labels 4 = .ok (.invokespecial 9, 3) := dk_183 0 9 (dk_at dksX1_labels_0 4 rfl rfl)
theorem dX1_labels_7 : decode cX1_labels 7 = .ok (.astore_n 2, 1) := dk_77 (dk_at dksX1_labels_0 7 rfl rfl)
theorem dX1_labels_8 : decode cX1_labels 8 = .ok (.aload_n 0, 1) := dk_42 (dk_at dksX1_labels_0 8 rfl rfl)
theorem dX1_labels_9 : decode cX1_labels 9 = .ok (.invokevirtual 337, 3) := dk_182 1 81 (dk_at dksX1_labels_0 9 rfl rfl)
theorem dX1_labels_12 : decode cX1_labels 12 = .ok (.invokeinterface 64 1, 5) := by decide +kernel
theorem dX1_labels_17 : decode cX1_labels 17 = .ok (.astore_n 3, 1) := dk_78 (dk_at dksX1_labels_0 17 rfl rfl)
theorem dX1_labels_18 : decode cX1_labels 18 = .ok (.aload_n 3, 1) := dk_45 (dk_at dksX1_labels_0 18 rfl rfl)
theorem dX1_labels_19 : decode cX1_labels 19 = .ok (.invokeinterface 70 1, 5) := by decide +kernel
theorem dX1_labels_24 : decode cX1_labels 24 = .ok (.ifCond .eq 41, 3) := dk_153 0 41 (dk_at dksX1_labels_1 0 rfl rfl)
theorem dX1_labels_27 : decode cX1_labels 27 = .ok (.aload_n 3, 1) := dk_45 (dk_at dksX1_labels_1 3 rfl rfl)
theorem dX1_labels_28 : decode cX1_labels 28 = .ok (.invokeinterface 76 1, 5) := by decide +kernel
theorem dX1_labels_33 : decode cX1_labels 33 = .ok (.checkcast 80, 3) := dk_192 0 80 (dk_at dksX1_labels_1 9 rfl rfl)
theorem dX1_labels_36 : decode cX1_labels 36 = .ok (.astore 4, 2) := dk_58 4 (dk_at dksX1_labels_1 12 rfl rfl)
theorem dX1_labels_38 : decode cX1_labels 38 = .ok (.aload_n 0, 1) := dk_42 (dk_at dksX1_labels_1 14 rfl rfl)
theorem dX1_labels_39 : decode cX1_labels 39 = .ok (.aload 4, 2) := dk_25 4 (dk_at dksX1_labels_1 15 rfl rfl)
theorem dX1_labels_41 : decode cX1_labels 41 = .ok (.iload_n 1, 1) := dk_27 (dk_at dksX1_labels_1 17 rfl rfl)
theorem dX1_labels_42 : decode cX1_labels 42 = .ok (.aload_n 2, 1) := dk_44 (dk_at dksX1_labels_1 18 rfl rfl)
theorem dX1_labels_43 : decode cX1_labels 43 = .ok (.invokevirtual 340, 3) := dk_182 1 84 (dk_at dksX1_labels_1 19 rfl rfl)
theorem dX1_labels_46 : decode cX1_labels 46 = .ok (.astore 5, 2) := dk_58 5 (dk_at dksX1_labels_1 22 rfl rfl)
theorem dX1_labels_48 : decode cX1_labels 48 = .ok (.aload 5, 2) := dk_25 5 (dk_at dksX1_labels_2 0 rfl rfl)
theorem dX1_labels_50 : decode cX1_labels 50 = .ok (.ifnull 12, 3) := dk_198 0 12 (dk_at dksX1_labels_2 2 rfl rfl)
theorem dX1_labels_53 : decode cX1_labels 53 = .ok (.aload_n 2, 1) := dk_44 (dk_at dksX1_labels_2 5 rfl rfl)
theorem dX1_labels_54 : decode cX1_labels 54 = .ok (.aload 5, 2) := dk_25 5 (dk_at dksX1_labels_2 6 rfl rfl)
theorem dX1_labels_56 : decode cX1_labels 56 = .ok (.invokeinterface 124 2, 5) := by decide +kernel
theorem dX1_labels_61 : decode cX1_labels 61 = .ok (.pop, 1) := dk_87 (dk_at dksX1_labels_2 13 rfl rfl)
theorem dX1_labels_62 : decode cX1_labels 62 = .ok (.goto (-44), 3) := dk_167 255 212 (dk_at dksX1_labels_2 14 rfl rfl)
theorem dX1_labels_65 : decode cX1_labels 65 = .ok (.aload_n 2, 1) := dk_44 (dk_at dksX1_labels_2 17 rfl rfl)
theorem dX1_labels_66 : decode cX1_labels 66 = .ok (.areturn, 1) := dk_176 (dk_at dksX1_labels_2 18 rfl rfl)
abbrev cX1_labelled : ByteArray := prog_1_method_56_code
def yX1_labelled : MethodName := ⟨RX1, "labelled", "()Ljava/util/List;"⟩
def dkwX1_labelled_4 : List UInt8 := [185, 1, 58, 3, 0, 167, 255, 179, 43, 176]
abbrev dktX1_labelled_4 : List UInt8 := dkwX1_labelled_4 ++ []
def dkwX1_labelled_3 : List UInt8 := [162, 0, 9, 132, 4, 255, 167, 255, 225, 45, 180, 0, 186, 158, 0, 12, 43, 21, 4, 45]
abbrev dktX1_labelled_3 : List UInt8 := dkwX1_labelled_3 ++ dktX1_labelled_4
def dkwX1_labelled_2 : List UInt8 := [158, 0, 32, 43, 21, 4, 4, 100, 185, 0, 108, 2, 0, 192, 0, 80, 180, 0, 189, 45, 180, 0, 189]
abbrev dktX1_labelled_2 : List UInt8 := dkwX1_labelled_2 ++ dktX1_labelled_3
def dkwX1_labelled_1 : List UInt8 := [153, 0, 74, 44, 185, 0, 76, 1, 0, 192, 0, 80, 78, 43, 185, 0, 104, 1, 0, 54, 4, 21, 4]
abbrev dktX1_labelled_1 : List UInt8 := dkwX1_labelled_1 ++ dktX1_labelled_2
def dkwX1_labelled_0 : List UInt8 := [187, 0, 7, 89, 183, 0, 9, 76, 42, 180, 0, 10, 185, 0, 64, 1, 0, 77, 44, 185, 0, 70, 1, 0]
abbrev dktX1_labelled_0 : List UInt8 := dkwX1_labelled_0 ++ dktX1_labelled_1
theorem dksX1_labelled_0 : cX1_labelled.data.toList.drop 0 = dktX1_labelled_0 := by decide +kernel
theorem dksX1_labelled_1 : cX1_labelled.data.toList.drop 24 = dktX1_labelled_1 := dk_seg dksX1_labelled_0 24 rfl rfl
theorem dksX1_labelled_2 : cX1_labelled.data.toList.drop 47 = dktX1_labelled_2 := dk_seg dksX1_labelled_1 23 rfl rfl
theorem dksX1_labelled_3 : cX1_labelled.data.toList.drop 70 = dktX1_labelled_3 := dk_seg dksX1_labelled_2 23 rfl rfl
theorem dksX1_labelled_4 : cX1_labelled.data.toList.drop 90 = dktX1_labelled_4 := dk_seg dksX1_labelled_3 20 rfl rfl
theorem dX1_labelled_0 : decode cX1_labelled 0 = .ok (.new 7, 3) := dk_187 0 7 (dk_at dksX1_labelled_0 0 rfl rfl)
theorem dX1_labelled_3 : decode cX1_labelled 3 = .ok (.dup, 1) := dk_89 (dk_at dksX1_labelled_0 3 rfl rfl)
theorem dX1_labelled_4 : decode cX1_labelled 4 = .ok (.invokespecial 9, 3) := dk_183 0 9 (dk_at dksX1_labelled_0 4 rfl rfl)
theorem dX1_labelled_7 : decode cX1_labelled 7 = .ok (.astore_n 1, 1) := dk_76 (dk_at dksX1_labelled_0 7 rfl rfl)
theorem dX1_labelled_8 : decode cX1_labelled 8 = .ok (.aload_n 0, 1) := dk_42 (dk_at dksX1_labelled_0 8 rfl rfl)
theorem dX1_labelled_9 : decode cX1_labelled 9 = .ok (.getfield 10, 3) := dk_180 0 10 (dk_at dksX1_labelled_0 9 rfl rfl)
theorem dX1_labelled_12 : decode cX1_labelled 12 = .ok (.invokeinterface 64 1, 5) := by decide +kernel
theorem dX1_labelled_17 : decode cX1_labelled 17 = .ok (.astore_n 2, 1) := dk_77 (dk_at dksX1_labelled_0 17 rfl rfl)
theorem dX1_labelled_18 : decode cX1_labelled 18 = .ok (.aload_n 2, 1) := dk_44 (dk_at dksX1_labelled_0 18 rfl rfl)
theorem dX1_labelled_19 : decode cX1_labelled 19 = .ok (.invokeinterface 70 1, 5) := by decide +kernel
theorem dX1_labelled_24 : decode cX1_labelled 24 = .ok (.ifCond .eq 74, 3) := dk_153 0 74 (dk_at dksX1_labelled_1 0 rfl rfl)
theorem dX1_labelled_27 : decode cX1_labelled 27 = .ok (.aload_n 2, 1) := dk_44 (dk_at dksX1_labelled_1 3 rfl rfl)
theorem dX1_labelled_28 : decode cX1_labelled 28 = .ok (.invokeinterface 76 1, 5) := by decide +kernel
theorem dX1_labelled_33 : decode cX1_labelled 33 = .ok (.checkcast 80, 3) := dk_192 0 80 (dk_at dksX1_labelled_1 9 rfl rfl)
theorem dX1_labelled_36 : decode cX1_labelled 36 = .ok (.astore_n 3, 1) := dk_78 (dk_at dksX1_labelled_1 12 rfl rfl)
theorem dX1_labelled_37 : decode cX1_labelled 37 = .ok (.aload_n 1, 1) := dk_43 (dk_at dksX1_labelled_1 13 rfl rfl)
theorem dX1_labelled_38 : decode cX1_labelled 38 = .ok (.invokeinterface 104 1, 5) := by decide +kernel
theorem dX1_labelled_43 : decode cX1_labelled 43 = .ok (.istore 4, 2) := dk_54 4 (dk_at dksX1_labelled_1 19 rfl rfl)
theorem dX1_labelled_45 : decode cX1_labelled 45 = .ok (.iload 4, 2) := dk_21 4 (dk_at dksX1_labelled_1 21 rfl rfl)
theorem dX1_labelled_47 : decode cX1_labelled 47 = .ok (.ifCond .le 32, 3) := dk_158 0 32 (dk_at dksX1_labelled_2 0 rfl rfl)
theorem dX1_labelled_50 : decode cX1_labelled 50 = .ok (.aload_n 1, 1) := dk_43 (dk_at dksX1_labelled_2 3 rfl rfl)
theorem dX1_labelled_51 : decode cX1_labelled 51 = .ok (.iload 4, 2) := dk_21 4 (dk_at dksX1_labelled_2 4 rfl rfl)
theorem dX1_labelled_53 : decode cX1_labelled 53 = .ok (.iconst 1, 1) := dk_4 (dk_at dksX1_labelled_2 6 rfl rfl)
theorem dX1_labelled_54 : decode cX1_labelled 54 = .ok (.isub, 1) := dk_100 (dk_at dksX1_labelled_2 7 rfl rfl)
theorem dX1_labelled_55 : decode cX1_labelled 55 = .ok (.invokeinterface 108 2, 5) := by decide +kernel
theorem dX1_labelled_60 : decode cX1_labelled 60 = .ok (.checkcast 80, 3) := dk_192 0 80 (dk_at dksX1_labelled_2 13 rfl rfl)
theorem dX1_labelled_63 : decode cX1_labelled 63 = .ok (.getfield 189, 3) := dk_180 0 189 (dk_at dksX1_labelled_2 16 rfl rfl)
theorem dX1_labelled_66 : decode cX1_labelled 66 = .ok (.aload_n 3, 1) := dk_45 (dk_at dksX1_labelled_2 19 rfl rfl)
theorem dX1_labelled_67 : decode cX1_labelled 67 = .ok (.getfield 189, 3) := dk_180 0 189 (dk_at dksX1_labelled_2 20 rfl rfl)
theorem dX1_labelled_70 : decode cX1_labelled 70 = .ok (.if_icmp .ge 9, 3) := dk_162 0 9 (dk_at dksX1_labelled_3 0 rfl rfl)
theorem dX1_labelled_73 : decode cX1_labelled 73 = .ok (.iinc 4 (-1), 3) := dk_132 4 255 (dk_at dksX1_labelled_3 3 rfl rfl)
theorem dX1_labelled_76 : decode cX1_labelled 76 = .ok (.goto (-31), 3) := dk_167 255 225 (dk_at dksX1_labelled_3 6 rfl rfl)
theorem dX1_labelled_79 : decode cX1_labelled 79 = .ok (.aload_n 3, 1) := dk_45 (dk_at dksX1_labelled_3 9 rfl rfl)
theorem dX1_labelled_80 : decode cX1_labelled 80 = .ok (.getfield 186, 3) := dk_180 0 186 (dk_at dksX1_labelled_3 10 rfl rfl)
theorem dX1_labelled_83 : decode cX1_labelled 83 = .ok (.ifCond .le 12, 3) := dk_158 0 12 (dk_at dksX1_labelled_3 13 rfl rfl)
theorem dX1_labelled_86 : decode cX1_labelled 86 = .ok (.aload_n 1, 1) := dk_43 (dk_at dksX1_labelled_3 16 rfl rfl)
theorem dX1_labelled_87 : decode cX1_labelled 87 = .ok (.iload 4, 2) := dk_21 4 (dk_at dksX1_labelled_3 17 rfl rfl)
theorem dX1_labelled_89 : decode cX1_labelled 89 = .ok (.aload_n 3, 1) := dk_45 (dk_at dksX1_labelled_3 19 rfl rfl)
theorem dX1_labelled_90 : decode cX1_labelled 90 = .ok (.invokeinterface 314 3, 5) := by decide +kernel
theorem dX1_labelled_95 : decode cX1_labelled 95 = .ok (.goto (-77), 3) := dk_167 255 179 (dk_at dksX1_labelled_4 5 rfl rfl)
theorem dX1_labelled_98 : decode cX1_labelled 98 = .ok (.aload_n 1, 1) := dk_43 (dk_at dksX1_labelled_4 8 rfl rfl)
theorem dX1_labelled_99 : decode cX1_labelled 99 = .ok (.areturn, 1) := dk_176 (dk_at dksX1_labelled_4 9 rfl rfl)
abbrev cX1_placed : ByteArray := prog_1_method_58_code
def yX1_placed : MethodName := ⟨RX1, "placed", "(LTileServer$Shape;ILjava/util/List;)LTileServer$Label;"⟩
def dkwX1_placed_4 : List UInt8 := [89, 43, 25, 9, 25, 10, 183, 1, 78, 176, 132, 8, 1, 167, 255, 178, 1, 176]
abbrev dktX1_placed_4 : List UInt8 := dkwX1_placed_4 ++ []
def dkwX1_placed_3 : List UInt8 := [180, 0, 186, 104, 21, 4, 182, 1, 70, 58, 10, 42, 25, 10, 45, 182, 1, 74, 153, 0, 16, 187, 1, 64]
abbrev dktX1_placed_3 : List UInt8 := dkwX1_placed_3 ++ dktX1_placed_4
def dkwX1_placed_2 : List UInt8 := [180, 1, 31, 25, 5, 180, 1, 24, 96, 25, 5, 180, 1, 37, 25, 5, 180, 1, 34, 96, 21, 4, 43]
abbrev dktX1_placed_2 : List UInt8 := dkwX1_placed_2 ++ dktX1_placed_3
def dkwX1_placed_1 : List UInt8 := [54, 7, 3, 54, 8, 21, 8, 21, 7, 162, 0, 77, 25, 6, 21, 8, 50, 58, 9, 25, 9, 25, 5]
abbrev dktX1_placed_1 : List UInt8 := dkwX1_placed_1 ++ dktX1_placed_2
def dkwX1_placed_0 : List UInt8 := [5, 28, 184, 1, 51, 104, 54, 4, 43, 182, 0, 131, 58, 5, 42, 180, 0, 29, 58, 6, 25, 6, 190]
abbrev dktX1_placed_0 : List UInt8 := dkwX1_placed_0 ++ dktX1_placed_1
theorem dksX1_placed_0 : cX1_placed.data.toList.drop 0 = dktX1_placed_0 := by decide +kernel
theorem dksX1_placed_1 : cX1_placed.data.toList.drop 23 = dktX1_placed_1 := dk_seg dksX1_placed_0 23 rfl rfl
theorem dksX1_placed_2 : cX1_placed.data.toList.drop 46 = dktX1_placed_2 := dk_seg dksX1_placed_1 23 rfl rfl
theorem dksX1_placed_3 : cX1_placed.data.toList.drop 69 = dktX1_placed_3 := dk_seg dksX1_placed_2 23 rfl rfl
theorem dksX1_placed_4 : cX1_placed.data.toList.drop 93 = dktX1_placed_4 := dk_seg dksX1_placed_3 24 rfl rfl
theorem dX1_placed_0 : decode cX1_placed 0 = .ok (.iconst 2, 1) := dk_5 (dk_at dksX1_placed_0 0 rfl rfl)
theorem dX1_placed_1 : decode cX1_placed 1 = .ok (.iload_n 2, 1) := dk_28 (dk_at dksX1_placed_0 1 rfl rfl)
theorem dX1_placed_2 : decode cX1_placed 2 = .ok (.invokestatic 307, 3) := dk_184 1 51 (dk_at dksX1_placed_0 2 rfl rfl)
theorem dX1_placed_5 : decode cX1_placed 5 = .ok (.imul, 1) := dk_104 (dk_at dksX1_placed_0 5 rfl rfl)
theorem dX1_placed_6 : decode cX1_placed 6 = .ok (.istore 4, 2) := dk_54 4 (dk_at dksX1_placed_0 6 rfl rfl)
theorem dX1_placed_8 : decode cX1_placed 8 = .ok (.aload_n 1, 1) := dk_43 (dk_at dksX1_placed_0 8 rfl rfl)
theorem dX1_placed_9 : decode cX1_placed 9 = .ok (.invokevirtual 131, 3) := dk_182 0 131 (dk_at dksX1_placed_0 9 rfl rfl)
theorem dX1_placed_12 : decode cX1_placed 12 = .ok (.astore 5, 2) := dk_58 5 (dk_at dksX1_placed_0 12 rfl rfl)
theorem dX1_placed_14 : decode cX1_placed 14 = .ok (.aload_n 0, 1) := dk_42 (dk_at dksX1_placed_0 14 rfl rfl)
theorem dX1_placed_15 : decode cX1_placed 15 = .ok (.getfield 29, 3) := dk_180 0 29 (dk_at dksX1_placed_0 15 rfl rfl)
theorem dX1_placed_18 : decode cX1_placed 18 = .ok (.astore 6, 2) := dk_58 6 (dk_at dksX1_placed_0 18 rfl rfl)
theorem dX1_placed_20 : decode cX1_placed 20 = .ok (.aload 6, 2) := dk_25 6 (dk_at dksX1_placed_0 20 rfl rfl)
theorem dX1_placed_22 : decode cX1_placed 22 = .ok (.arraylength, 1) := dk_190 (dk_at dksX1_placed_0 22 rfl rfl)
theorem dX1_placed_23 : decode cX1_placed 23 = .ok (.istore 7, 2) := dk_54 7 (dk_at dksX1_placed_1 0 rfl rfl)
theorem dX1_placed_25 : decode cX1_placed 25 = .ok (.iconst 0, 1) := dk_3 (dk_at dksX1_placed_1 2 rfl rfl)
theorem dX1_placed_26 : decode cX1_placed 26 = .ok (.istore 8, 2) := dk_54 8 (dk_at dksX1_placed_1 3 rfl rfl)
theorem dX1_placed_28 : decode cX1_placed 28 = .ok (.iload 8, 2) := dk_21 8 (dk_at dksX1_placed_1 5 rfl rfl)
theorem dX1_placed_30 : decode cX1_placed 30 = .ok (.iload 7, 2) := dk_21 7 (dk_at dksX1_placed_1 7 rfl rfl)
theorem dX1_placed_32 : decode cX1_placed 32 = .ok (.if_icmp .ge 77, 3) := dk_162 0 77 (dk_at dksX1_placed_1 9 rfl rfl)
theorem dX1_placed_35 : decode cX1_placed 35 = .ok (.aload 6, 2) := dk_25 6 (dk_at dksX1_placed_1 12 rfl rfl)
theorem dX1_placed_37 : decode cX1_placed 37 = .ok (.iload 8, 2) := dk_21 8 (dk_at dksX1_placed_1 14 rfl rfl)
theorem dX1_placed_39 : decode cX1_placed 39 = .ok (.aaload, 1) := dk_50 (dk_at dksX1_placed_1 16 rfl rfl)
theorem dX1_placed_40 : decode cX1_placed 40 = .ok (.astore 9, 2) := dk_58 9 (dk_at dksX1_placed_1 17 rfl rfl)
theorem dX1_placed_42 : decode cX1_placed 42 = .ok (.aload 9, 2) := dk_25 9 (dk_at dksX1_placed_1 19 rfl rfl)
theorem dX1_placed_44 : decode cX1_placed 44 = .ok (.aload 5, 2) := dk_25 5 (dk_at dksX1_placed_1 21 rfl rfl)
theorem dX1_placed_46 : decode cX1_placed 46 = .ok (.getfield 287, 3) := dk_180 1 31 (dk_at dksX1_placed_2 0 rfl rfl)
theorem dX1_placed_49 : decode cX1_placed 49 = .ok (.aload 5, 2) := dk_25 5 (dk_at dksX1_placed_2 3 rfl rfl)
theorem dX1_placed_51 : decode cX1_placed 51 = .ok (.getfield 280, 3) := dk_180 1 24 (dk_at dksX1_placed_2 5 rfl rfl)
theorem dX1_placed_54 : decode cX1_placed 54 = .ok (.iadd, 1) := dk_96 (dk_at dksX1_placed_2 8 rfl rfl)
theorem dX1_placed_55 : decode cX1_placed 55 = .ok (.aload 5, 2) := dk_25 5 (dk_at dksX1_placed_2 9 rfl rfl)
theorem dX1_placed_57 : decode cX1_placed 57 = .ok (.getfield 293, 3) := dk_180 1 37 (dk_at dksX1_placed_2 11 rfl rfl)
theorem dX1_placed_60 : decode cX1_placed 60 = .ok (.aload 5, 2) := dk_25 5 (dk_at dksX1_placed_2 14 rfl rfl)
theorem dX1_placed_62 : decode cX1_placed 62 = .ok (.getfield 290, 3) := dk_180 1 34 (dk_at dksX1_placed_2 16 rfl rfl)
theorem dX1_placed_65 : decode cX1_placed 65 = .ok (.iadd, 1) := dk_96 (dk_at dksX1_placed_2 19 rfl rfl)
theorem dX1_placed_66 : decode cX1_placed 66 = .ok (.iload 4, 2) := dk_21 4 (dk_at dksX1_placed_2 20 rfl rfl)
theorem dX1_placed_68 : decode cX1_placed 68 = .ok (.aload_n 1, 1) := dk_43 (dk_at dksX1_placed_2 22 rfl rfl)
theorem dX1_placed_69 : decode cX1_placed 69 = .ok (.getfield 186, 3) := dk_180 0 186 (dk_at dksX1_placed_3 0 rfl rfl)
theorem dX1_placed_72 : decode cX1_placed 72 = .ok (.imul, 1) := dk_104 (dk_at dksX1_placed_3 3 rfl rfl)
theorem dX1_placed_73 : decode cX1_placed 73 = .ok (.iload 4, 2) := dk_21 4 (dk_at dksX1_placed_3 4 rfl rfl)
theorem dX1_placed_75 : decode cX1_placed 75 = .ok (.invokevirtual 326, 3) := dk_182 1 70 (dk_at dksX1_placed_3 6 rfl rfl)
theorem dX1_placed_78 : decode cX1_placed 78 = .ok (.astore 10, 2) := dk_58 10 (dk_at dksX1_placed_3 9 rfl rfl)
theorem dX1_placed_80 : decode cX1_placed 80 = .ok (.aload_n 0, 1) := dk_42 (dk_at dksX1_placed_3 11 rfl rfl)
theorem dX1_placed_81 : decode cX1_placed 81 = .ok (.aload 10, 2) := dk_25 10 (dk_at dksX1_placed_3 12 rfl rfl)
theorem dX1_placed_83 : decode cX1_placed 83 = .ok (.aload_n 3, 1) := dk_45 (dk_at dksX1_placed_3 14 rfl rfl)
theorem dX1_placed_84 : decode cX1_placed 84 = .ok (.invokevirtual 330, 3) := dk_182 1 74 (dk_at dksX1_placed_3 15 rfl rfl)
theorem dX1_placed_87 : decode cX1_placed 87 = .ok (.ifCond .eq 16, 3) := dk_153 0 16 (dk_at dksX1_placed_3 18 rfl rfl)
theorem dX1_placed_90 : decode cX1_placed 90 = .ok (.new 320, 3) := dk_187 1 64 (dk_at dksX1_placed_3 21 rfl rfl)
theorem dX1_placed_93 : decode cX1_placed 93 = .ok (.dup, 1) := dk_89 (dk_at dksX1_placed_4 0 rfl rfl)
theorem dX1_placed_94 : decode cX1_placed 94 = .ok (.aload_n 1, 1) := dk_43 (dk_at dksX1_placed_4 1 rfl rfl)
theorem dX1_placed_95 : decode cX1_placed 95 = .ok (.aload 9, 2) := dk_25 9 (dk_at dksX1_placed_4 2 rfl rfl)
theorem dX1_placed_97 : decode cX1_placed 97 = .ok (.aload 10, 2) := dk_25 10 (dk_at dksX1_placed_4 4 rfl rfl)
theorem dX1_placed_99 : decode cX1_placed 99 = .ok (.invokespecial 334, 3) := dk_183 1 78 (dk_at dksX1_placed_4 6 rfl rfl)
theorem dX1_placed_102 : decode cX1_placed 102 = .ok (.areturn, 1) := dk_176 (dk_at dksX1_placed_4 9 rfl rfl)
theorem dX1_placed_103 : decode cX1_placed 103 = .ok (.iinc 8 1, 3) := dk_132 8 1 (dk_at dksX1_placed_4 10 rfl rfl)
theorem dX1_placed_106 : decode cX1_placed 106 = .ok (.goto (-78), 3) := dk_167 255 178 (dk_at dksX1_placed_4 13 rfl rfl)
theorem dX1_placed_109 : decode cX1_placed 109 = .ok (.aconst_null, 1) := dk_1 (dk_at dksX1_placed_4 16 rfl rfl)
theorem dX1_placed_110 : decode cX1_placed 110 = .ok (.areturn, 1) := dk_176 (dk_at dksX1_placed_4 17 rfl rfl)
abbrev cX1_isFree : ByteArray := prog_1_method_57_code
def yX1_isFree : MethodName := ⟨RX1, "isFree", "(LTileServer$Box;Ljava/util/List;)Z"⟩
def dkwX1_isFree_2 : List UInt8 := [182, 1, 67, 154, 0, 7, 4, 167, 0, 4, 3, 126, 62, 167, 255, 214, 29, 172]
abbrev dktX1_isFree_2 : List UInt8 := dkwX1_isFree_2 ++ []
def dkwX1_isFree_1 : List UInt8 := [153, 0, 38, 25, 4, 185, 0, 76, 1, 0, 192, 1, 64, 58, 5, 29, 43, 25, 5, 180, 1, 66]
abbrev dktX1_isFree_1 : List UInt8 := dkwX1_isFree_1 ++ dktX1_isFree_2
def dkwX1_isFree_0 : List UInt8 := [43, 42, 180, 0, 39, 182, 1, 61, 62, 44, 185, 0, 64, 1, 0, 58, 4, 25, 4, 185, 0, 70, 1, 0]
abbrev dktX1_isFree_0 : List UInt8 := dkwX1_isFree_0 ++ dktX1_isFree_1
theorem dksX1_isFree_0 : cX1_isFree.data.toList.drop 0 = dktX1_isFree_0 := by decide +kernel
theorem dksX1_isFree_1 : cX1_isFree.data.toList.drop 24 = dktX1_isFree_1 := dk_seg dksX1_isFree_0 24 rfl rfl
theorem dksX1_isFree_2 : cX1_isFree.data.toList.drop 46 = dktX1_isFree_2 := dk_seg dksX1_isFree_1 22 rfl rfl
theorem dX1_isFree_0 : decode cX1_isFree 0 = .ok (.aload_n 1, 1) := dk_43 (dk_at dksX1_isFree_0 0 rfl rfl)
theorem dX1_isFree_1 : decode cX1_isFree 1 = .ok (.aload_n 0, 1) := dk_42 (dk_at dksX1_isFree_0 1 rfl rfl)
theorem dX1_isFree_2 : decode cX1_isFree 2 = .ok (.getfield 39, 3) := dk_180 0 39 (dk_at dksX1_isFree_0 2 rfl rfl)
theorem dX1_isFree_5 : decode cX1_isFree 5 = .ok (.invokevirtual 317, 3) := dk_182 1 61 (dk_at dksX1_isFree_0 5 rfl rfl)
theorem dX1_isFree_8 : decode cX1_isFree 8 = .ok (.istore_n 3, 1) := dk_62 (dk_at dksX1_isFree_0 8 rfl rfl)
theorem dX1_isFree_9 : decode cX1_isFree 9 = .ok (.aload_n 2, 1) := dk_44 (dk_at dksX1_isFree_0 9 rfl rfl)
theorem dX1_isFree_10 : decode cX1_isFree 10 = .ok (.invokeinterface 64 1, 5) := by decide +kernel
theorem dX1_isFree_15 : decode cX1_isFree 15 = .ok (.astore 4, 2) := dk_58 4 (dk_at dksX1_isFree_0 15 rfl rfl)
theorem dX1_isFree_17 : decode cX1_isFree 17 = .ok (.aload 4, 2) := dk_25 4 (dk_at dksX1_isFree_0 17 rfl rfl)
theorem dX1_isFree_19 : decode cX1_isFree 19 = .ok (.invokeinterface 70 1, 5) := by decide +kernel
theorem dX1_isFree_24 : decode cX1_isFree 24 = .ok (.ifCond .eq 38, 3) := dk_153 0 38 (dk_at dksX1_isFree_1 0 rfl rfl)
theorem dX1_isFree_27 : decode cX1_isFree 27 = .ok (.aload 4, 2) := dk_25 4 (dk_at dksX1_isFree_1 3 rfl rfl)
theorem dX1_isFree_29 : decode cX1_isFree 29 = .ok (.invokeinterface 76 1, 5) := by decide +kernel
theorem dX1_isFree_34 : decode cX1_isFree 34 = .ok (.checkcast 320, 3) := dk_192 1 64 (dk_at dksX1_isFree_1 10 rfl rfl)
theorem dX1_isFree_37 : decode cX1_isFree 37 = .ok (.astore 5, 2) := dk_58 5 (dk_at dksX1_isFree_1 13 rfl rfl)
theorem dX1_isFree_39 : decode cX1_isFree 39 = .ok (.iload_n 3, 1) := dk_29 (dk_at dksX1_isFree_1 15 rfl rfl)
theorem dX1_isFree_40 : decode cX1_isFree 40 = .ok (.aload_n 1, 1) := dk_43 (dk_at dksX1_isFree_1 16 rfl rfl)
theorem dX1_isFree_41 : decode cX1_isFree 41 = .ok (.aload 5, 2) := dk_25 5 (dk_at dksX1_isFree_1 17 rfl rfl)
theorem dX1_isFree_43 : decode cX1_isFree 43 = .ok (.getfield 322, 3) := dk_180 1 66 (dk_at dksX1_isFree_1 19 rfl rfl)
theorem dX1_isFree_46 : decode cX1_isFree 46 = .ok (.invokevirtual 323, 3) := dk_182 1 67 (dk_at dksX1_isFree_2 0 rfl rfl)
theorem dX1_isFree_49 : decode cX1_isFree 49 = .ok (.ifCond .ne 7, 3) := dk_154 0 7 (dk_at dksX1_isFree_2 3 rfl rfl)
theorem dX1_isFree_52 : decode cX1_isFree 52 = .ok (.iconst 1, 1) := dk_4 (dk_at dksX1_isFree_2 6 rfl rfl)
theorem dX1_isFree_53 : decode cX1_isFree 53 = .ok (.goto 4, 3) := dk_167 0 4 (dk_at dksX1_isFree_2 7 rfl rfl)
theorem dX1_isFree_56 : decode cX1_isFree 56 = .ok (.iconst 0, 1) := dk_3 (dk_at dksX1_isFree_2 10 rfl rfl)
theorem dX1_isFree_57 : decode cX1_isFree 57 = .ok (.iand, 1) := dk_126 (dk_at dksX1_isFree_2 11 rfl rfl)
theorem dX1_isFree_58 : decode cX1_isFree 58 = .ok (.istore_n 3, 1) := dk_62 (dk_at dksX1_isFree_2 12 rfl rfl)
theorem dX1_isFree_59 : decode cX1_isFree 59 = .ok (.goto (-42), 3) := dk_167 255 214 (dk_at dksX1_isFree_2 13 rfl rfl)
theorem dX1_isFree_62 : decode cX1_isFree 62 = .ok (.iload_n 3, 1) := dk_29 (dk_at dksX1_isFree_2 16 rfl rfl)
theorem dX1_isFree_63 : decode cX1_isFree 63 = .ok (.ireturn, 1) := dk_172 (dk_at dksX1_isFree_2 17 rfl rfl)
abbrev cX1_labelLeft : ByteArray := prog_1_method_62_code
def yX1_labelLeft : MethodName := ⟨RX1, "labelLeft", "(II)I"⟩
def dkwX1_labelLeft_0 : List UInt8 := [42, 27, 28, 182, 1, 96, 78, 45, 199, 0, 7, 2, 167, 0, 10, 45, 180, 1, 66, 180, 1, 31, 172]
abbrev dktX1_labelLeft_0 : List UInt8 := dkwX1_labelLeft_0 ++ []
theorem dksX1_labelLeft_0 : cX1_labelLeft.data.toList.drop 0 = dktX1_labelLeft_0 := by decide +kernel
theorem dX1_labelLeft_0 : decode cX1_labelLeft 0 = .ok (.aload_n 0, 1) := dk_42 (dk_at dksX1_labelLeft_0 0 rfl rfl)
theorem dX1_labelLeft_1 : decode cX1_labelLeft 1 = .ok (.iload_n 1, 1) := dk_27 (dk_at dksX1_labelLeft_0 1 rfl rfl)
theorem dX1_labelLeft_2 : decode cX1_labelLeft 2 = .ok (.iload_n 2, 1) := dk_28 (dk_at dksX1_labelLeft_0 2 rfl rfl)
theorem dX1_labelLeft_3 : decode cX1_labelLeft 3 = .ok (.invokevirtual 352, 3) := dk_182 1 96 (dk_at dksX1_labelLeft_0 3 rfl rfl)
theorem dX1_labelLeft_6 : decode cX1_labelLeft 6 = .ok (.astore_n 3, 1) := dk_78 (dk_at dksX1_labelLeft_0 6 rfl rfl)
theorem dX1_labelLeft_7 : decode cX1_labelLeft 7 = .ok (.aload_n 3, 1) := dk_45 (dk_at dksX1_labelLeft_0 7 rfl rfl)
theorem dX1_labelLeft_8 : decode cX1_labelLeft 8 = .ok (.ifnonnull 7, 3) := dk_199 0 7 (dk_at dksX1_labelLeft_0 8 rfl rfl)
theorem dX1_labelLeft_11 : decode cX1_labelLeft 11 = .ok (.iconst (-1), 1) := dk_2 (dk_at dksX1_labelLeft_0 11 rfl rfl)
theorem dX1_labelLeft_12 : decode cX1_labelLeft 12 = .ok (.goto 10, 3) := dk_167 0 10 (dk_at dksX1_labelLeft_0 12 rfl rfl)
theorem dX1_labelLeft_15 : decode cX1_labelLeft 15 = .ok (.aload_n 3, 1) := dk_45 (dk_at dksX1_labelLeft_0 15 rfl rfl)
theorem dX1_labelLeft_16 : decode cX1_labelLeft 16 = .ok (.getfield 322, 3) := dk_180 1 66 (dk_at dksX1_labelLeft_0 16 rfl rfl)
theorem dX1_labelLeft_19 : decode cX1_labelLeft 19 = .ok (.getfield 287, 3) := dk_180 1 31 (dk_at dksX1_labelLeft_0 19 rfl rfl)
theorem dX1_labelLeft_22 : decode cX1_labelLeft 22 = .ok (.ireturn, 1) := dk_172 (dk_at dksX1_labelLeft_0 22 rfl rfl)
abbrev cX1_labelLow : ByteArray := prog_1_method_63_code
def yX1_labelLow : MethodName := ⟨RX1, "labelLow", "(II)I"⟩
def dkwX1_labelLow_0 : List UInt8 := [42, 27, 28, 182, 1, 96, 78, 45, 199, 0, 7, 2, 167, 0, 10, 45, 180, 1, 66, 180, 1, 37, 172]
abbrev dktX1_labelLow_0 : List UInt8 := dkwX1_labelLow_0 ++ []
theorem dksX1_labelLow_0 : cX1_labelLow.data.toList.drop 0 = dktX1_labelLow_0 := by decide +kernel
theorem dX1_labelLow_0 : decode cX1_labelLow 0 = .ok (.aload_n 0, 1) := dk_42 (dk_at dksX1_labelLow_0 0 rfl rfl)
theorem dX1_labelLow_1 : decode cX1_labelLow 1 = .ok (.iload_n 1, 1) := dk_27 (dk_at dksX1_labelLow_0 1 rfl rfl)
theorem dX1_labelLow_2 : decode cX1_labelLow 2 = .ok (.iload_n 2, 1) := dk_28 (dk_at dksX1_labelLow_0 2 rfl rfl)
theorem dX1_labelLow_3 : decode cX1_labelLow 3 = .ok (.invokevirtual 352, 3) := dk_182 1 96 (dk_at dksX1_labelLow_0 3 rfl rfl)
theorem dX1_labelLow_6 : decode cX1_labelLow 6 = .ok (.astore_n 3, 1) := dk_78 (dk_at dksX1_labelLow_0 6 rfl rfl)
theorem dX1_labelLow_7 : decode cX1_labelLow 7 = .ok (.aload_n 3, 1) := dk_45 (dk_at dksX1_labelLow_0 7 rfl rfl)
theorem dX1_labelLow_8 : decode cX1_labelLow 8 = .ok (.ifnonnull 7, 3) := dk_199 0 7 (dk_at dksX1_labelLow_0 8 rfl rfl)
theorem dX1_labelLow_11 : decode cX1_labelLow 11 = .ok (.iconst (-1), 1) := dk_2 (dk_at dksX1_labelLow_0 11 rfl rfl)
theorem dX1_labelLow_12 : decode cX1_labelLow 12 = .ok (.goto 10, 3) := dk_167 0 10 (dk_at dksX1_labelLow_0 12 rfl rfl)
theorem dX1_labelLow_15 : decode cX1_labelLow 15 = .ok (.aload_n 3, 1) := dk_45 (dk_at dksX1_labelLow_0 15 rfl rfl)
theorem dX1_labelLow_16 : decode cX1_labelLow 16 = .ok (.getfield 322, 3) := dk_180 1 66 (dk_at dksX1_labelLow_0 16 rfl rfl)
theorem dX1_labelLow_19 : decode cX1_labelLow 19 = .ok (.getfield 293, 3) := dk_180 1 37 (dk_at dksX1_labelLow_0 19 rfl rfl)
theorem dX1_labelLow_22 : decode cX1_labelLow 22 = .ok (.ireturn, 1) := dk_172 (dk_at dksX1_labelLow_0 22 rfl rfl)
abbrev cX1_shownLabels : ByteArray := prog_1_method_64_code
def yX1_shownLabels : MethodName := ⟨RX1, "shownLabels", "(I)I"⟩
def dkwX1_shownLabels_0 : List UInt8 := [27, 184, 0, 60, 42, 27, 182, 1, 88, 185, 0, 104, 1, 0, 172]
abbrev dktX1_shownLabels_0 : List UInt8 := dkwX1_shownLabels_0 ++ []
theorem dksX1_shownLabels_0 : cX1_shownLabels.data.toList.drop 0 = dktX1_shownLabels_0 := by decide +kernel
theorem dX1_shownLabels_0 : decode cX1_shownLabels 0 = .ok (.iload_n 1, 1) := dk_27 (dk_at dksX1_shownLabels_0 0 rfl rfl)
theorem dX1_shownLabels_1 : decode cX1_shownLabels 1 = .ok (.invokestatic 60, 3) := dk_184 0 60 (dk_at dksX1_shownLabels_0 1 rfl rfl)
theorem dX1_shownLabels_4 : decode cX1_shownLabels 4 = .ok (.aload_n 0, 1) := dk_42 (dk_at dksX1_shownLabels_0 4 rfl rfl)
theorem dX1_shownLabels_5 : decode cX1_shownLabels 5 = .ok (.iload_n 1, 1) := dk_27 (dk_at dksX1_shownLabels_0 5 rfl rfl)
theorem dX1_shownLabels_6 : decode cX1_shownLabels 6 = .ok (.invokevirtual 344, 3) := dk_182 1 88 (dk_at dksX1_shownLabels_0 6 rfl rfl)
theorem dX1_shownLabels_9 : decode cX1_shownLabels 9 = .ok (.invokeinterface 104 1, 5) := by decide +kernel
theorem dX1_shownLabels_14 : decode cX1_shownLabels 14 = .ok (.ireturn, 1) := dk_172 (dk_at dksX1_shownLabels_0 14 rfl rfl)
abbrev cX1_meanKept : ByteArray := prog_1_method_66_code
def yX1_meanKept : MethodName := ⟨RX1, "meanKept", "(I)D"⟩
def dkwX1_meanKept_3 : List UInt8 := [132, 3, 1, 167, 255, 206, 29, 154, 0, 11, 187, 1, 13, 89, 183, 1, 15, 191, 28, 135, 29, 135, 111, 175]
abbrev dktX1_meanKept_3 : List UInt8 := dkwX1_meanKept_3 ++ []
def dkwX1_meanKept_2 : List UInt8 := [193, 0, 93, 153, 0, 23, 25, 5, 192, 0, 93, 58, 6, 28, 42, 25, 6, 27, 182, 0, 221, 96, 61]
abbrev dktX1_meanKept_2 : List UInt8 := dkwX1_meanKept_2 ++ dktX1_meanKept_3
def dkwX1_meanKept_1 : List UInt8 := [185, 0, 70, 1, 0, 153, 0, 46, 25, 4, 185, 0, 76, 1, 0, 192, 0, 80, 58, 5, 25, 5]
abbrev dktX1_meanKept_1 : List UInt8 := dkwX1_meanKept_1 ++ dktX1_meanKept_2
def dkwX1_meanKept_0 : List UInt8 := [27, 184, 0, 60, 3, 61, 3, 62, 42, 180, 0, 10, 185, 0, 64, 1, 0, 58, 4, 25, 4]
abbrev dktX1_meanKept_0 : List UInt8 := dkwX1_meanKept_0 ++ dktX1_meanKept_1
theorem dksX1_meanKept_0 : cX1_meanKept.data.toList.drop 0 = dktX1_meanKept_0 := by decide +kernel
theorem dksX1_meanKept_1 : cX1_meanKept.data.toList.drop 21 = dktX1_meanKept_1 := dk_seg dksX1_meanKept_0 21 rfl rfl
theorem dksX1_meanKept_2 : cX1_meanKept.data.toList.drop 43 = dktX1_meanKept_2 := dk_seg dksX1_meanKept_1 22 rfl rfl
theorem dksX1_meanKept_3 : cX1_meanKept.data.toList.drop 66 = dktX1_meanKept_3 := dk_seg dksX1_meanKept_2 23 rfl rfl
theorem dX1_meanKept_0 : decode cX1_meanKept 0 = .ok (.iload_n 1, 1) := dk_27 (dk_at dksX1_meanKept_0 0 rfl rfl)
theorem dX1_meanKept_1 : decode cX1_meanKept 1 = .ok (.invokestatic 60, 3) := dk_184 0 60 (dk_at dksX1_meanKept_0 1 rfl rfl)
theorem dX1_meanKept_4 : decode cX1_meanKept 4 = .ok (.iconst 0, 1) := dk_3 (dk_at dksX1_meanKept_0 4 rfl rfl)
theorem dX1_meanKept_5 : decode cX1_meanKept 5 = .ok (.istore_n 2, 1) := dk_61 (dk_at dksX1_meanKept_0 5 rfl rfl)
theorem dX1_meanKept_6 : decode cX1_meanKept 6 = .ok (.iconst 0, 1) := dk_3 (dk_at dksX1_meanKept_0 6 rfl rfl)
theorem dX1_meanKept_7 : decode cX1_meanKept 7 = .ok (.istore_n 3, 1) := dk_62 (dk_at dksX1_meanKept_0 7 rfl rfl)
theorem dX1_meanKept_8 : decode cX1_meanKept 8 = .ok (.aload_n 0, 1) := dk_42 (dk_at dksX1_meanKept_0 8 rfl rfl)
theorem dX1_meanKept_9 : decode cX1_meanKept 9 = .ok (.getfield 10, 3) := dk_180 0 10 (dk_at dksX1_meanKept_0 9 rfl rfl)
theorem dX1_meanKept_12 : decode cX1_meanKept 12 = .ok (.invokeinterface 64 1, 5) := by decide +kernel
theorem dX1_meanKept_17 : decode cX1_meanKept 17 = .ok (.astore 4, 2) := dk_58 4 (dk_at dksX1_meanKept_0 17 rfl rfl)
theorem dX1_meanKept_19 : decode cX1_meanKept 19 = .ok (.aload 4, 2) := dk_25 4 (dk_at dksX1_meanKept_0 19 rfl rfl)
theorem dX1_meanKept_21 : decode cX1_meanKept 21 = .ok (.invokeinterface 70 1, 5) := by decide +kernel
theorem dX1_meanKept_26 : decode cX1_meanKept 26 = .ok (.ifCond .eq 46, 3) := dk_153 0 46 (dk_at dksX1_meanKept_1 5 rfl rfl)
theorem dX1_meanKept_29 : decode cX1_meanKept 29 = .ok (.aload 4, 2) := dk_25 4 (dk_at dksX1_meanKept_1 8 rfl rfl)
theorem dX1_meanKept_31 : decode cX1_meanKept 31 = .ok (.invokeinterface 76 1, 5) := by decide +kernel
theorem dX1_meanKept_36 : decode cX1_meanKept 36 = .ok (.checkcast 80, 3) := dk_192 0 80 (dk_at dksX1_meanKept_1 15 rfl rfl)
theorem dX1_meanKept_39 : decode cX1_meanKept 39 = .ok (.astore 5, 2) := dk_58 5 (dk_at dksX1_meanKept_1 18 rfl rfl)
theorem dX1_meanKept_41 : decode cX1_meanKept 41 = .ok (.aload 5, 2) := dk_25 5 (dk_at dksX1_meanKept_1 20 rfl rfl)
theorem dX1_meanKept_43 : decode cX1_meanKept 43 = .ok (.instanceof 93, 3) := dk_193 0 93 (dk_at dksX1_meanKept_2 0 rfl rfl)
theorem dX1_meanKept_46 : decode cX1_meanKept 46 = .ok (.ifCond .eq 23, 3) := dk_153 0 23 (dk_at dksX1_meanKept_2 3 rfl rfl)
theorem dX1_meanKept_49 : decode cX1_meanKept 49 = .ok (.aload 5, 2) := dk_25 5 (dk_at dksX1_meanKept_2 6 rfl rfl)
theorem dX1_meanKept_51 : decode cX1_meanKept 51 = .ok (.checkcast 93, 3) := dk_192 0 93 (dk_at dksX1_meanKept_2 8 rfl rfl)
theorem dX1_meanKept_54 : decode cX1_meanKept 54 = .ok (.astore 6, 2) := dk_58 6 (dk_at dksX1_meanKept_2 11 rfl rfl)
theorem dX1_meanKept_56 : decode cX1_meanKept 56 = .ok (.iload_n 2, 1) := dk_28 (dk_at dksX1_meanKept_2 13 rfl rfl)
theorem dX1_meanKept_57 : decode cX1_meanKept 57 = .ok (.aload_n 0, 1) := dk_42 (dk_at dksX1_meanKept_2 14 rfl rfl)
theorem dX1_meanKept_58 : decode cX1_meanKept 58 = .ok (.aload 6, 2) := dk_25 6 (dk_at dksX1_meanKept_2 15 rfl rfl)
theorem dX1_meanKept_60 : decode cX1_meanKept 60 = .ok (.iload_n 1, 1) := dk_27 (dk_at dksX1_meanKept_2 17 rfl rfl)
theorem dX1_meanKept_61 : decode cX1_meanKept 61 = .ok (.invokevirtual 221, 3) := dk_182 0 221 (dk_at dksX1_meanKept_2 18 rfl rfl)
theorem dX1_meanKept_64 : decode cX1_meanKept 64 = .ok (.iadd, 1) := dk_96 (dk_at dksX1_meanKept_2 21 rfl rfl)
theorem dX1_meanKept_65 : decode cX1_meanKept 65 = .ok (.istore_n 2, 1) := dk_61 (dk_at dksX1_meanKept_2 22 rfl rfl)
theorem dX1_meanKept_66 : decode cX1_meanKept 66 = .ok (.iinc 3 1, 3) := dk_132 3 1 (dk_at dksX1_meanKept_3 0 rfl rfl)
theorem dX1_meanKept_69 : decode cX1_meanKept 69 = .ok (.goto (-50), 3) := dk_167 255 206 (dk_at dksX1_meanKept_3 3 rfl rfl)
theorem dX1_meanKept_72 : decode cX1_meanKept 72 = .ok (.iload_n 3, 1) := dk_29 (dk_at dksX1_meanKept_3 6 rfl rfl)
theorem dX1_meanKept_73 : decode cX1_meanKept 73 = .ok (.ifCond .ne 11, 3) := dk_154 0 11 (dk_at dksX1_meanKept_3 7 rfl rfl)
theorem dX1_meanKept_76 : decode cX1_meanKept 76 = .ok (.new 269, 3) := dk_187 1 13 (dk_at dksX1_meanKept_3 10 rfl rfl)
theorem dX1_meanKept_79 : decode cX1_meanKept 79 = .ok (.dup, 1) := dk_89 (dk_at dksX1_meanKept_3 13 rfl rfl)
theorem dX1_meanKept_80 : decode cX1_meanKept 80 = .ok (.invokespecial 271, 3) := dk_183 1 15 (dk_at dksX1_meanKept_3 14 rfl rfl)
theorem dX1_meanKept_83 : decode cX1_meanKept 83 = .ok (.athrow, 1) := dk_191 (dk_at dksX1_meanKept_3 17 rfl rfl)
theorem dX1_meanKept_84 : decode cX1_meanKept 84 = .ok (.iload_n 2, 1) := dk_28 (dk_at dksX1_meanKept_3 18 rfl rfl)
theorem dX1_meanKept_85 : decode cX1_meanKept 85 = .ok (.i2d, 1) := dk_135 (dk_at dksX1_meanKept_3 19 rfl rfl)
theorem dX1_meanKept_86 : decode cX1_meanKept 86 = .ok (.iload_n 3, 1) := dk_29 (dk_at dksX1_meanKept_3 20 rfl rfl)
theorem dX1_meanKept_87 : decode cX1_meanKept 87 = .ok (.i2d, 1) := dk_135 (dk_at dksX1_meanKept_3 21 rfl rfl)
theorem dX1_meanKept_88 : decode cX1_meanKept 88 = .ok (.ddiv, 1) := dk_111 (dk_at dksX1_meanKept_3 22 rfl rfl)
theorem dX1_meanKept_89 : decode cX1_meanKept 89 = .ok (.dreturn, 1) := dk_175 (dk_at dksX1_meanKept_3 23 rfl rfl)
theorem q62 : (Jvm.Cond.initialized "TileServer") ∈ lw_all := lw_g (lw_at lw_m1 1 rfl) rfl
theorem q104 : (Jvm.Cond.instantiable "TileServer" (10 : Nat)) ∈ lw_all := lw_g (lw_at lw_m1 43 rfl) rfl
theorem q106 : (Jvm.Cond.instanceMethod ({ cls := "TileServer", name := "<init>", desc := "()V" } : Jvm.MethodName)) ∈ lw_all := lw_g (lw_at lw_m1 45 rfl) rfl
theorem q107 : (Jvm.Cond.code ({ cls := "TileServer", name := "<init>", desc := "()V" } : Jvm.MethodName) prog_1_method_1_code (1 : Nat) (Option.none : Option Jvm.ClassFile.FieldType)) ∈ lw_all := lw_g (lw_at lw_m1 46 rfl) rfl
theorem q108 : (Jvm.Cond.methodLink "TileServer" (1 : Nat) ({ cls := "java/lang/Object", name := "<init>", desc := "()V" } : Jvm.MethodName)) ∈ lw_all := lw_g (lw_at lw_m1 47 rfl) rfl
theorem q111 : (Jvm.Cond.classLink "TileServer" (7 : Nat) "java/util/ArrayList") ∈ lw_all := lw_g (lw_at lw_m1 50 rfl) rfl
theorem q113 : (Jvm.Cond.methodLink "TileServer" (9 : Nat) ({ cls := "java/util/ArrayList", name := "<init>", desc := "()V" } : Jvm.MethodName)) ∈ lw_all := lw_g (lw_at lw_m1 52 rfl) rfl
theorem q140 : (Jvm.Cond.methodLink "TileServer" (23 : Nat) ({ cls := "TileServer$Way", name := "values", desc := "()[LTileServer$Way;" } : Jvm.MethodName)) ∈ lw_all := lw_g (lw_at lw_m1 79 rfl) rfl
theorem q153 : (Jvm.Cond.methodLink "TileServer" (33 : Nat) ({ cls := "TileServer$Box", name := "square", desc := "(III)LTileServer$Box;" } : Jvm.MethodName)) ∈ lw_all := lw_g (lw_at lw_m1 92 rfl) rfl
theorem q164 : (Jvm.Cond.fieldLinkNest "TileServer" (287 : Nat) "TileServer$Box" "left" "I" "TileServer") ∈ lw_tbl := lw_at lw_m1 103 rfl
theorem q167 : (Jvm.Cond.fieldLinkNest "TileServer" (293 : Nat) "TileServer$Box" "low" "I" "TileServer") ∈ lw_tbl := lw_at lw_m1 106 rfl
theorem q169 : (Jvm.Cond.fieldLinkNest "TileServer" (280 : Nat) "TileServer$Box" "right" "I" "TileServer") ∈ lw_tbl := lw_at lw_m1 108 rfl
theorem q171 : (Jvm.Cond.fieldLinkNest "TileServer" (290 : Nat) "TileServer$Box" "high" "I" "TileServer") ∈ lw_tbl := lw_at lw_m1 110 rfl
theorem q182 : (Jvm.Cond.fieldLink "TileServer" (10 : Nat) "TileServer" "shapes" "Ljava/util/List;") ∈ lw_all := lw_g (lw_at lw_m1 121 rfl) rfl
theorem q183 : (Jvm.Cond.fieldLink "TileServer" (16 : Nat) "TileServer" "cache" "Ljava/util/List;") ∈ lw_all := lw_g (lw_at lw_m1 122 rfl) rfl
theorem q184 : (Jvm.Cond.fieldLink "TileServer" (19 : Nat) "TileServer" "tolerances" "[I") ∈ lw_all := lw_g (lw_at lw_m1 123 rfl) rfl
theorem q185 : (Jvm.Cond.fieldLink "TileServer" (29 : Nat) "TileServer" "ways" "[LTileServer$Way;") ∈ lw_all := lw_g (lw_at lw_m1 124 rfl) rfl
theorem q186 : (Jvm.Cond.fieldLink "TileServer" (39 : Nat) "TileServer" "map" "LTileServer$Box;") ∈ lw_all := lw_g (lw_at lw_m1 125 rfl) rfl
theorem q187 : (Jvm.Cond.fieldLink "TileServer" (128 : Nat) "TileServer" "lastNumber" "I") ∈ lw_all := lw_g (lw_at lw_m1 126 rfl) rfl
theorem q188 : (Jvm.Cond.fieldLink "TileServer" (195 : Nat) "TileServer" "clock" "I") ∈ lw_all := lw_g (lw_at lw_m1 127 rfl) rfl
theorem q189 : (Jvm.Cond.fieldLink "TileServer" (263 : Nat) "TileServer" "hits" "I") ∈ lw_all := lw_g (lw_at lw_m1 128 rfl) rfl
theorem q190 : (Jvm.Cond.fieldLink "TileServer" (250 : Nat) "TileServer" "misses" "I") ∈ lw_all := lw_g (lw_at lw_m1 129 rfl) rfl
theorem q191 : (Jvm.Cond.fieldLink "TileServer" (256 : Nat) "TileServer" "drawn" "J") ∈ lw_all := lw_g (lw_at lw_m1 130 rfl) rfl
theorem q192 : (Jvm.Cond.laysFinal "TileServer" "TileServer" "shapes" "Ljava/util/List;") ∈ lw_all := lw_g (lw_at lw_m1 131 rfl) rfl
theorem q193 : (Jvm.Cond.soleField "TileServer" "shapes") ∈ lw_all := lw_g (lw_at lw_m1 132 rfl) rfl
theorem q194 : (Jvm.Cond.laysFinal "TileServer" "TileServer" "cache" "Ljava/util/List;") ∈ lw_all := lw_g (lw_at lw_m1 133 rfl) rfl
theorem q195 : (Jvm.Cond.soleField "TileServer" "cache") ∈ lw_all := lw_g (lw_at lw_m1 134 rfl) rfl
theorem q196 : (Jvm.Cond.laysFinal "TileServer" "TileServer" "tolerances" "[I") ∈ lw_all := lw_g (lw_at lw_m1 135 rfl) rfl
theorem q197 : (Jvm.Cond.soleField "TileServer" "tolerances") ∈ lw_all := lw_g (lw_at lw_m1 136 rfl) rfl
theorem q198 : (Jvm.Cond.laysFinal "TileServer" "TileServer" "ways" "[LTileServer$Way;") ∈ lw_all := lw_g (lw_at lw_m1 137 rfl) rfl
theorem q199 : (Jvm.Cond.soleField "TileServer" "ways") ∈ lw_all := lw_g (lw_at lw_m1 138 rfl) rfl
theorem q200 : (Jvm.Cond.laysFinal "TileServer" "TileServer" "map" "LTileServer$Box;") ∈ lw_all := lw_g (lw_at lw_m1 139 rfl) rfl
theorem q201 : (Jvm.Cond.soleField "TileServer" "map") ∈ lw_all := lw_g (lw_at lw_m1 140 rfl) rfl
theorem q202 : (Jvm.Cond.lays "TileServer" "TileServer" "lastNumber" "I") ∈ lw_all := lw_g (lw_at lw_m1 141 rfl) rfl
theorem q203 : (Jvm.Cond.soleField "TileServer" "lastNumber") ∈ lw_all := lw_g (lw_at lw_m1 142 rfl) rfl
theorem q204 : (Jvm.Cond.lays "TileServer" "TileServer" "clock" "I") ∈ lw_all := lw_g (lw_at lw_m1 143 rfl) rfl
theorem q205 : (Jvm.Cond.soleField "TileServer" "clock") ∈ lw_all := lw_g (lw_at lw_m1 144 rfl) rfl
theorem q206 : (Jvm.Cond.lays "TileServer" "TileServer" "hits" "I") ∈ lw_all := lw_g (lw_at lw_m1 145 rfl) rfl
theorem q207 : (Jvm.Cond.soleField "TileServer" "hits") ∈ lw_all := lw_g (lw_at lw_m1 146 rfl) rfl
theorem q208 : (Jvm.Cond.lays "TileServer" "TileServer" "misses" "I") ∈ lw_all := lw_g (lw_at lw_m1 147 rfl) rfl
theorem q209 : (Jvm.Cond.soleField "TileServer" "misses") ∈ lw_all := lw_g (lw_at lw_m1 148 rfl) rfl
theorem q210 : (Jvm.Cond.lays "TileServer" "TileServer" "drawn" "J") ∈ lw_all := lw_g (lw_at lw_m1 149 rfl) rfl
theorem q211 : (Jvm.Cond.soleField "TileServer" "drawn") ∈ lw_all := lw_g (lw_at lw_m1 150 rfl) rfl
theorem q212 : (Jvm.Cond.superclass "TileServer" "java/lang/Object") ∈ lw_all := lw_g (lw_at lw_m1 151 rfl) rfl
theorem q214 : (Jvm.Cond.instanceMethod ({ cls := "TileServer", name := "clock", desc := "()I" } : Jvm.MethodName)) ∈ lw_all := lw_g (lw_at lw_m1 153 rfl) rfl
theorem q215 : (Jvm.Cond.selects "TileServer" ({ cls := "TileServer", name := "clock", desc := "()I" } : Jvm.MethodName) ({ cls := "TileServer", name := "clock", desc := "()I" } : Jvm.MethodName)) ∈ lw_all := lw_g (lw_at lw_m1 154 rfl) rfl
theorem q216 : (Jvm.Cond.code ({ cls := "TileServer", name := "clock", desc := "()I" } : Jvm.MethodName) prog_1_method_29_code (1 : Nat) (Option.some Jvm.ClassFile.FieldType.int)) ∈ lw_all := lw_g (lw_at lw_m1 155 rfl) rfl
theorem q218 : (Jvm.Cond.instanceMethod ({ cls := "TileServer", name := "shapes", desc := "()I" } : Jvm.MethodName)) ∈ lw_all := lw_g (lw_at lw_m1 157 rfl) rfl
theorem q219 : (Jvm.Cond.selects "TileServer" ({ cls := "TileServer", name := "shapes", desc := "()I" } : Jvm.MethodName) ({ cls := "TileServer", name := "shapes", desc := "()I" } : Jvm.MethodName)) ∈ lw_all := lw_g (lw_at lw_m1 158 rfl) rfl
theorem q220 : (Jvm.Cond.code ({ cls := "TileServer", name := "shapes", desc := "()I" } : Jvm.MethodName) prog_1_method_30_code (1 : Nat) (Option.some Jvm.ClassFile.FieldType.int)) ∈ lw_all := lw_g (lw_at lw_m1 159 rfl) rfl
theorem q221 : (Jvm.Cond.interfaceEntry "TileServer" (104 : Nat)) ∈ lw_tbl := lw_at lw_m1 160 rfl
theorem q222 : (Jvm.Cond.methodLink "TileServer" (104 : Nat) ({ cls := "java/util/List", name := "size", desc := "()I" } : Jvm.MethodName)) ∈ lw_all := lw_g (lw_at lw_m1 161 rfl) rfl
theorem q232 : (Jvm.Cond.instanceMethod ({ cls := "TileServer", name := "cached", desc := "()I" } : Jvm.MethodName)) ∈ lw_all := lw_g (lw_at lw_m1 171 rfl) rfl
theorem q233 : (Jvm.Cond.selects "TileServer" ({ cls := "TileServer", name := "cached", desc := "()I" } : Jvm.MethodName) ({ cls := "TileServer", name := "cached", desc := "()I" } : Jvm.MethodName)) ∈ lw_all := lw_g (lw_at lw_m1 172 rfl) rfl
theorem q234 : (Jvm.Cond.code ({ cls := "TileServer", name := "cached", desc := "()I" } : Jvm.MethodName) prog_1_method_46_code (1 : Nat) (Option.some Jvm.ClassFile.FieldType.int)) ∈ lw_all := lw_g (lw_at lw_m1 173 rfl) rfl
theorem q236 : (Jvm.Cond.instanceMethod ({ cls := "TileServer", name := "misses", desc := "()I" } : Jvm.MethodName)) ∈ lw_all := lw_g (lw_at lw_m1 175 rfl) rfl
theorem q237 : (Jvm.Cond.selects "TileServer" ({ cls := "TileServer", name := "misses", desc := "()I" } : Jvm.MethodName) ({ cls := "TileServer", name := "misses", desc := "()I" } : Jvm.MethodName)) ∈ lw_all := lw_g (lw_at lw_m1 176 rfl) rfl
theorem q238 : (Jvm.Cond.code ({ cls := "TileServer", name := "misses", desc := "()I" } : Jvm.MethodName) prog_1_method_47_code (1 : Nat) (Option.some Jvm.ClassFile.FieldType.int)) ∈ lw_all := lw_g (lw_at lw_m1 177 rfl) rfl
theorem q240 : (Jvm.Cond.instanceMethod ({ cls := "TileServer", name := "drawn", desc := "()J" } : Jvm.MethodName)) ∈ lw_all := lw_g (lw_at lw_m1 179 rfl) rfl
theorem q241 : (Jvm.Cond.selects "TileServer" ({ cls := "TileServer", name := "drawn", desc := "()J" } : Jvm.MethodName) ({ cls := "TileServer", name := "drawn", desc := "()J" } : Jvm.MethodName)) ∈ lw_all := lw_g (lw_at lw_m1 180 rfl) rfl
theorem q242 : (Jvm.Cond.code ({ cls := "TileServer", name := "drawn", desc := "()J" } : Jvm.MethodName) prog_1_method_65_code (1 : Nat) (Option.some Jvm.ClassFile.FieldType.long)) ∈ lw_all := lw_g (lw_at lw_m1 181 rfl) rfl
theorem q244 : (Jvm.Cond.instanceMethod ({ cls := "TileServer", name := "isFresh", desc := "()Z" } : Jvm.MethodName)) ∈ lw_all := lw_g (lw_at lw_m1 183 rfl) rfl
theorem q245 : (Jvm.Cond.selects "TileServer" ({ cls := "TileServer", name := "isFresh", desc := "()Z" } : Jvm.MethodName) ({ cls := "TileServer", name := "isFresh", desc := "()Z" } : Jvm.MethodName)) ∈ lw_all := lw_g (lw_at lw_m1 184 rfl) rfl
theorem q246 : (Jvm.Cond.code ({ cls := "TileServer", name := "isFresh", desc := "()Z" } : Jvm.MethodName) prog_1_method_67_code (5 : Nat) (Option.some Jvm.ClassFile.FieldType.boolean)) ∈ lw_all := lw_g (lw_at lw_m1 185 rfl) rfl
theorem q247 : (Jvm.Cond.interfaceEntry "TileServer" (64 : Nat)) ∈ lw_tbl := lw_at lw_m1 186 rfl
theorem q248 : (Jvm.Cond.methodLink "TileServer" (64 : Nat) ({ cls := "java/util/List", name := "iterator", desc := "()Ljava/util/Iterator;" } : Jvm.MethodName)) ∈ lw_all := lw_g (lw_at lw_m1 187 rfl) rfl
theorem q275 : (Jvm.Cond.interfaceEntry "TileServer" (70 : Nat)) ∈ lw_tbl := lw_at lw_m1 214 rfl
theorem q276 : (Jvm.Cond.methodLink "TileServer" (70 : Nat) ({ cls := "java/util/Iterator", name := "hasNext", desc := "()Z" } : Jvm.MethodName)) ∈ lw_all := lw_g (lw_at lw_m1 215 rfl) rfl
theorem q285 : (Jvm.Cond.interfaceEntry "TileServer" (76 : Nat)) ∈ lw_tbl := lw_at lw_m1 224 rfl
theorem q286 : (Jvm.Cond.methodLink "TileServer" (76 : Nat) ({ cls := "java/util/Iterator", name := "next", desc := "()Ljava/lang/Object;" } : Jvm.MethodName)) ∈ lw_all := lw_g (lw_at lw_m1 225 rfl) rfl
theorem q366 : (Jvm.Cond.classLink "TileServer" (112 : Nat) "TileServer$Tile") ∈ lw_all := lw_g (lw_at lw_m2 65 rfl) rfl
theorem q367 : (Jvm.Cond.methodLink "TileServer" (253 : Nat) ({ cls := "TileServer", name := "draw", desc := "(III)LTileServer$Tile;" } : Jvm.MethodName)) ∈ lw_all := lw_g (lw_at lw_m2 66 rfl) rfl
theorem q368 : (Jvm.Cond.privateMethod ({ cls := "TileServer", name := "draw", desc := "(III)LTileServer$Tile;" } : Jvm.MethodName)) ∈ lw_tbl := lw_at lw_m2 67 rfl
theorem q369 : (Jvm.Cond.instanceMethod ({ cls := "TileServer", name := "draw", desc := "(III)LTileServer$Tile;" } : Jvm.MethodName)) ∈ lw_all := lw_g (lw_at lw_m2 68 rfl) rfl
theorem q370 : (Jvm.Cond.code ({ cls := "TileServer", name := "draw", desc := "(III)LTileServer$Tile;" } : Jvm.MethodName) prog_1_method_39_code (7 : Nat) (Option.some (Jvm.ClassFile.FieldType.object "TileServer$Tile"))) ∈ lw_all := lw_g (lw_at lw_m2 69 rfl) rfl
theorem q372 : (Jvm.Cond.methodLink "TileServer" (225 : Nat) ({ cls := "TileServer$Tile", name := "<init>", desc := "(IIII)V" } : Jvm.MethodName)) ∈ lw_all := lw_g (lw_at lw_m2 71 rfl) rfl
theorem q377 : (Jvm.Cond.static ({ cls := "TileServer", name := "boxOfTile", desc := "(III)LTileServer$Box;" } : Jvm.MethodName)) ∈ lw_all := lw_g (lw_at lw_m2 76 rfl) rfl
theorem q378 : (Jvm.Cond.code ({ cls := "TileServer", name := "boxOfTile", desc := "(III)LTileServer$Box;" } : Jvm.MethodName) prog_1_method_14_code (3 : Nat) (Option.some (Jvm.ClassFile.FieldType.object "TileServer$Box"))) ∈ lw_all := lw_g (lw_at lw_m2 77 rfl) rfl
theorem q379 : (Jvm.Cond.methodLink "TileServer" (100 : Nat) ({ cls := "TileServer", name := "sideOfTile", desc := "(I)I" } : Jvm.MethodName)) ∈ lw_all := lw_g (lw_at lw_m2 78 rfl) rfl
theorem q380 : (Jvm.Cond.static ({ cls := "TileServer", name := "sideOfTile", desc := "(I)I" } : Jvm.MethodName)) ∈ lw_all := lw_g (lw_at lw_m2 79 rfl) rfl
theorem q381 : (Jvm.Cond.code ({ cls := "TileServer", name := "sideOfTile", desc := "(I)I" } : Jvm.MethodName) prog_1_method_12_code (1 : Nat) (Option.some Jvm.ClassFile.FieldType.int)) ∈ lw_all := lw_g (lw_at lw_m2 80 rfl) rfl
theorem q383 : (Jvm.Cond.fieldLinkNest "TileServer" (192 : Nat) "TileServer$Tile" "level" "I" "TileServer") ∈ lw_tbl := lw_at lw_m2 82 rfl
theorem q385 : (Jvm.Cond.fieldLinkNest "TileServer" (364 : Nat) "TileServer$Tile" "column" "I" "TileServer") ∈ lw_tbl := lw_at lw_m2 84 rfl
theorem q387 : (Jvm.Cond.fieldLinkNest "TileServer" (367 : Nat) "TileServer$Tile" "row" "I" "TileServer") ∈ lw_tbl := lw_at lw_m2 86 rfl
theorem q389 : (Jvm.Cond.fieldLinkNest "TileServer" (114 : Nat) "TileServer$Tile" "box" "LTileServer$Box;" "TileServer") ∈ lw_tbl := lw_at lw_m2 88 rfl
theorem q391 : (Jvm.Cond.fieldLinkNest "TileServer" (198 : Nat) "TileServer$Tile" "drawnAt" "I" "TileServer") ∈ lw_tbl := lw_at lw_m2 90 rfl
theorem q393 : (Jvm.Cond.fieldLinkNest "TileServer" (370 : Nat) "TileServer$Tile" "cells" "[I" "TileServer") ∈ lw_tbl := lw_at lw_m2 92 rfl
theorem q407 : (Jvm.Cond.classLink "TileServer" (80 : Nat) "TileServer$Shape") ∈ lw_all := lw_g (lw_at lw_m2 106 rfl) rfl
theorem q408 : (Jvm.Cond.methodLink "TileServer" (228 : Nat) ({ cls := "TileServer$Shape", name := "sketch", desc := "(I)LTileServer$Sketch;" } : Jvm.MethodName)) ∈ lw_all := lw_g (lw_at lw_m2 107 rfl) rfl
theorem q502 : (Jvm.Cond.static ({ cls := "TileServer", name := "crossProduct", desc := "([I[III)I" } : Jvm.MethodName)) ∈ lw_all := lw_g (lw_at lw_m2 201 rfl) rfl
theorem q503 : (Jvm.Cond.code ({ cls := "TileServer", name := "crossProduct", desc := "([I[III)I" } : Jvm.MethodName) prog_1_method_15_code (4 : Nat) (Option.some Jvm.ClassFile.FieldType.int)) ∈ lw_all := lw_g (lw_at lw_m2 202 rfl) rfl
theorem q543 : (Jvm.Cond.selects "TileServer" ({ cls := "java/lang/Object", name := "getClass", desc := "()Ljava/lang/Class;" } : Jvm.MethodName) ({ cls := "java/lang/Object", name := "getClass", desc := "()Ljava/lang/Class;" } : Jvm.MethodName)) ∈ lw_all := lw_g (lw_at lw_m3 2 rfl) rfl
theorem q615 : (Jvm.Cond.methodLink "TileServer" (232 : Nat) ({ cls := "TileServer$Tile", name := "put", desc := "(LTileServer$Shape;LTileServer$Sketch;)V" } : Jvm.MethodName)) ∈ lw_all := lw_g (lw_at lw_m3 74 rfl) rfl
theorem q620 : (Jvm.Cond.static ({ cls := "TileServer", name := "sideOfCell", desc := "(I)I" } : Jvm.MethodName)) ∈ lw_all := lw_g (lw_at lw_m3 79 rfl) rfl
theorem q621 : (Jvm.Cond.code ({ cls := "TileServer", name := "sideOfCell", desc := "(I)I" } : Jvm.MethodName) prog_1_method_13_code (1 : Nat) (Option.some Jvm.ClassFile.FieldType.int)) ∈ lw_all := lw_g (lw_at lw_m3 80 rfl) rfl
theorem q687 : (Jvm.Cond.instanceMethod ({ cls := "TileServer", name := "addLine", desc := "(IIII)I" } : Jvm.MethodName)) ∈ lw_all := lw_g (lw_at lw_m3 146 rfl) rfl
theorem q688 : (Jvm.Cond.selects "TileServer" ({ cls := "TileServer", name := "addLine", desc := "(IIII)I" } : Jvm.MethodName) ({ cls := "TileServer", name := "addLine", desc := "(IIII)I" } : Jvm.MethodName)) ∈ lw_all := lw_g (lw_at lw_m3 147 rfl) rfl
theorem q689 : (Jvm.Cond.code ({ cls := "TileServer", name := "addLine", desc := "(IIII)I" } : Jvm.MethodName) prog_1_method_18_code (5 : Nat) (Option.some Jvm.ClassFile.FieldType.int)) ∈ lw_all := lw_g (lw_at lw_m3 148 rfl) rfl
theorem q690 : (Jvm.Cond.methodLink "TileServer" (138 : Nat) ({ cls := "TileServer", name := "isCoordinate", desc := "(I)Z" } : Jvm.MethodName)) ∈ lw_all := lw_g (lw_at lw_m3 149 rfl) rfl
theorem q691 : (Jvm.Cond.static ({ cls := "TileServer", name := "isCoordinate", desc := "(I)Z" } : Jvm.MethodName)) ∈ lw_all := lw_g (lw_at lw_m3 150 rfl) rfl
theorem q692 : (Jvm.Cond.code ({ cls := "TileServer", name := "isCoordinate", desc := "(I)Z" } : Jvm.MethodName) prog_1_method_3_code (1 : Nat) (Option.some Jvm.ClassFile.FieldType.boolean)) ∈ lw_all := lw_g (lw_at lw_m3 151 rfl) rfl
theorem q693 : (Jvm.Cond.methodLink "TileServer" (43 : Nat) ({ cls := "TileServer", name := "isBetween", desc := "(III)Z" } : Jvm.MethodName)) ∈ lw_all := lw_g (lw_at lw_m3 152 rfl) rfl
theorem q694 : (Jvm.Cond.static ({ cls := "TileServer", name := "isBetween", desc := "(III)Z" } : Jvm.MethodName)) ∈ lw_all := lw_g (lw_at lw_m3 153 rfl) rfl
theorem q695 : (Jvm.Cond.code ({ cls := "TileServer", name := "isBetween", desc := "(III)Z" } : Jvm.MethodName) prog_1_method_2_code (3 : Nat) (Option.some Jvm.ClassFile.FieldType.boolean)) ∈ lw_all := lw_g (lw_at lw_m3 154 rfl) rfl
theorem q696 : (Jvm.Cond.methodLink "TileServer" (142 : Nat) ({ cls := "TileServer", name := "checkArgument", desc := "(Z)V" } : Jvm.MethodName)) ∈ lw_all := lw_g (lw_at lw_m3 155 rfl) rfl
theorem q697 : (Jvm.Cond.static ({ cls := "TileServer", name := "checkArgument", desc := "(Z)V" } : Jvm.MethodName)) ∈ lw_all := lw_g (lw_at lw_m3 156 rfl) rfl
theorem q698 : (Jvm.Cond.code ({ cls := "TileServer", name := "checkArgument", desc := "(Z)V" } : Jvm.MethodName) prog_1_method_4_code (1 : Nat) (Option.none : Option Jvm.ClassFile.FieldType)) ∈ lw_all := lw_g (lw_at lw_m3 157 rfl) rfl
theorem q699 : (Jvm.Cond.classLink "TileServer" (47 : Nat) "java/lang/IllegalArgumentException") ∈ lw_all := lw_g (lw_at lw_m3 158 rfl) rfl
theorem q708 : (Jvm.Cond.methodLink "TileServer" (49 : Nat) ({ cls := "java/lang/IllegalArgumentException", name := "<init>", desc := "()V" } : Jvm.MethodName)) ∈ lw_all := lw_g (lw_at lw_m3 167 rfl) rfl
theorem q714 : (Jvm.Cond.methodLink "TileServer" (145 : Nat) ({ cls := "TileServer", name := "checkState", desc := "(Z)V" } : Jvm.MethodName)) ∈ lw_all := lw_g (lw_at lw_m3 173 rfl) rfl
theorem q715 : (Jvm.Cond.static ({ cls := "TileServer", name := "checkState", desc := "(Z)V" } : Jvm.MethodName)) ∈ lw_all := lw_g (lw_at lw_m3 174 rfl) rfl
theorem q716 : (Jvm.Cond.code ({ cls := "TileServer", name := "checkState", desc := "(Z)V" } : Jvm.MethodName) prog_1_method_5_code (1 : Nat) (Option.none : Option Jvm.ClassFile.FieldType)) ∈ lw_all := lw_g (lw_at lw_m3 175 rfl) rfl
theorem q717 : (Jvm.Cond.classLink "TileServer" (50 : Nat) "java/lang/IllegalStateException") ∈ lw_all := lw_g (lw_at lw_m3 176 rfl) rfl
theorem q726 : (Jvm.Cond.methodLink "TileServer" (52 : Nat) ({ cls := "java/lang/IllegalStateException", name := "<init>", desc := "()V" } : Jvm.MethodName)) ∈ lw_all := lw_g (lw_at lw_m3 185 rfl) rfl
theorem q732 : (Jvm.Cond.classLink "TileServer" (93 : Nat) "TileServer$Line") ∈ lw_all := lw_g (lw_at lw_m3 191 rfl) rfl
theorem q733 : (Jvm.Cond.methodLink "TileServer" (148 : Nat) ({ cls := "TileServer$Line", name := "<init>", desc := "(I[I[I)V" } : Jvm.MethodName)) ∈ lw_all := lw_g (lw_at lw_m3 192 rfl) rfl
theorem q741 : (Jvm.Cond.fieldLinkNest "TileServer" (158 : Nat) "TileServer$Line" "points" "Ljava/util/List;" "TileServer") ∈ lw_tbl := lw_at lw_m3 200 rfl
theorem q744 : (Jvm.Cond.fieldLinkNest "TileServer" (82 : Nat) "TileServer$Shape" "number" "I" "TileServer") ∈ lw_tbl := lw_at lw_m3 203 rfl
theorem q745 : (Jvm.Cond.fieldLinkNest "TileServer" (186 : Nat) "TileServer$Shape" "labelWidth" "I" "TileServer") ∈ lw_tbl := lw_at lw_m3 204 rfl
theorem q746 : (Jvm.Cond.fieldLinkNest "TileServer" (189 : Nat) "TileServer$Shape" "rank" "I" "TileServer") ∈ lw_tbl := lw_at lw_m3 205 rfl
theorem q756 : (Jvm.Cond.methodLink "TileServer" (151 : Nat) ({ cls := "TileServer", name := "add", desc := "(LTileServer$Shape;)I" } : Jvm.MethodName)) ∈ lw_all := lw_g (lw_at lw_m3 215 rfl) rfl
theorem q757 : (Jvm.Cond.privateMethod ({ cls := "TileServer", name := "add", desc := "(LTileServer$Shape;)I" } : Jvm.MethodName)) ∈ lw_tbl := lw_at lw_m3 216 rfl
theorem q758 : (Jvm.Cond.instanceMethod ({ cls := "TileServer", name := "add", desc := "(LTileServer$Shape;)I" } : Jvm.MethodName)) ∈ lw_all := lw_g (lw_at lw_m3 217 rfl) rfl
theorem q759 : (Jvm.Cond.code ({ cls := "TileServer", name := "add", desc := "(LTileServer$Shape;)I" } : Jvm.MethodName) prog_1_method_17_code (2 : Nat) (Option.some Jvm.ClassFile.FieldType.int)) ∈ lw_all := lw_g (lw_at lw_m3 218 rfl) rfl
theorem q760 : (Jvm.Cond.interfaceEntry "TileServer" (124 : Nat)) ∈ lw_tbl := lw_at lw_m3 219 rfl
theorem q761 : (Jvm.Cond.methodLink "TileServer" (124 : Nat) ({ cls := "java/util/List", name := "add", desc := "(Ljava/lang/Object;)Z" } : Jvm.MethodName)) ∈ lw_all := lw_g (lw_at lw_m3 220 rfl) rfl
theorem q762 : (Jvm.Cond.methodLink "TileServer" (131 : Nat) ({ cls := "TileServer$Shape", name := "box", desc := "()LTileServer$Box;" } : Jvm.MethodName)) ∈ lw_all := lw_g (lw_at lw_m3 221 rfl) rfl
theorem q767 : (Jvm.Cond.methodLink "TileServer" (134 : Nat) ({ cls := "TileServer", name := "leave", desc := "(LTileServer$Box;LTileServer$Box;)I" } : Jvm.MethodName)) ∈ lw_all := lw_g (lw_at lw_m3 226 rfl) rfl
theorem q768 : (Jvm.Cond.privateMethod ({ cls := "TileServer", name := "leave", desc := "(LTileServer$Box;LTileServer$Box;)I" } : Jvm.MethodName)) ∈ lw_tbl := lw_at lw_m3 227 rfl
theorem q769 : (Jvm.Cond.instanceMethod ({ cls := "TileServer", name := "leave", desc := "(LTileServer$Box;LTileServer$Box;)I" } : Jvm.MethodName)) ∈ lw_all := lw_g (lw_at lw_m3 228 rfl) rfl
theorem q770 : (Jvm.Cond.code ({ cls := "TileServer", name := "leave", desc := "(LTileServer$Box;LTileServer$Box;)I" } : Jvm.MethodName) prog_1_method_16_code (6 : Nat) (Option.some Jvm.ClassFile.FieldType.int)) ∈ lw_all := lw_g (lw_at lw_m3 229 rfl) rfl
theorem q771 : (Jvm.Cond.interfaceEntry "TileServer" (108 : Nat)) ∈ lw_tbl := lw_at lw_m3 230 rfl
theorem q772 : (Jvm.Cond.methodLink "TileServer" (108 : Nat) ({ cls := "java/util/List", name := "get", desc := "(I)Ljava/lang/Object;" } : Jvm.MethodName)) ∈ lw_all := lw_g (lw_at lw_m3 231 rfl) rfl
theorem q773 : (Jvm.Cond.methodLink "TileServer" (117 : Nat) ({ cls := "TileServer$Box", name := "meets", desc := "(LTileServer$Box;)Z" } : Jvm.MethodName)) ∈ lw_all := lw_g (lw_at lw_m3 232 rfl) rfl
theorem q778 : (Jvm.Cond.interfaceEntry "TileServer" (121 : Nat)) ∈ lw_tbl := lw_at lw_m3 237 rfl
theorem q779 : (Jvm.Cond.methodLink "TileServer" (121 : Nat) ({ cls := "java/util/List", name := "remove", desc := "(I)Ljava/lang/Object;" } : Jvm.MethodName)) ∈ lw_all := lw_g (lw_at lw_m3 238 rfl) rfl
theorem q798 : (Jvm.Cond.instanceMethod ({ cls := "TileServer", name := "extend", desc := "(III)I" } : Jvm.MethodName)) ∈ lw_all := lw_g (lw_at lw_m4 17 rfl) rfl
theorem q799 : (Jvm.Cond.selects "TileServer" ({ cls := "TileServer", name := "extend", desc := "(III)I" } : Jvm.MethodName) ({ cls := "TileServer", name := "extend", desc := "(III)I" } : Jvm.MethodName)) ∈ lw_all := lw_g (lw_at lw_m4 18 rfl) rfl
theorem q800 : (Jvm.Cond.code ({ cls := "TileServer", name := "extend", desc := "(III)I" } : Jvm.MethodName) prog_1_method_19_code (6 : Nat) (Option.some Jvm.ClassFile.FieldType.int)) ∈ lw_all := lw_g (lw_at lw_m4 19 rfl) rfl
theorem q801 : (Jvm.Cond.methodLink "TileServer" (154 : Nat) ({ cls := "TileServer", name := "checkedLine", desc := "(I)LTileServer$Line;" } : Jvm.MethodName)) ∈ lw_all := lw_g (lw_at lw_m4 20 rfl) rfl
theorem q802 : (Jvm.Cond.privateMethod ({ cls := "TileServer", name := "checkedLine", desc := "(I)LTileServer$Line;" } : Jvm.MethodName)) ∈ lw_tbl := lw_at lw_m4 21 rfl
theorem q803 : (Jvm.Cond.instanceMethod ({ cls := "TileServer", name := "checkedLine", desc := "(I)LTileServer$Line;" } : Jvm.MethodName)) ∈ lw_all := lw_g (lw_at lw_m4 22 rfl) rfl
theorem q804 : (Jvm.Cond.code ({ cls := "TileServer", name := "checkedLine", desc := "(I)LTileServer$Line;" } : Jvm.MethodName) prog_1_method_10_code (4 : Nat) (Option.some (Jvm.ClassFile.FieldType.object "TileServer$Line"))) ∈ lw_all := lw_g (lw_at lw_m4 23 rfl) rfl
theorem q805 : (Jvm.Cond.methodLink "TileServer" (89 : Nat) ({ cls := "TileServer", name := "checkedShape", desc := "(I)LTileServer$Shape;" } : Jvm.MethodName)) ∈ lw_all := lw_g (lw_at lw_m4 24 rfl) rfl
theorem q806 : (Jvm.Cond.privateMethod ({ cls := "TileServer", name := "checkedShape", desc := "(I)LTileServer$Shape;" } : Jvm.MethodName)) ∈ lw_tbl := lw_at lw_m4 25 rfl
theorem q807 : (Jvm.Cond.instanceMethod ({ cls := "TileServer", name := "checkedShape", desc := "(I)LTileServer$Shape;" } : Jvm.MethodName)) ∈ lw_all := lw_g (lw_at lw_m4 26 rfl) rfl
theorem q808 : (Jvm.Cond.code ({ cls := "TileServer", name := "checkedShape", desc := "(I)LTileServer$Shape;" } : Jvm.MethodName) prog_1_method_9_code (4 : Nat) (Option.some (Jvm.ClassFile.FieldType.object "TileServer$Shape"))) ∈ lw_all := lw_g (lw_at lw_m4 27 rfl) rfl
theorem q809 : (Jvm.Cond.classLink "TileServer" (86 : Nat) "java/util/NoSuchElementException") ∈ lw_all := lw_g (lw_at lw_m4 28 rfl) rfl
theorem q810 : (Jvm.Cond.methodLink "TileServer" (88 : Nat) ({ cls := "java/util/NoSuchElementException", name := "<init>", desc := "()V" } : Jvm.MethodName)) ∈ lw_all := lw_g (lw_at lw_m4 29 rfl) rfl
theorem q811 : (Jvm.Cond.classLink "TileServer" (95 : Nat) "java/lang/UnsupportedOperationException") ∈ lw_all := lw_g (lw_at lw_m4 30 rfl) rfl
theorem q820 : (Jvm.Cond.methodLink "TileServer" (97 : Nat) ({ cls := "java/lang/UnsupportedOperationException", name := "<init>", desc := "()V" } : Jvm.MethodName)) ∈ lw_all := lw_g (lw_at lw_m4 39 rfl) rfl
theorem q826 : (Jvm.Cond.methodLink "TileServer" (161 : Nat) ({ cls := "TileServer$Line", name := "box", desc := "()LTileServer$Box;" } : Jvm.MethodName)) ∈ lw_all := lw_g (lw_at lw_m4 45 rfl) rfl
theorem q864 : (Jvm.Cond.instanceMethod ({ cls := "TileServer", name := "movePoint", desc := "(IIII)I" } : Jvm.MethodName)) ∈ lw_all := lw_g (lw_at lw_m4 83 rfl) rfl
theorem q865 : (Jvm.Cond.selects "TileServer" ({ cls := "TileServer", name := "movePoint", desc := "(IIII)I" } : Jvm.MethodName) ({ cls := "TileServer", name := "movePoint", desc := "(IIII)I" } : Jvm.MethodName)) ∈ lw_all := lw_g (lw_at lw_m4 84 rfl) rfl
theorem q866 : (Jvm.Cond.code ({ cls := "TileServer", name := "movePoint", desc := "(IIII)I" } : Jvm.MethodName) prog_1_method_20_code (8 : Nat) (Option.some Jvm.ClassFile.FieldType.int)) ∈ lw_all := lw_g (lw_at lw_m4 85 rfl) rfl
theorem q867 : (Jvm.Cond.methodLink "TileServer" (162 : Nat) ({ cls := "TileServer$Line", name := "checkedPoint", desc := "(I)[I" } : Jvm.MethodName)) ∈ lw_all := lw_g (lw_at lw_m4 86 rfl) rfl
theorem q873 : (Jvm.Cond.static ({ cls := "TileServer", name := "checkIndex", desc := "(Z)V" } : Jvm.MethodName)) ∈ lw_all := lw_g (lw_at lw_m4 92 rfl) rfl
theorem q874 : (Jvm.Cond.code ({ cls := "TileServer", name := "checkIndex", desc := "(Z)V" } : Jvm.MethodName) prog_1_method_6_code (1 : Nat) (Option.none : Option Jvm.ClassFile.FieldType)) ∈ lw_all := lw_g (lw_at lw_m4 93 rfl) rfl
theorem q875 : (Jvm.Cond.classLink "TileServer" (53 : Nat) "java/lang/IndexOutOfBoundsException") ∈ lw_all := lw_g (lw_at lw_m4 94 rfl) rfl
theorem q884 : (Jvm.Cond.methodLink "TileServer" (55 : Nat) ({ cls := "java/lang/IndexOutOfBoundsException", name := "<init>", desc := "()V" } : Jvm.MethodName)) ∈ lw_all := lw_g (lw_at lw_m4 103 rfl) rfl
theorem q894 : (Jvm.Cond.instanceMethod ({ cls := "TileServer", name := "dropPoint", desc := "(II)I" } : Jvm.MethodName)) ∈ lw_all := lw_g (lw_at lw_m4 113 rfl) rfl
theorem q895 : (Jvm.Cond.selects "TileServer" ({ cls := "TileServer", name := "dropPoint", desc := "(II)I" } : Jvm.MethodName) ({ cls := "TileServer", name := "dropPoint", desc := "(II)I" } : Jvm.MethodName)) ∈ lw_all := lw_g (lw_at lw_m4 114 rfl) rfl
theorem q896 : (Jvm.Cond.code ({ cls := "TileServer", name := "dropPoint", desc := "(II)I" } : Jvm.MethodName) prog_1_method_21_code (5 : Nat) (Option.some Jvm.ClassFile.FieldType.int)) ∈ lw_all := lw_g (lw_at lw_m4 115 rfl) rfl
theorem q901 : (Jvm.Cond.instanceMethod ({ cls := "TileServer", name := "addArea", desc := "(IIII)I" } : Jvm.MethodName)) ∈ lw_all := lw_g (lw_at lw_m4 120 rfl) rfl
theorem q902 : (Jvm.Cond.selects "TileServer" ({ cls := "TileServer", name := "addArea", desc := "(IIII)I" } : Jvm.MethodName) ({ cls := "TileServer", name := "addArea", desc := "(IIII)I" } : Jvm.MethodName)) ∈ lw_all := lw_g (lw_at lw_m4 121 rfl) rfl
theorem q903 : (Jvm.Cond.code ({ cls := "TileServer", name := "addArea", desc := "(IIII)I" } : Jvm.MethodName) prog_1_method_22_code (5 : Nat) (Option.some Jvm.ClassFile.FieldType.int)) ∈ lw_all := lw_g (lw_at lw_m4 122 rfl) rfl
theorem q904 : (Jvm.Cond.classLink "TileServer" (98 : Nat) "TileServer$Area") ∈ lw_all := lw_g (lw_at lw_m4 123 rfl) rfl
theorem q906 : (Jvm.Cond.methodLink "TileServer" (166 : Nat) ({ cls := "TileServer$Area", name := "<init>", desc := "(IIIII)V" } : Jvm.MethodName)) ∈ lw_all := lw_g (lw_at lw_m4 125 rfl) rfl
theorem q916 : (Jvm.Cond.fieldLinkNest "TileServer" (173 : Nat) "TileServer$Area" "x" "I" "TileServer") ∈ lw_tbl := lw_at lw_m4 135 rfl
theorem q919 : (Jvm.Cond.fieldLinkNest "TileServer" (180 : Nat) "TileServer$Area" "y" "I" "TileServer") ∈ lw_tbl := lw_at lw_m4 138 rfl
theorem q936 : (Jvm.Cond.instanceMethod ({ cls := "TileServer", name := "moveArea", desc := "(III)I" } : Jvm.MethodName)) ∈ lw_all := lw_g (lw_at lw_m4 155 rfl) rfl
theorem q937 : (Jvm.Cond.selects "TileServer" ({ cls := "TileServer", name := "moveArea", desc := "(III)I" } : Jvm.MethodName) ({ cls := "TileServer", name := "moveArea", desc := "(III)I" } : Jvm.MethodName)) ∈ lw_all := lw_g (lw_at lw_m4 156 rfl) rfl
theorem q938 : (Jvm.Cond.code ({ cls := "TileServer", name := "moveArea", desc := "(III)I" } : Jvm.MethodName) prog_1_method_24_code (6 : Nat) (Option.some Jvm.ClassFile.FieldType.int)) ∈ lw_all := lw_g (lw_at lw_m4 157 rfl) rfl
theorem q939 : (Jvm.Cond.methodLink "TileServer" (169 : Nat) ({ cls := "TileServer", name := "checkedArea", desc := "(I)LTileServer$Area;" } : Jvm.MethodName)) ∈ lw_all := lw_g (lw_at lw_m4 158 rfl) rfl
theorem q940 : (Jvm.Cond.privateMethod ({ cls := "TileServer", name := "checkedArea", desc := "(I)LTileServer$Area;" } : Jvm.MethodName)) ∈ lw_tbl := lw_at lw_m4 159 rfl
theorem q941 : (Jvm.Cond.instanceMethod ({ cls := "TileServer", name := "checkedArea", desc := "(I)LTileServer$Area;" } : Jvm.MethodName)) ∈ lw_all := lw_g (lw_at lw_m4 160 rfl) rfl
theorem q942 : (Jvm.Cond.code ({ cls := "TileServer", name := "checkedArea", desc := "(I)LTileServer$Area;" } : Jvm.MethodName) prog_1_method_11_code (4 : Nat) (Option.some (Jvm.ClassFile.FieldType.object "TileServer$Area"))) ∈ lw_all := lw_g (lw_at lw_m4 161 rfl) rfl
theorem q943 : (Jvm.Cond.methodLink "TileServer" (176 : Nat) ({ cls := "TileServer", name := "staysOnMap", desc := "(II)Z" } : Jvm.MethodName)) ∈ lw_all := lw_g (lw_at lw_m4 162 rfl) rfl
theorem q944 : (Jvm.Cond.static ({ cls := "TileServer", name := "staysOnMap", desc := "(II)Z" } : Jvm.MethodName)) ∈ lw_all := lw_g (lw_at lw_m4 163 rfl) rfl
theorem q945 : (Jvm.Cond.code ({ cls := "TileServer", name := "staysOnMap", desc := "(II)Z" } : Jvm.MethodName) prog_1_method_23_code (2 : Nat) (Option.some Jvm.ClassFile.FieldType.boolean)) ∈ lw_all := lw_g (lw_at lw_m4 164 rfl) rfl
theorem q946 : (Jvm.Cond.methodLink "TileServer" (183 : Nat) ({ cls := "TileServer$Area", name := "box", desc := "()LTileServer$Box;" } : Jvm.MethodName)) ∈ lw_all := lw_g (lw_at lw_m4 165 rfl) rfl
theorem q951 : (Jvm.Cond.instanceMethod ({ cls := "TileServer", name := "remove", desc := "(I)I" } : Jvm.MethodName)) ∈ lw_all := lw_g (lw_at lw_m4 170 rfl) rfl
theorem q952 : (Jvm.Cond.selects "TileServer" ({ cls := "TileServer", name := "remove", desc := "(I)I" } : Jvm.MethodName) ({ cls := "TileServer", name := "remove", desc := "(I)I" } : Jvm.MethodName)) ∈ lw_all := lw_g (lw_at lw_m4 171 rfl) rfl
theorem q953 : (Jvm.Cond.code ({ cls := "TileServer", name := "remove", desc := "(I)I" } : Jvm.MethodName) prog_1_method_25_code (3 : Nat) (Option.some Jvm.ClassFile.FieldType.int)) ∈ lw_all := lw_g (lw_at lw_m4 172 rfl) rfl
theorem q954 : (Jvm.Cond.interfaceEntry "TileServer" (184 : Nat)) ∈ lw_tbl := lw_at lw_m4 173 rfl
theorem q955 : (Jvm.Cond.methodLink "TileServer" (184 : Nat) ({ cls := "java/util/List", name := "remove", desc := "(Ljava/lang/Object;)Z" } : Jvm.MethodName)) ∈ lw_all := lw_g (lw_at lw_m4 174 rfl) rfl
theorem q967 : (Jvm.Cond.selects "TileServer" ({ cls := "java/lang/Object", name := "equals", desc := "(Ljava/lang/Object;)Z" } : Jvm.MethodName) ({ cls := "java/lang/Object", name := "equals", desc := "(Ljava/lang/Object;)Z" } : Jvm.MethodName)) ∈ lw_all := lw_g (lw_at lw_m4 186 rfl) rfl
theorem q1003 : (Jvm.Cond.instanceMethod ({ cls := "TileServer", name := "setLabel", desc := "(III)I" } : Jvm.MethodName)) ∈ lw_all := lw_g (lw_at lw_m4 222 rfl) rfl
theorem q1004 : (Jvm.Cond.selects "TileServer" ({ cls := "TileServer", name := "setLabel", desc := "(III)I" } : Jvm.MethodName) ({ cls := "TileServer", name := "setLabel", desc := "(III)I" } : Jvm.MethodName)) ∈ lw_all := lw_g (lw_at lw_m4 223 rfl) rfl
theorem q1005 : (Jvm.Cond.code ({ cls := "TileServer", name := "setLabel", desc := "(III)I" } : Jvm.MethodName) prog_1_method_26_code (6 : Nat) (Option.some Jvm.ClassFile.FieldType.int)) ∈ lw_all := lw_g (lw_at lw_m4 224 rfl) rfl
theorem q1010 : (Jvm.Cond.instanceMethod ({ cls := "TileServer", name := "setTolerance", desc := "(II)I" } : Jvm.MethodName)) ∈ lw_all := lw_g (lw_at lw_m4 229 rfl) rfl
theorem q1011 : (Jvm.Cond.selects "TileServer" ({ cls := "TileServer", name := "setTolerance", desc := "(II)I" } : Jvm.MethodName) ({ cls := "TileServer", name := "setTolerance", desc := "(II)I" } : Jvm.MethodName)) ∈ lw_all := lw_g (lw_at lw_m4 230 rfl) rfl
theorem q1012 : (Jvm.Cond.code ({ cls := "TileServer", name := "setTolerance", desc := "(II)I" } : Jvm.MethodName) prog_1_method_27_code (5 : Nat) (Option.some Jvm.ClassFile.FieldType.int)) ∈ lw_all := lw_g (lw_at lw_m4 231 rfl) rfl
theorem q1013 : (Jvm.Cond.methodLink "TileServer" (60 : Nat) ({ cls := "TileServer", name := "checkLevel", desc := "(I)V" } : Jvm.MethodName)) ∈ lw_all := lw_g (lw_at lw_m4 232 rfl) rfl
theorem q1014 : (Jvm.Cond.static ({ cls := "TileServer", name := "checkLevel", desc := "(I)V" } : Jvm.MethodName)) ∈ lw_all := lw_g (lw_at lw_m4 233 rfl) rfl
theorem q1015 : (Jvm.Cond.code ({ cls := "TileServer", name := "checkLevel", desc := "(I)V" } : Jvm.MethodName) prog_1_method_7_code (1 : Nat) (Option.none : Option Jvm.ClassFile.FieldType)) ∈ lw_all := lw_g (lw_at lw_m4 234 rfl) rfl
theorem q1016 : (Jvm.Cond.methodLink "TileServer" (56 : Nat) ({ cls := "TileServer", name := "checkIndex", desc := "(Z)V" } : Jvm.MethodName)) ∈ lw_all := lw_g (lw_at lw_m4 235 rfl) rfl
theorem q1021 : (Jvm.Cond.instanceMethod ({ cls := "TileServer", name := "pass", desc := "(I)I" } : Jvm.MethodName)) ∈ lw_all := lw_g (lw_at lw_m5 0 rfl) rfl
theorem q1022 : (Jvm.Cond.selects "TileServer" ({ cls := "TileServer", name := "pass", desc := "(I)I" } : Jvm.MethodName) ({ cls := "TileServer", name := "pass", desc := "(I)I" } : Jvm.MethodName)) ∈ lw_all := lw_g (lw_at lw_m5 1 rfl) rfl
theorem q1023 : (Jvm.Cond.code ({ cls := "TileServer", name := "pass", desc := "(I)I" } : Jvm.MethodName) prog_1_method_28_code (4 : Nat) (Option.some Jvm.ClassFile.FieldType.int)) ∈ lw_all := lw_g (lw_at lw_m5 2 rfl) rfl
theorem q1028 : (Jvm.Cond.instanceMethod ({ cls := "TileServer", name := "kindOf", desc := "(I)C" } : Jvm.MethodName)) ∈ lw_all := lw_g (lw_at lw_m5 7 rfl) rfl
theorem q1029 : (Jvm.Cond.selects "TileServer" ({ cls := "TileServer", name := "kindOf", desc := "(I)C" } : Jvm.MethodName) ({ cls := "TileServer", name := "kindOf", desc := "(I)C" } : Jvm.MethodName)) ∈ lw_all := lw_g (lw_at lw_m5 8 rfl) rfl
theorem q1030 : (Jvm.Cond.code ({ cls := "TileServer", name := "kindOf", desc := "(I)C" } : Jvm.MethodName) prog_1_method_31_code (2 : Nat) (Option.some Jvm.ClassFile.FieldType.char)) ∈ lw_all := lw_g (lw_at lw_m5 9 rfl) rfl
theorem q1031 : (Jvm.Cond.methodLink "TileServer" (201 : Nat) ({ cls := "TileServer$Shape", name := "kind", desc := "()C" } : Jvm.MethodName)) ∈ lw_all := lw_g (lw_at lw_m5 10 rfl) rfl
theorem q1044 : (Jvm.Cond.instanceMethod ({ cls := "TileServer", name := "points", desc := "(I)I" } : Jvm.MethodName)) ∈ lw_all := lw_g (lw_at lw_m5 23 rfl) rfl
theorem q1045 : (Jvm.Cond.selects "TileServer" ({ cls := "TileServer", name := "points", desc := "(I)I" } : Jvm.MethodName) ({ cls := "TileServer", name := "points", desc := "(I)I" } : Jvm.MethodName)) ∈ lw_all := lw_g (lw_at lw_m5 24 rfl) rfl
theorem q1046 : (Jvm.Cond.code ({ cls := "TileServer", name := "points", desc := "(I)I" } : Jvm.MethodName) prog_1_method_32_code (2 : Nat) (Option.some Jvm.ClassFile.FieldType.int)) ∈ lw_all := lw_g (lw_at lw_m5 25 rfl) rfl
theorem q1051 : (Jvm.Cond.instanceMethod ({ cls := "TileServer", name := "xOf", desc := "(II)I" } : Jvm.MethodName)) ∈ lw_all := lw_g (lw_at lw_m5 30 rfl) rfl
theorem q1052 : (Jvm.Cond.selects "TileServer" ({ cls := "TileServer", name := "xOf", desc := "(II)I" } : Jvm.MethodName) ({ cls := "TileServer", name := "xOf", desc := "(II)I" } : Jvm.MethodName)) ∈ lw_all := lw_g (lw_at lw_m5 31 rfl) rfl
theorem q1053 : (Jvm.Cond.code ({ cls := "TileServer", name := "xOf", desc := "(II)I" } : Jvm.MethodName) prog_1_method_33_code (3 : Nat) (Option.some Jvm.ClassFile.FieldType.int)) ∈ lw_all := lw_g (lw_at lw_m5 32 rfl) rfl
theorem q1058 : (Jvm.Cond.instanceMethod ({ cls := "TileServer", name := "yOf", desc := "(II)I" } : Jvm.MethodName)) ∈ lw_all := lw_g (lw_at lw_m5 37 rfl) rfl
theorem q1059 : (Jvm.Cond.selects "TileServer" ({ cls := "TileServer", name := "yOf", desc := "(II)I" } : Jvm.MethodName) ({ cls := "TileServer", name := "yOf", desc := "(II)I" } : Jvm.MethodName)) ∈ lw_all := lw_g (lw_at lw_m5 38 rfl) rfl
theorem q1060 : (Jvm.Cond.code ({ cls := "TileServer", name := "yOf", desc := "(II)I" } : Jvm.MethodName) prog_1_method_34_code (3 : Nat) (Option.some Jvm.ClassFile.FieldType.int)) ∈ lw_all := lw_g (lw_at lw_m5 39 rfl) rfl
theorem q1065 : (Jvm.Cond.instanceMethod ({ cls := "TileServer", name := "isKept", desc := "(III)Z" } : Jvm.MethodName)) ∈ lw_all := lw_g (lw_at lw_m5 44 rfl) rfl
theorem q1066 : (Jvm.Cond.selects "TileServer" ({ cls := "TileServer", name := "isKept", desc := "(III)Z" } : Jvm.MethodName) ({ cls := "TileServer", name := "isKept", desc := "(III)Z" } : Jvm.MethodName)) ∈ lw_all := lw_g (lw_at lw_m5 45 rfl) rfl
theorem q1067 : (Jvm.Cond.code ({ cls := "TileServer", name := "isKept", desc := "(III)Z" } : Jvm.MethodName) prog_1_method_35_code (5 : Nat) (Option.some Jvm.ClassFile.FieldType.boolean)) ∈ lw_all := lw_g (lw_at lw_m5 46 rfl) rfl
theorem q1068 : (Jvm.Cond.methodLink "TileServer" (205 : Nat) ({ cls := "TileServer$Line", name := "kept", desc := "(I)[Z" } : Jvm.MethodName)) ∈ lw_all := lw_g (lw_at lw_m5 47 rfl) rfl
theorem q1073 : (Jvm.Cond.instanceMethod ({ cls := "TileServer", name := "isKeptByMarks", desc := "(III)Z" } : Jvm.MethodName)) ∈ lw_all := lw_g (lw_at lw_m5 52 rfl) rfl
theorem q1074 : (Jvm.Cond.selects "TileServer" ({ cls := "TileServer", name := "isKeptByMarks", desc := "(III)Z" } : Jvm.MethodName) ({ cls := "TileServer", name := "isKeptByMarks", desc := "(III)Z" } : Jvm.MethodName)) ∈ lw_all := lw_g (lw_at lw_m5 53 rfl) rfl
theorem q1075 : (Jvm.Cond.code ({ cls := "TileServer", name := "isKeptByMarks", desc := "(III)Z" } : Jvm.MethodName) prog_1_method_36_code (5 : Nat) (Option.some Jvm.ClassFile.FieldType.boolean)) ∈ lw_all := lw_g (lw_at lw_m5 54 rfl) rfl
theorem q1076 : (Jvm.Cond.methodLink "TileServer" (209 : Nat) ({ cls := "TileServer$Line", name := "keptByMarks", desc := "(I)[Z" } : Jvm.MethodName)) ∈ lw_all := lw_g (lw_at lw_m5 55 rfl) rfl
theorem q1089 : (Jvm.Cond.instanceMethod ({ cls := "TileServer", name := "keptPoints", desc := "(II)I" } : Jvm.MethodName)) ∈ lw_all := lw_g (lw_at lw_m5 68 rfl) rfl
theorem q1090 : (Jvm.Cond.selects "TileServer" ({ cls := "TileServer", name := "keptPoints", desc := "(II)I" } : Jvm.MethodName) ({ cls := "TileServer", name := "keptPoints", desc := "(II)I" } : Jvm.MethodName)) ∈ lw_all := lw_g (lw_at lw_m5 69 rfl) rfl
theorem q1091 : (Jvm.Cond.code ({ cls := "TileServer", name := "keptPoints", desc := "(II)I" } : Jvm.MethodName) prog_1_method_38_code (4 : Nat) (Option.some Jvm.ClassFile.FieldType.int)) ∈ lw_all := lw_g (lw_at lw_m5 70 rfl) rfl
theorem q1092 : (Jvm.Cond.methodLink "TileServer" (221 : Nat) ({ cls := "TileServer", name := "countKept", desc := "(LTileServer$Line;I)I" } : Jvm.MethodName)) ∈ lw_all := lw_g (lw_at lw_m5 71 rfl) rfl
theorem q1093 : (Jvm.Cond.privateMethod ({ cls := "TileServer", name := "countKept", desc := "(LTileServer$Line;I)I" } : Jvm.MethodName)) ∈ lw_tbl := lw_at lw_m5 72 rfl
theorem q1094 : (Jvm.Cond.instanceMethod ({ cls := "TileServer", name := "countKept", desc := "(LTileServer$Line;I)I" } : Jvm.MethodName)) ∈ lw_all := lw_g (lw_at lw_m5 73 rfl) rfl
theorem q1095 : (Jvm.Cond.code ({ cls := "TileServer", name := "countKept", desc := "(LTileServer$Line;I)I" } : Jvm.MethodName) prog_1_method_37_code (3 : Nat) (Option.some Jvm.ClassFile.FieldType.int)) ∈ lw_all := lw_g (lw_at lw_m5 74 rfl) rfl
theorem q1096 : (Jvm.Cond.methodLink "TileServer" (212 : Nat) ({ cls := "TileServer$Line", name := "path", desc := "(I)LTileServer$Path;" } : Jvm.MethodName)) ∈ lw_all := lw_g (lw_at lw_m5 75 rfl) rfl
theorem q1097 : (Jvm.Cond.methodLink "TileServer" (216 : Nat) ({ cls := "TileServer$Path", name := "segments", desc := "()I" } : Jvm.MethodName)) ∈ lw_all := lw_g (lw_at lw_m5 76 rfl) rfl
theorem q1105 : (Jvm.Cond.instanceMethod ({ cls := "TileServer", name := "cellAt", desc := "(IIIII)I" } : Jvm.MethodName)) ∈ lw_all := lw_g (lw_at lw_m5 84 rfl) rfl
theorem q1106 : (Jvm.Cond.selects "TileServer" ({ cls := "TileServer", name := "cellAt", desc := "(IIIII)I" } : Jvm.MethodName) ({ cls := "TileServer", name := "cellAt", desc := "(IIIII)I" } : Jvm.MethodName)) ∈ lw_all := lw_g (lw_at lw_m5 85 rfl) rfl
theorem q1107 : (Jvm.Cond.code ({ cls := "TileServer", name := "cellAt", desc := "(IIIII)I" } : Jvm.MethodName) prog_1_method_42_code (7 : Nat) (Option.some Jvm.ClassFile.FieldType.int)) ∈ lw_all := lw_g (lw_at lw_m5 86 rfl) rfl
theorem q1108 : (Jvm.Cond.methodLink "TileServer" (243 : Nat) ({ cls := "TileServer", name := "checkCell", desc := "(IIIII)V" } : Jvm.MethodName)) ∈ lw_all := lw_g (lw_at lw_m5 87 rfl) rfl
theorem q1109 : (Jvm.Cond.static ({ cls := "TileServer", name := "checkCell", desc := "(IIIII)V" } : Jvm.MethodName)) ∈ lw_all := lw_g (lw_at lw_m5 88 rfl) rfl
theorem q1110 : (Jvm.Cond.code ({ cls := "TileServer", name := "checkCell", desc := "(IIIII)V" } : Jvm.MethodName) prog_1_method_41_code (5 : Nat) (Option.none : Option Jvm.ClassFile.FieldType)) ∈ lw_all := lw_g (lw_at lw_m5 89 rfl) rfl
theorem q1111 : (Jvm.Cond.methodLink "TileServer" (239 : Nat) ({ cls := "TileServer", name := "checkTile", desc := "(III)V" } : Jvm.MethodName)) ∈ lw_all := lw_g (lw_at lw_m5 90 rfl) rfl
theorem q1112 : (Jvm.Cond.static ({ cls := "TileServer", name := "checkTile", desc := "(III)V" } : Jvm.MethodName)) ∈ lw_all := lw_g (lw_at lw_m5 91 rfl) rfl
theorem q1113 : (Jvm.Cond.code ({ cls := "TileServer", name := "checkTile", desc := "(III)V" } : Jvm.MethodName) prog_1_method_8_code (3 : Nat) (Option.none : Option Jvm.ClassFile.FieldType)) ∈ lw_all := lw_g (lw_at lw_m5 92 rfl) rfl
theorem q1114 : (Jvm.Cond.methodLink "TileServer" (246 : Nat) ({ cls := "TileServer", name := "cachedTile", desc := "(III)LTileServer$Tile;" } : Jvm.MethodName)) ∈ lw_all := lw_g (lw_at lw_m5 93 rfl) rfl
theorem q1115 : (Jvm.Cond.privateMethod ({ cls := "TileServer", name := "cachedTile", desc := "(III)LTileServer$Tile;" } : Jvm.MethodName)) ∈ lw_tbl := lw_at lw_m5 94 rfl
theorem q1116 : (Jvm.Cond.instanceMethod ({ cls := "TileServer", name := "cachedTile", desc := "(III)LTileServer$Tile;" } : Jvm.MethodName)) ∈ lw_all := lw_g (lw_at lw_m5 95 rfl) rfl
theorem q1117 : (Jvm.Cond.code ({ cls := "TileServer", name := "cachedTile", desc := "(III)LTileServer$Tile;" } : Jvm.MethodName) prog_1_method_40_code (6 : Nat) (Option.some (Jvm.ClassFile.FieldType.object "TileServer$Tile"))) ∈ lw_all := lw_g (lw_at lw_m5 96 rfl) rfl
theorem q1118 : (Jvm.Cond.methodLink "TileServer" (236 : Nat) ({ cls := "TileServer$Tile", name := "isAt", desc := "(III)Z" } : Jvm.MethodName)) ∈ lw_all := lw_g (lw_at lw_m5 97 rfl) rfl
theorem q1122 : (Jvm.Cond.methodLink "TileServer" (260 : Nat) ({ cls := "TileServer$Tile", name := "filled", desc := "()I" } : Jvm.MethodName)) ∈ lw_all := lw_g (lw_at lw_m5 101 rfl) rfl
theorem q1126 : (Jvm.Cond.methodLink "TileServer" (266 : Nat) ({ cls := "TileServer$Tile", name := "get", desc := "(II)I" } : Jvm.MethodName)) ∈ lw_all := lw_g (lw_at lw_m5 105 rfl) rfl
theorem q1134 : (Jvm.Cond.instanceMethod ({ cls := "TileServer", name := "cellByDrawing", desc := "(IIIII)I" } : Jvm.MethodName)) ∈ lw_all := lw_g (lw_at lw_m5 113 rfl) rfl
theorem q1135 : (Jvm.Cond.selects "TileServer" ({ cls := "TileServer", name := "cellByDrawing", desc := "(IIIII)I" } : Jvm.MethodName) ({ cls := "TileServer", name := "cellByDrawing", desc := "(IIIII)I" } : Jvm.MethodName)) ∈ lw_all := lw_g (lw_at lw_m5 114 rfl) rfl
theorem q1136 : (Jvm.Cond.code ({ cls := "TileServer", name := "cellByDrawing", desc := "(IIIII)I" } : Jvm.MethodName) prog_1_method_43_code (6 : Nat) (Option.some Jvm.ClassFile.FieldType.int)) ∈ lw_all := lw_g (lw_at lw_m5 115 rfl) rfl
theorem q1141 : (Jvm.Cond.instanceMethod ({ cls := "TileServer", name := "isCached", desc := "(III)Z" } : Jvm.MethodName)) ∈ lw_all := lw_g (lw_at lw_m5 120 rfl) rfl
theorem q1142 : (Jvm.Cond.selects "TileServer" ({ cls := "TileServer", name := "isCached", desc := "(III)Z" } : Jvm.MethodName) ({ cls := "TileServer", name := "isCached", desc := "(III)Z" } : Jvm.MethodName)) ∈ lw_all := lw_g (lw_at lw_m5 121 rfl) rfl
theorem q1143 : (Jvm.Cond.code ({ cls := "TileServer", name := "isCached", desc := "(III)Z" } : Jvm.MethodName) prog_1_method_44_code (4 : Nat) (Option.some Jvm.ClassFile.FieldType.boolean)) ∈ lw_all := lw_g (lw_at lw_m5 122 rfl) rfl
theorem q1148 : (Jvm.Cond.instanceMethod ({ cls := "TileServer", name := "ageOf", desc := "(III)I" } : Jvm.MethodName)) ∈ lw_all := lw_g (lw_at lw_m5 127 rfl) rfl
theorem q1149 : (Jvm.Cond.selects "TileServer" ({ cls := "TileServer", name := "ageOf", desc := "(III)I" } : Jvm.MethodName) ({ cls := "TileServer", name := "ageOf", desc := "(III)I" } : Jvm.MethodName)) ∈ lw_all := lw_g (lw_at lw_m5 128 rfl) rfl
theorem q1150 : (Jvm.Cond.code ({ cls := "TileServer", name := "ageOf", desc := "(III)I" } : Jvm.MethodName) prog_1_method_45_code (5 : Nat) (Option.some Jvm.ClassFile.FieldType.int)) ∈ lw_all := lw_g (lw_at lw_m5 129 rfl) rfl
theorem q1169 : (Jvm.Cond.instanceMethod ({ cls := "TileServer", name := "hitShare", desc := "()F" } : Jvm.MethodName)) ∈ lw_all := lw_g (lw_at lw_m5 148 rfl) rfl
theorem q1170 : (Jvm.Cond.selects "TileServer" ({ cls := "TileServer", name := "hitShare", desc := "()F" } : Jvm.MethodName) ({ cls := "TileServer", name := "hitShare", desc := "()F" } : Jvm.MethodName)) ∈ lw_all := lw_g (lw_at lw_m5 149 rfl) rfl
theorem q1171 : (Jvm.Cond.code ({ cls := "TileServer", name := "hitShare", desc := "()F" } : Jvm.MethodName) prog_1_method_48_code (1 : Nat) (Option.some Jvm.ClassFile.FieldType.float)) ∈ lw_all := lw_g (lw_at lw_m5 150 rfl) rfl
theorem q1172 : (Jvm.Cond.classLink "TileServer" (269 : Nat) "java/lang/ArithmeticException") ∈ lw_all := lw_g (lw_at lw_m5 151 rfl) rfl
theorem q1173 : (Jvm.Cond.methodLink "TileServer" (271 : Nat) ({ cls := "java/lang/ArithmeticException", name := "<init>", desc := "()V" } : Jvm.MethodName)) ∈ lw_all := lw_g (lw_at lw_m5 152 rfl) rfl
theorem q1181 : (Jvm.Cond.instanceMethod ({ cls := "TileServer", name := "areaIn", desc := "(IIII)I" } : Jvm.MethodName)) ∈ lw_all := lw_g (lw_at lw_m5 160 rfl) rfl
theorem q1182 : (Jvm.Cond.selects "TileServer" ({ cls := "TileServer", name := "areaIn", desc := "(IIII)I" } : Jvm.MethodName) ({ cls := "TileServer", name := "areaIn", desc := "(IIII)I" } : Jvm.MethodName)) ∈ lw_all := lw_g (lw_at lw_m5 161 rfl) rfl
theorem q1183 : (Jvm.Cond.code ({ cls := "TileServer", name := "areaIn", desc := "(IIII)I" } : Jvm.MethodName) prog_1_method_51_code (8 : Nat) (Option.some Jvm.ClassFile.FieldType.int)) ∈ lw_all := lw_g (lw_at lw_m5 162 rfl) rfl
theorem q1184 : (Jvm.Cond.methodLink "TileServer" (273 : Nat) ({ cls := "TileServer", name := "boxOfTile", desc := "(III)LTileServer$Box;" } : Jvm.MethodName)) ∈ lw_all := lw_g (lw_at lw_m5 163 rfl) rfl
theorem q1185 : (Jvm.Cond.methodLink "TileServer" (276 : Nat) ({ cls := "TileServer$Area", name := "outline", desc := "()Ljava/util/List;" } : Jvm.MethodName)) ∈ lw_all := lw_g (lw_at lw_m5 164 rfl) rfl
theorem q1197 : (Jvm.Cond.methodLink "TileServer" (283 : Nat) ({ cls := "TileServer", name := "cutOff", desc := "(Ljava/util/List;III)Ljava/util/List;" } : Jvm.MethodName)) ∈ lw_all := lw_g (lw_at lw_m5 176 rfl) rfl
theorem q1198 : (Jvm.Cond.static ({ cls := "TileServer", name := "cutOff", desc := "(Ljava/util/List;III)Ljava/util/List;" } : Jvm.MethodName)) ∈ lw_all := lw_g (lw_at lw_m5 177 rfl) rfl
theorem q1199 : (Jvm.Cond.code ({ cls := "TileServer", name := "cutOff", desc := "(Ljava/util/List;III)Ljava/util/List;" } : Jvm.MethodName) prog_1_method_49_code (11 : Nat) (Option.some (Jvm.ClassFile.FieldType.object "java/util/List"))) ∈ lw_all := lw_g (lw_at lw_m5 178 rfl) rfl
theorem q1200 : (Jvm.Cond.classLink "TileServer" (272 : Nat) "[I") ∈ lw_all := lw_g (lw_at lw_m5 179 rfl) rfl
theorem q1201 : (Jvm.Cond.methodLink "TileServer" (296 : Nat) ({ cls := "TileServer", name := "twiceSize", desc := "(Ljava/util/List;)I" } : Jvm.MethodName)) ∈ lw_all := lw_g (lw_at lw_m5 180 rfl) rfl
theorem q1202 : (Jvm.Cond.static ({ cls := "TileServer", name := "twiceSize", desc := "(Ljava/util/List;)I" } : Jvm.MethodName)) ∈ lw_all := lw_g (lw_at lw_m5 181 rfl) rfl
theorem q1203 : (Jvm.Cond.code ({ cls := "TileServer", name := "twiceSize", desc := "(Ljava/util/List;)I" } : Jvm.MethodName) prog_1_method_50_code (5 : Nat) (Option.some Jvm.ClassFile.FieldType.int)) ∈ lw_all := lw_g (lw_at lw_m5 182 rfl) rfl
theorem q1208 : (Jvm.Cond.instanceMethod ({ cls := "TileServer", name := "areaByQuarters", desc := "(IIII)I" } : Jvm.MethodName)) ∈ lw_all := lw_g (lw_at lw_m5 187 rfl) rfl
theorem q1209 : (Jvm.Cond.selects "TileServer" ({ cls := "TileServer", name := "areaByQuarters", desc := "(IIII)I" } : Jvm.MethodName) ({ cls := "TileServer", name := "areaByQuarters", desc := "(IIII)I" } : Jvm.MethodName)) ∈ lw_all := lw_g (lw_at lw_m5 188 rfl) rfl
theorem q1210 : (Jvm.Cond.code ({ cls := "TileServer", name := "areaByQuarters", desc := "(IIII)I" } : Jvm.MethodName) prog_1_method_52_code (10 : Nat) (Option.some Jvm.ClassFile.FieldType.int)) ∈ lw_all := lw_g (lw_at lw_m5 189 rfl) rfl
theorem q1211 : (Jvm.Cond.methodLink "TileServer" (300 : Nat) ({ cls := "TileServer$Area", name := "hasSixths", desc := "(II)Z" } : Jvm.MethodName)) ∈ lw_all := lw_g (lw_at lw_m5 190 rfl) rfl
theorem q1222 : (Jvm.Cond.instanceMethod ({ cls := "TileServer", name := "crossesRight", desc := "(IIII)I" } : Jvm.MethodName)) ∈ lw_all := lw_g (lw_at lw_m5 201 rfl) rfl
theorem q1223 : (Jvm.Cond.selects "TileServer" ({ cls := "TileServer", name := "crossesRight", desc := "(IIII)I" } : Jvm.MethodName) ({ cls := "TileServer", name := "crossesRight", desc := "(IIII)I" } : Jvm.MethodName)) ∈ lw_all := lw_g (lw_at lw_m5 202 rfl) rfl
theorem q1224 : (Jvm.Cond.code ({ cls := "TileServer", name := "crossesRight", desc := "(IIII)I" } : Jvm.MethodName) prog_1_method_53_code (14 : Nat) (Option.some Jvm.ClassFile.FieldType.int)) ∈ lw_all := lw_g (lw_at lw_m5 203 rfl) rfl
theorem q1225 : (Jvm.Cond.methodLink "TileServer" (303 : Nat) ({ cls := "TileServer$Path", name := "segmentMeets", desc := "(IIIII)Z" } : Jvm.MethodName)) ∈ lw_all := lw_g (lw_at lw_m5 204 rfl) rfl
theorem q1229 : (Jvm.Cond.methodLink "TileServer" (307 : Nat) ({ cls := "TileServer", name := "sideOfCell", desc := "(I)I" } : Jvm.MethodName)) ∈ lw_all := lw_g (lw_at lw_m5 208 rfl) rfl
theorem q1234 : (Jvm.Cond.instanceMethod ({ cls := "TileServer", name := "crossesLeft", desc := "(IIII)I" } : Jvm.MethodName)) ∈ lw_all := lw_g (lw_at lw_m5 213 rfl) rfl
theorem q1235 : (Jvm.Cond.selects "TileServer" ({ cls := "TileServer", name := "crossesLeft", desc := "(IIII)I" } : Jvm.MethodName) ({ cls := "TileServer", name := "crossesLeft", desc := "(IIII)I" } : Jvm.MethodName)) ∈ lw_all := lw_g (lw_at lw_m5 214 rfl) rfl
theorem q1236 : (Jvm.Cond.code ({ cls := "TileServer", name := "crossesLeft", desc := "(IIII)I" } : Jvm.MethodName) prog_1_method_54_code (11 : Nat) (Option.some Jvm.ClassFile.FieldType.int)) ∈ lw_all := lw_g (lw_at lw_m5 215 rfl) rfl
theorem q1237 : (Jvm.Cond.methodLink "TileServer" (310 : Nat) ({ cls := "TileServer$Path", name := "segmentsIn", desc := "(IIII)I" } : Jvm.MethodName)) ∈ lw_all := lw_g (lw_at lw_m5 216 rfl) rfl
theorem q1242 : (Jvm.Cond.instanceMethod ({ cls := "TileServer", name := "segmentsIn", desc := "(III)I" } : Jvm.MethodName)) ∈ lw_all := lw_g (lw_at lw_m5 221 rfl) rfl
theorem q1243 : (Jvm.Cond.selects "TileServer" ({ cls := "TileServer", name := "segmentsIn", desc := "(III)I" } : Jvm.MethodName) ({ cls := "TileServer", name := "segmentsIn", desc := "(III)I" } : Jvm.MethodName)) ∈ lw_all := lw_g (lw_at lw_m5 222 rfl) rfl
theorem q1244 : (Jvm.Cond.code ({ cls := "TileServer", name := "segmentsIn", desc := "(III)I" } : Jvm.MethodName) prog_1_method_55_code (9 : Nat) (Option.some Jvm.ClassFile.FieldType.int)) ∈ lw_all := lw_g (lw_at lw_m5 223 rfl) rfl
theorem q1249 : (Jvm.Cond.instanceMethod ({ cls := "TileServer", name := "placeOf", desc := "(II)C" } : Jvm.MethodName)) ∈ lw_all := lw_g (lw_at lw_m5 228 rfl) rfl
theorem q1250 : (Jvm.Cond.selects "TileServer" ({ cls := "TileServer", name := "placeOf", desc := "(II)C" } : Jvm.MethodName) ({ cls := "TileServer", name := "placeOf", desc := "(II)C" } : Jvm.MethodName)) ∈ lw_all := lw_g (lw_at lw_m5 229 rfl) rfl
theorem q1251 : (Jvm.Cond.code ({ cls := "TileServer", name := "placeOf", desc := "(II)C" } : Jvm.MethodName) prog_1_method_61_code (4 : Nat) (Option.some Jvm.ClassFile.FieldType.char)) ∈ lw_all := lw_g (lw_at lw_m5 230 rfl) rfl
theorem q1252 : (Jvm.Cond.methodLink "TileServer" (352 : Nat) ({ cls := "TileServer", name := "checkedLabel", desc := "(II)LTileServer$Label;" } : Jvm.MethodName)) ∈ lw_all := lw_g (lw_at lw_m5 231 rfl) rfl
theorem q1253 : (Jvm.Cond.privateMethod ({ cls := "TileServer", name := "checkedLabel", desc := "(II)LTileServer$Label;" } : Jvm.MethodName)) ∈ lw_tbl := lw_at lw_m5 232 rfl
theorem q1254 : (Jvm.Cond.instanceMethod ({ cls := "TileServer", name := "checkedLabel", desc := "(II)LTileServer$Label;" } : Jvm.MethodName)) ∈ lw_all := lw_g (lw_at lw_m5 233 rfl) rfl
theorem q1255 : (Jvm.Cond.code ({ cls := "TileServer", name := "checkedLabel", desc := "(II)LTileServer$Label;" } : Jvm.MethodName) prog_1_method_60_code (6 : Nat) (Option.some (Jvm.ClassFile.FieldType.object "TileServer$Label"))) ∈ lw_all := lw_g (lw_at lw_m5 234 rfl) rfl
theorem q1256 : (Jvm.Cond.methodLink "TileServer" (344 : Nat) ({ cls := "TileServer", name := "labels", desc := "(I)Ljava/util/List;" } : Jvm.MethodName)) ∈ lw_all := lw_g (lw_at lw_m5 235 rfl) rfl
theorem q1257 : (Jvm.Cond.privateMethod ({ cls := "TileServer", name := "labels", desc := "(I)Ljava/util/List;" } : Jvm.MethodName)) ∈ lw_tbl := lw_at lw_m5 236 rfl
theorem q1258 : (Jvm.Cond.instanceMethod ({ cls := "TileServer", name := "labels", desc := "(I)Ljava/util/List;" } : Jvm.MethodName)) ∈ lw_all := lw_g (lw_at lw_m5 237 rfl) rfl
theorem q1259 : (Jvm.Cond.code ({ cls := "TileServer", name := "labels", desc := "(I)Ljava/util/List;" } : Jvm.MethodName) prog_1_method_59_code (6 : Nat) (Option.some (Jvm.ClassFile.FieldType.object "java/util/List"))) ∈ lw_all := lw_g (lw_at lw_m5 238 rfl) rfl
theorem q1260 : (Jvm.Cond.methodLink "TileServer" (337 : Nat) ({ cls := "TileServer", name := "labelled", desc := "()Ljava/util/List;" } : Jvm.MethodName)) ∈ lw_all := lw_g (lw_at lw_m5 239 rfl) rfl
theorem q1261 : (Jvm.Cond.privateMethod ({ cls := "TileServer", name := "labelled", desc := "()Ljava/util/List;" } : Jvm.MethodName)) ∈ lw_tbl := lw_at lw_m6 0 rfl
theorem q1262 : (Jvm.Cond.instanceMethod ({ cls := "TileServer", name := "labelled", desc := "()Ljava/util/List;" } : Jvm.MethodName)) ∈ lw_all := lw_g (lw_at lw_m6 1 rfl) rfl
theorem q1263 : (Jvm.Cond.code ({ cls := "TileServer", name := "labelled", desc := "()Ljava/util/List;" } : Jvm.MethodName) prog_1_method_56_code (5 : Nat) (Option.some (Jvm.ClassFile.FieldType.object "java/util/List"))) ∈ lw_all := lw_g (lw_at lw_m6 2 rfl) rfl
theorem q1264 : (Jvm.Cond.interfaceEntry "TileServer" (314 : Nat)) ∈ lw_tbl := lw_at lw_m6 3 rfl
theorem q1265 : (Jvm.Cond.methodLink "TileServer" (314 : Nat) ({ cls := "java/util/List", name := "add", desc := "(ILjava/lang/Object;)V" } : Jvm.MethodName)) ∈ lw_all := lw_g (lw_at lw_m6 4 rfl) rfl
theorem q1508 : (Jvm.Cond.methodLink "TileServer" (340 : Nat) ({ cls := "TileServer", name := "placed", desc := "(LTileServer$Shape;ILjava/util/List;)LTileServer$Label;" } : Jvm.MethodName)) ∈ lw_all := lw_g (lw_at lw_m7 7 rfl) rfl
theorem q1509 : (Jvm.Cond.privateMethod ({ cls := "TileServer", name := "placed", desc := "(LTileServer$Shape;ILjava/util/List;)LTileServer$Label;" } : Jvm.MethodName)) ∈ lw_tbl := lw_at lw_m7 8 rfl
theorem q1510 : (Jvm.Cond.instanceMethod ({ cls := "TileServer", name := "placed", desc := "(LTileServer$Shape;ILjava/util/List;)LTileServer$Label;" } : Jvm.MethodName)) ∈ lw_all := lw_g (lw_at lw_m7 9 rfl) rfl
theorem q1511 : (Jvm.Cond.code ({ cls := "TileServer", name := "placed", desc := "(LTileServer$Shape;ILjava/util/List;)LTileServer$Label;" } : Jvm.MethodName) prog_1_method_58_code (11 : Nat) (Option.some (Jvm.ClassFile.FieldType.object "TileServer$Label"))) ∈ lw_all := lw_g (lw_at lw_m7 10 rfl) rfl
theorem q1512 : (Jvm.Cond.methodLink "TileServer" (326 : Nat) ({ cls := "TileServer$Way", name := "place", desc := "(IIII)LTileServer$Box;" } : Jvm.MethodName)) ∈ lw_all := lw_g (lw_at lw_m7 11 rfl) rfl
theorem q1535 : (Jvm.Cond.methodLink "TileServer" (330 : Nat) ({ cls := "TileServer", name := "isFree", desc := "(LTileServer$Box;Ljava/util/List;)Z" } : Jvm.MethodName)) ∈ lw_all := lw_g (lw_at lw_m7 34 rfl) rfl
theorem q1536 : (Jvm.Cond.privateMethod ({ cls := "TileServer", name := "isFree", desc := "(LTileServer$Box;Ljava/util/List;)Z" } : Jvm.MethodName)) ∈ lw_tbl := lw_at lw_m7 35 rfl
theorem q1537 : (Jvm.Cond.instanceMethod ({ cls := "TileServer", name := "isFree", desc := "(LTileServer$Box;Ljava/util/List;)Z" } : Jvm.MethodName)) ∈ lw_all := lw_g (lw_at lw_m7 36 rfl) rfl
theorem q1538 : (Jvm.Cond.code ({ cls := "TileServer", name := "isFree", desc := "(LTileServer$Box;Ljava/util/List;)Z" } : Jvm.MethodName) prog_1_method_57_code (6 : Nat) (Option.some Jvm.ClassFile.FieldType.boolean)) ∈ lw_all := lw_g (lw_at lw_m7 37 rfl) rfl
theorem q1539 : (Jvm.Cond.methodLink "TileServer" (317 : Nat) ({ cls := "TileServer$Box", name := "isWithin", desc := "(LTileServer$Box;)Z" } : Jvm.MethodName)) ∈ lw_all := lw_g (lw_at lw_m7 38 rfl) rfl
theorem q1543 : (Jvm.Cond.classLink "TileServer" (320 : Nat) "TileServer$Label") ∈ lw_all := lw_g (lw_at lw_m7 42 rfl) rfl
theorem q1544 : (Jvm.Cond.methodLink "TileServer" (323 : Nat) ({ cls := "TileServer$Box", name := "overlaps", desc := "(LTileServer$Box;)Z" } : Jvm.MethodName)) ∈ lw_all := lw_g (lw_at lw_m7 43 rfl) rfl
theorem q1549 : (Jvm.Cond.methodLink "TileServer" (334 : Nat) ({ cls := "TileServer$Label", name := "<init>", desc := "(LTileServer$Shape;LTileServer$Way;LTileServer$Box;)V" } : Jvm.MethodName)) ∈ lw_all := lw_g (lw_at lw_m7 48 rfl) rfl
theorem q1554 : (Jvm.Cond.fieldLinkNest "TileServer" (348 : Nat) "TileServer$Label" "shape" "LTileServer$Shape;" "TileServer") ∈ lw_tbl := lw_at lw_m7 53 rfl
theorem q1556 : (Jvm.Cond.fieldLinkNest "TileServer" (356 : Nat) "TileServer$Label" "way" "LTileServer$Way;" "TileServer") ∈ lw_tbl := lw_at lw_m7 55 rfl
theorem q1558 : (Jvm.Cond.fieldLinkNest "TileServer" (322 : Nat) "TileServer$Label" "box" "LTileServer$Box;" "TileServer") ∈ lw_tbl := lw_at lw_m7 57 rfl
theorem q1570 : (Jvm.Cond.instanceMethod ({ cls := "TileServer", name := "labelLeft", desc := "(II)I" } : Jvm.MethodName)) ∈ lw_all := lw_g (lw_at lw_m7 69 rfl) rfl
theorem q1571 : (Jvm.Cond.selects "TileServer" ({ cls := "TileServer", name := "labelLeft", desc := "(II)I" } : Jvm.MethodName) ({ cls := "TileServer", name := "labelLeft", desc := "(II)I" } : Jvm.MethodName)) ∈ lw_all := lw_g (lw_at lw_m7 70 rfl) rfl
theorem q1572 : (Jvm.Cond.code ({ cls := "TileServer", name := "labelLeft", desc := "(II)I" } : Jvm.MethodName) prog_1_method_62_code (4 : Nat) (Option.some Jvm.ClassFile.FieldType.int)) ∈ lw_all := lw_g (lw_at lw_m7 71 rfl) rfl
theorem q1577 : (Jvm.Cond.instanceMethod ({ cls := "TileServer", name := "labelLow", desc := "(II)I" } : Jvm.MethodName)) ∈ lw_all := lw_g (lw_at lw_m7 76 rfl) rfl
theorem q1578 : (Jvm.Cond.selects "TileServer" ({ cls := "TileServer", name := "labelLow", desc := "(II)I" } : Jvm.MethodName) ({ cls := "TileServer", name := "labelLow", desc := "(II)I" } : Jvm.MethodName)) ∈ lw_all := lw_g (lw_at lw_m7 77 rfl) rfl
theorem q1579 : (Jvm.Cond.code ({ cls := "TileServer", name := "labelLow", desc := "(II)I" } : Jvm.MethodName) prog_1_method_63_code (4 : Nat) (Option.some Jvm.ClassFile.FieldType.int)) ∈ lw_all := lw_g (lw_at lw_m7 78 rfl) rfl
theorem q1584 : (Jvm.Cond.instanceMethod ({ cls := "TileServer", name := "shownLabels", desc := "(I)I" } : Jvm.MethodName)) ∈ lw_all := lw_g (lw_at lw_m7 83 rfl) rfl
theorem q1585 : (Jvm.Cond.selects "TileServer" ({ cls := "TileServer", name := "shownLabels", desc := "(I)I" } : Jvm.MethodName) ({ cls := "TileServer", name := "shownLabels", desc := "(I)I" } : Jvm.MethodName)) ∈ lw_all := lw_g (lw_at lw_m7 84 rfl) rfl
theorem q1586 : (Jvm.Cond.code ({ cls := "TileServer", name := "shownLabels", desc := "(I)I" } : Jvm.MethodName) prog_1_method_64_code (2 : Nat) (Option.some Jvm.ClassFile.FieldType.int)) ∈ lw_all := lw_g (lw_at lw_m7 85 rfl) rfl
theorem q1591 : (Jvm.Cond.instanceMethod ({ cls := "TileServer", name := "meanKept", desc := "(I)D" } : Jvm.MethodName)) ∈ lw_all := lw_g (lw_at lw_m7 90 rfl) rfl
theorem q1592 : (Jvm.Cond.selects "TileServer" ({ cls := "TileServer", name := "meanKept", desc := "(I)D" } : Jvm.MethodName) ({ cls := "TileServer", name := "meanKept", desc := "(I)D" } : Jvm.MethodName)) ∈ lw_all := lw_g (lw_at lw_m7 91 rfl) rfl
theorem q1593 : (Jvm.Cond.code ({ cls := "TileServer", name := "meanKept", desc := "(I)D" } : Jvm.MethodName) prog_1_method_66_code (7 : Nat) (Option.some Jvm.ClassFile.FieldType.double)) ∈ lw_all := lw_g (lw_at lw_m7 92 rfl) rfl
theorem q1991 : (Jvm.Cond.castable "TileServer" "java/lang/Object") ∈ lw_tbl := lw_at lw_m9 10 rfl
theorem q2031 : (Jvm.Cond.fieldLinkNest "TileServer" (360 : Nat) "TileServer$Way" "letter" "C" "TileServer") ∈ lw_tbl := lw_at lw_m9 50 rfl
theorem in_X1 : ∀ w ∈ wsX10, w ∈ lw_all := lw_in wsX10 [192, 194, 196, 198, 200, 202, 204, 206, 208, 210] (by decide +kernel) (by decide +kernel)
