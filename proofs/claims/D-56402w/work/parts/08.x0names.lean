/-! TileServerLaw -/
set_option maxRecDepth 100000
def RX0 : String := "TileServerLaw"
abbrev cX0_addLine : ByteArray := method_3_code
def yX0_addLine : MethodName := ⟨RX0, "addLine", "(LTileServer;IIII[J)I"⟩
def dkwX0_addLine_1 : List UInt8 := [172, 3, 172]
abbrev dktX0_addLine_1 : List UInt8 := dkwX0_addLine_1 ++ []
def dkwX0_addLine_0 : List UInt8 := [25, 5, 3, 42, 27, 28, 29, 21, 4, 182, 0, 7, 133, 80, 167, 0, 11, 58, 6, 4, 172, 58, 6, 5]
abbrev dktX0_addLine_0 : List UInt8 := dkwX0_addLine_0 ++ dktX0_addLine_1
theorem dksX0_addLine_0 : cX0_addLine.data.toList.drop 0 = dktX0_addLine_0 := by decide +kernel
theorem dksX0_addLine_1 : cX0_addLine.data.toList.drop 24 = dktX0_addLine_1 := dk_seg dksX0_addLine_0 24 rfl rfl
theorem dX0_addLine_0 : decode cX0_addLine 0 = .ok (.aload 5, 2) := dk_25 5 (dk_at dksX0_addLine_0 0 rfl rfl)
theorem dX0_addLine_2 : decode cX0_addLine 2 = .ok (.iconst 0, 1) := dk_3 (dk_at dksX0_addLine_0 2 rfl rfl)
theorem dX0_addLine_3 : decode cX0_addLine 3 = .ok (.aload_n 0, 1) := dk_42 (dk_at dksX0_addLine_0 3 rfl rfl)
theorem dX0_addLine_4 : decode cX0_addLine 4 = .ok (.iload_n 1, 1) := dk_27 (dk_at dksX0_addLine_0 4 rfl rfl)
theorem dX0_addLine_5 : decode cX0_addLine 5 = .ok (.iload_n 2, 1) := dk_28 (dk_at dksX0_addLine_0 5 rfl rfl)
theorem dX0_addLine_6 : decode cX0_addLine 6 = .ok (.iload_n 3, 1) := dk_29 (dk_at dksX0_addLine_0 6 rfl rfl)
theorem dX0_addLine_7 : decode cX0_addLine 7 = .ok (.iload 4, 2) := dk_21 4 (dk_at dksX0_addLine_0 7 rfl rfl)
theorem dX0_addLine_9 : decode cX0_addLine 9 = .ok (.invokevirtual 7, 3) := dk_182 0 7 (dk_at dksX0_addLine_0 9 rfl rfl)
theorem dX0_addLine_12 : decode cX0_addLine 12 = .ok (.i2l, 1) := dk_133 (dk_at dksX0_addLine_0 12 rfl rfl)
theorem dX0_addLine_13 : decode cX0_addLine 13 = .ok (.lastore, 1) := dk_80 (dk_at dksX0_addLine_0 13 rfl rfl)
theorem dX0_addLine_14 : decode cX0_addLine 14 = .ok (.goto 11, 3) := dk_167 0 11 (dk_at dksX0_addLine_0 14 rfl rfl)
theorem dX0_addLine_17 : decode cX0_addLine 17 = .ok (.astore 6, 2) := dk_58 6 (dk_at dksX0_addLine_0 17 rfl rfl)
theorem dX0_addLine_19 : decode cX0_addLine 19 = .ok (.iconst 1, 1) := dk_4 (dk_at dksX0_addLine_0 19 rfl rfl)
theorem dX0_addLine_20 : decode cX0_addLine 20 = .ok (.ireturn, 1) := dk_172 (dk_at dksX0_addLine_0 20 rfl rfl)
theorem dX0_addLine_21 : decode cX0_addLine 21 = .ok (.astore 6, 2) := dk_58 6 (dk_at dksX0_addLine_0 21 rfl rfl)
theorem dX0_addLine_23 : decode cX0_addLine 23 = .ok (.iconst 2, 1) := dk_5 (dk_at dksX0_addLine_0 23 rfl rfl)
theorem dX0_addLine_24 : decode cX0_addLine 24 = .ok (.ireturn, 1) := dk_172 (dk_at dksX0_addLine_1 0 rfl rfl)
theorem dX0_addLine_25 : decode cX0_addLine 25 = .ok (.iconst 0, 1) := dk_3 (dk_at dksX0_addLine_1 1 rfl rfl)
theorem dX0_addLine_26 : decode cX0_addLine 26 = .ok (.ireturn, 1) := dk_172 (dk_at dksX0_addLine_1 2 rfl rfl)
abbrev cX0_extend : ByteArray := method_4_code
def yX0_extend : MethodName := ⟨RX0, "extend", "(LTileServer;III[J)I"⟩
def dkwX0_extend_1 : List UInt8 := [58, 5, 6, 172, 58, 5, 7, 172, 3, 172]
abbrev dktX0_extend_1 : List UInt8 := dkwX0_extend_1 ++ []
def dkwX0_extend_0 : List UInt8 := [25, 4, 3, 42, 27, 28, 29, 182, 0, 17, 133, 80, 167, 0, 19, 58, 5, 4, 172, 58, 5, 5, 172]
abbrev dktX0_extend_0 : List UInt8 := dkwX0_extend_0 ++ dktX0_extend_1
theorem dksX0_extend_0 : cX0_extend.data.toList.drop 0 = dktX0_extend_0 := by decide +kernel
theorem dksX0_extend_1 : cX0_extend.data.toList.drop 23 = dktX0_extend_1 := dk_seg dksX0_extend_0 23 rfl rfl
theorem dX0_extend_0 : decode cX0_extend 0 = .ok (.aload 4, 2) := dk_25 4 (dk_at dksX0_extend_0 0 rfl rfl)
theorem dX0_extend_2 : decode cX0_extend 2 = .ok (.iconst 0, 1) := dk_3 (dk_at dksX0_extend_0 2 rfl rfl)
theorem dX0_extend_3 : decode cX0_extend 3 = .ok (.aload_n 0, 1) := dk_42 (dk_at dksX0_extend_0 3 rfl rfl)
theorem dX0_extend_4 : decode cX0_extend 4 = .ok (.iload_n 1, 1) := dk_27 (dk_at dksX0_extend_0 4 rfl rfl)
theorem dX0_extend_5 : decode cX0_extend 5 = .ok (.iload_n 2, 1) := dk_28 (dk_at dksX0_extend_0 5 rfl rfl)
theorem dX0_extend_6 : decode cX0_extend 6 = .ok (.iload_n 3, 1) := dk_29 (dk_at dksX0_extend_0 6 rfl rfl)
theorem dX0_extend_7 : decode cX0_extend 7 = .ok (.invokevirtual 17, 3) := dk_182 0 17 (dk_at dksX0_extend_0 7 rfl rfl)
theorem dX0_extend_10 : decode cX0_extend 10 = .ok (.i2l, 1) := dk_133 (dk_at dksX0_extend_0 10 rfl rfl)
theorem dX0_extend_11 : decode cX0_extend 11 = .ok (.lastore, 1) := dk_80 (dk_at dksX0_extend_0 11 rfl rfl)
theorem dX0_extend_12 : decode cX0_extend 12 = .ok (.goto 19, 3) := dk_167 0 19 (dk_at dksX0_extend_0 12 rfl rfl)
theorem dX0_extend_15 : decode cX0_extend 15 = .ok (.astore 5, 2) := dk_58 5 (dk_at dksX0_extend_0 15 rfl rfl)
theorem dX0_extend_17 : decode cX0_extend 17 = .ok (.iconst 1, 1) := dk_4 (dk_at dksX0_extend_0 17 rfl rfl)
theorem dX0_extend_18 : decode cX0_extend 18 = .ok (.ireturn, 1) := dk_172 (dk_at dksX0_extend_0 18 rfl rfl)
theorem dX0_extend_19 : decode cX0_extend 19 = .ok (.astore 5, 2) := dk_58 5 (dk_at dksX0_extend_0 19 rfl rfl)
theorem dX0_extend_21 : decode cX0_extend 21 = .ok (.iconst 2, 1) := dk_5 (dk_at dksX0_extend_0 21 rfl rfl)
theorem dX0_extend_22 : decode cX0_extend 22 = .ok (.ireturn, 1) := dk_172 (dk_at dksX0_extend_0 22 rfl rfl)
theorem dX0_extend_23 : decode cX0_extend 23 = .ok (.astore 5, 2) := dk_58 5 (dk_at dksX0_extend_1 0 rfl rfl)
theorem dX0_extend_25 : decode cX0_extend 25 = .ok (.iconst 3, 1) := dk_6 (dk_at dksX0_extend_1 2 rfl rfl)
theorem dX0_extend_26 : decode cX0_extend 26 = .ok (.ireturn, 1) := dk_172 (dk_at dksX0_extend_1 3 rfl rfl)
theorem dX0_extend_27 : decode cX0_extend 27 = .ok (.astore 5, 2) := dk_58 5 (dk_at dksX0_extend_1 4 rfl rfl)
theorem dX0_extend_29 : decode cX0_extend 29 = .ok (.iconst 4, 1) := dk_7 (dk_at dksX0_extend_1 6 rfl rfl)
theorem dX0_extend_30 : decode cX0_extend 30 = .ok (.ireturn, 1) := dk_172 (dk_at dksX0_extend_1 7 rfl rfl)
theorem dX0_extend_31 : decode cX0_extend 31 = .ok (.iconst 0, 1) := dk_3 (dk_at dksX0_extend_1 8 rfl rfl)
theorem dX0_extend_32 : decode cX0_extend 32 = .ok (.ireturn, 1) := dk_172 (dk_at dksX0_extend_1 9 rfl rfl)
abbrev cX0_movePoint : ByteArray := method_5_code
def yX0_movePoint : MethodName := ⟨RX0, "movePoint", "(LTileServer;IIII[J)I"⟩
def dkwX0_movePoint_1 : List UInt8 := [172, 58, 6, 6, 172, 58, 6, 7, 172, 3, 172]
abbrev dktX0_movePoint_1 : List UInt8 := dkwX0_movePoint_1 ++ []
def dkwX0_movePoint_0 : List UInt8 := [25, 5, 3, 42, 27, 28, 29, 21, 4, 182, 0, 25, 133, 80, 167, 0, 19, 58, 6, 4, 172, 58, 6, 5]
abbrev dktX0_movePoint_0 : List UInt8 := dkwX0_movePoint_0 ++ dktX0_movePoint_1
theorem dksX0_movePoint_0 : cX0_movePoint.data.toList.drop 0 = dktX0_movePoint_0 := by decide +kernel
theorem dksX0_movePoint_1 : cX0_movePoint.data.toList.drop 24 = dktX0_movePoint_1 := dk_seg dksX0_movePoint_0 24 rfl rfl
theorem dX0_movePoint_0 : decode cX0_movePoint 0 = .ok (.aload 5, 2) := dk_25 5 (dk_at dksX0_movePoint_0 0 rfl rfl)
theorem dX0_movePoint_2 : decode cX0_movePoint 2 = .ok (.iconst 0, 1) := dk_3 (dk_at dksX0_movePoint_0 2 rfl rfl)
theorem dX0_movePoint_3 : decode cX0_movePoint 3 = .ok (.aload_n 0, 1) := dk_42 (dk_at dksX0_movePoint_0 3 rfl rfl)
theorem dX0_movePoint_4 : decode cX0_movePoint 4 = .ok (.iload_n 1, 1) := dk_27 (dk_at dksX0_movePoint_0 4 rfl rfl)
theorem dX0_movePoint_5 : decode cX0_movePoint 5 = .ok (.iload_n 2, 1) := dk_28 (dk_at dksX0_movePoint_0 5 rfl rfl)
theorem dX0_movePoint_6 : decode cX0_movePoint 6 = .ok (.iload_n 3, 1) := dk_29 (dk_at dksX0_movePoint_0 6 rfl rfl)
theorem dX0_movePoint_7 : decode cX0_movePoint 7 = .ok (.iload 4, 2) := dk_21 4 (dk_at dksX0_movePoint_0 7 rfl rfl)
theorem dX0_movePoint_9 : decode cX0_movePoint 9 = .ok (.invokevirtual 25, 3) := dk_182 0 25 (dk_at dksX0_movePoint_0 9 rfl rfl)
theorem dX0_movePoint_12 : decode cX0_movePoint 12 = .ok (.i2l, 1) := dk_133 (dk_at dksX0_movePoint_0 12 rfl rfl)
theorem dX0_movePoint_13 : decode cX0_movePoint 13 = .ok (.lastore, 1) := dk_80 (dk_at dksX0_movePoint_0 13 rfl rfl)
theorem dX0_movePoint_14 : decode cX0_movePoint 14 = .ok (.goto 19, 3) := dk_167 0 19 (dk_at dksX0_movePoint_0 14 rfl rfl)
theorem dX0_movePoint_17 : decode cX0_movePoint 17 = .ok (.astore 6, 2) := dk_58 6 (dk_at dksX0_movePoint_0 17 rfl rfl)
theorem dX0_movePoint_19 : decode cX0_movePoint 19 = .ok (.iconst 1, 1) := dk_4 (dk_at dksX0_movePoint_0 19 rfl rfl)
theorem dX0_movePoint_20 : decode cX0_movePoint 20 = .ok (.ireturn, 1) := dk_172 (dk_at dksX0_movePoint_0 20 rfl rfl)
theorem dX0_movePoint_21 : decode cX0_movePoint 21 = .ok (.astore 6, 2) := dk_58 6 (dk_at dksX0_movePoint_0 21 rfl rfl)
theorem dX0_movePoint_23 : decode cX0_movePoint 23 = .ok (.iconst 2, 1) := dk_5 (dk_at dksX0_movePoint_0 23 rfl rfl)
theorem dX0_movePoint_24 : decode cX0_movePoint 24 = .ok (.ireturn, 1) := dk_172 (dk_at dksX0_movePoint_1 0 rfl rfl)
theorem dX0_movePoint_25 : decode cX0_movePoint 25 = .ok (.astore 6, 2) := dk_58 6 (dk_at dksX0_movePoint_1 1 rfl rfl)
theorem dX0_movePoint_27 : decode cX0_movePoint 27 = .ok (.iconst 3, 1) := dk_6 (dk_at dksX0_movePoint_1 3 rfl rfl)
theorem dX0_movePoint_28 : decode cX0_movePoint 28 = .ok (.ireturn, 1) := dk_172 (dk_at dksX0_movePoint_1 4 rfl rfl)
theorem dX0_movePoint_29 : decode cX0_movePoint 29 = .ok (.astore 6, 2) := dk_58 6 (dk_at dksX0_movePoint_1 5 rfl rfl)
theorem dX0_movePoint_31 : decode cX0_movePoint 31 = .ok (.iconst 4, 1) := dk_7 (dk_at dksX0_movePoint_1 7 rfl rfl)
theorem dX0_movePoint_32 : decode cX0_movePoint 32 = .ok (.ireturn, 1) := dk_172 (dk_at dksX0_movePoint_1 8 rfl rfl)
theorem dX0_movePoint_33 : decode cX0_movePoint 33 = .ok (.iconst 0, 1) := dk_3 (dk_at dksX0_movePoint_1 9 rfl rfl)
theorem dX0_movePoint_34 : decode cX0_movePoint 34 = .ok (.ireturn, 1) := dk_172 (dk_at dksX0_movePoint_1 10 rfl rfl)
abbrev cX0_dropPoint : ByteArray := method_6_code
def yX0_dropPoint : MethodName := ⟨RX0, "dropPoint", "(LTileServer;II[J)I"⟩
def dkwX0_dropPoint_1 : List UInt8 := [172, 58, 4, 7, 172, 3, 172]
abbrev dktX0_dropPoint_1 : List UInt8 := dkwX0_dropPoint_1 ++ []
def dkwX0_dropPoint_0 : List UInt8 := [45, 3, 42, 27, 28, 182, 0, 30, 133, 80, 167, 0, 19, 58, 4, 4, 172, 58, 4, 5, 172, 58, 4, 6]
abbrev dktX0_dropPoint_0 : List UInt8 := dkwX0_dropPoint_0 ++ dktX0_dropPoint_1
theorem dksX0_dropPoint_0 : cX0_dropPoint.data.toList.drop 0 = dktX0_dropPoint_0 := by decide +kernel
theorem dksX0_dropPoint_1 : cX0_dropPoint.data.toList.drop 24 = dktX0_dropPoint_1 := dk_seg dksX0_dropPoint_0 24 rfl rfl
theorem dX0_dropPoint_0 : decode cX0_dropPoint 0 = .ok (.aload_n 3, 1) := dk_45 (dk_at dksX0_dropPoint_0 0 rfl rfl)
theorem dX0_dropPoint_1 : decode cX0_dropPoint 1 = .ok (.iconst 0, 1) := dk_3 (dk_at dksX0_dropPoint_0 1 rfl rfl)
theorem dX0_dropPoint_2 : decode cX0_dropPoint 2 = .ok (.aload_n 0, 1) := dk_42 (dk_at dksX0_dropPoint_0 2 rfl rfl)
theorem dX0_dropPoint_3 : decode cX0_dropPoint 3 = .ok (.iload_n 1, 1) := dk_27 (dk_at dksX0_dropPoint_0 3 rfl rfl)
theorem dX0_dropPoint_4 : decode cX0_dropPoint 4 = .ok (.iload_n 2, 1) := dk_28 (dk_at dksX0_dropPoint_0 4 rfl rfl)
theorem dX0_dropPoint_5 : decode cX0_dropPoint 5 = .ok (.invokevirtual 30, 3) := dk_182 0 30 (dk_at dksX0_dropPoint_0 5 rfl rfl)
theorem dX0_dropPoint_8 : decode cX0_dropPoint 8 = .ok (.i2l, 1) := dk_133 (dk_at dksX0_dropPoint_0 8 rfl rfl)
theorem dX0_dropPoint_9 : decode cX0_dropPoint 9 = .ok (.lastore, 1) := dk_80 (dk_at dksX0_dropPoint_0 9 rfl rfl)
theorem dX0_dropPoint_10 : decode cX0_dropPoint 10 = .ok (.goto 19, 3) := dk_167 0 19 (dk_at dksX0_dropPoint_0 10 rfl rfl)
theorem dX0_dropPoint_13 : decode cX0_dropPoint 13 = .ok (.astore 4, 2) := dk_58 4 (dk_at dksX0_dropPoint_0 13 rfl rfl)
theorem dX0_dropPoint_15 : decode cX0_dropPoint 15 = .ok (.iconst 1, 1) := dk_4 (dk_at dksX0_dropPoint_0 15 rfl rfl)
theorem dX0_dropPoint_16 : decode cX0_dropPoint 16 = .ok (.ireturn, 1) := dk_172 (dk_at dksX0_dropPoint_0 16 rfl rfl)
theorem dX0_dropPoint_17 : decode cX0_dropPoint 17 = .ok (.astore 4, 2) := dk_58 4 (dk_at dksX0_dropPoint_0 17 rfl rfl)
theorem dX0_dropPoint_19 : decode cX0_dropPoint 19 = .ok (.iconst 2, 1) := dk_5 (dk_at dksX0_dropPoint_0 19 rfl rfl)
theorem dX0_dropPoint_20 : decode cX0_dropPoint 20 = .ok (.ireturn, 1) := dk_172 (dk_at dksX0_dropPoint_0 20 rfl rfl)
theorem dX0_dropPoint_21 : decode cX0_dropPoint 21 = .ok (.astore 4, 2) := dk_58 4 (dk_at dksX0_dropPoint_0 21 rfl rfl)
theorem dX0_dropPoint_23 : decode cX0_dropPoint 23 = .ok (.iconst 3, 1) := dk_6 (dk_at dksX0_dropPoint_0 23 rfl rfl)
theorem dX0_dropPoint_24 : decode cX0_dropPoint 24 = .ok (.ireturn, 1) := dk_172 (dk_at dksX0_dropPoint_1 0 rfl rfl)
theorem dX0_dropPoint_25 : decode cX0_dropPoint 25 = .ok (.astore 4, 2) := dk_58 4 (dk_at dksX0_dropPoint_1 1 rfl rfl)
theorem dX0_dropPoint_27 : decode cX0_dropPoint 27 = .ok (.iconst 4, 1) := dk_7 (dk_at dksX0_dropPoint_1 3 rfl rfl)
theorem dX0_dropPoint_28 : decode cX0_dropPoint 28 = .ok (.ireturn, 1) := dk_172 (dk_at dksX0_dropPoint_1 4 rfl rfl)
theorem dX0_dropPoint_29 : decode cX0_dropPoint 29 = .ok (.iconst 0, 1) := dk_3 (dk_at dksX0_dropPoint_1 5 rfl rfl)
theorem dX0_dropPoint_30 : decode cX0_dropPoint 30 = .ok (.ireturn, 1) := dk_172 (dk_at dksX0_dropPoint_1 6 rfl rfl)
abbrev cX0_addArea : ByteArray := method_7_code
def yX0_addArea : MethodName := ⟨RX0, "addArea", "(LTileServer;IIII[J)I"⟩
def dkwX0_addArea_1 : List UInt8 := [172, 3, 172]
abbrev dktX0_addArea_1 : List UInt8 := dkwX0_addArea_1 ++ []
def dkwX0_addArea_0 : List UInt8 := [25, 5, 3, 42, 27, 28, 29, 21, 4, 182, 0, 34, 133, 80, 167, 0, 11, 58, 6, 4, 172, 58, 6, 5]
abbrev dktX0_addArea_0 : List UInt8 := dkwX0_addArea_0 ++ dktX0_addArea_1
theorem dksX0_addArea_0 : cX0_addArea.data.toList.drop 0 = dktX0_addArea_0 := by decide +kernel
theorem dksX0_addArea_1 : cX0_addArea.data.toList.drop 24 = dktX0_addArea_1 := dk_seg dksX0_addArea_0 24 rfl rfl
theorem dX0_addArea_0 : decode cX0_addArea 0 = .ok (.aload 5, 2) := dk_25 5 (dk_at dksX0_addArea_0 0 rfl rfl)
theorem dX0_addArea_2 : decode cX0_addArea 2 = .ok (.iconst 0, 1) := dk_3 (dk_at dksX0_addArea_0 2 rfl rfl)
theorem dX0_addArea_3 : decode cX0_addArea 3 = .ok (.aload_n 0, 1) := dk_42 (dk_at dksX0_addArea_0 3 rfl rfl)
theorem dX0_addArea_4 : decode cX0_addArea 4 = .ok (.iload_n 1, 1) := dk_27 (dk_at dksX0_addArea_0 4 rfl rfl)
theorem dX0_addArea_5 : decode cX0_addArea 5 = .ok (.iload_n 2, 1) := dk_28 (dk_at dksX0_addArea_0 5 rfl rfl)
theorem dX0_addArea_6 : decode cX0_addArea 6 = .ok (.iload_n 3, 1) := dk_29 (dk_at dksX0_addArea_0 6 rfl rfl)
theorem dX0_addArea_7 : decode cX0_addArea 7 = .ok (.iload 4, 2) := dk_21 4 (dk_at dksX0_addArea_0 7 rfl rfl)
theorem dX0_addArea_9 : decode cX0_addArea 9 = .ok (.invokevirtual 34, 3) := dk_182 0 34 (dk_at dksX0_addArea_0 9 rfl rfl)
theorem dX0_addArea_12 : decode cX0_addArea 12 = .ok (.i2l, 1) := dk_133 (dk_at dksX0_addArea_0 12 rfl rfl)
theorem dX0_addArea_13 : decode cX0_addArea 13 = .ok (.lastore, 1) := dk_80 (dk_at dksX0_addArea_0 13 rfl rfl)
theorem dX0_addArea_14 : decode cX0_addArea 14 = .ok (.goto 11, 3) := dk_167 0 11 (dk_at dksX0_addArea_0 14 rfl rfl)
theorem dX0_addArea_17 : decode cX0_addArea 17 = .ok (.astore 6, 2) := dk_58 6 (dk_at dksX0_addArea_0 17 rfl rfl)
theorem dX0_addArea_19 : decode cX0_addArea 19 = .ok (.iconst 1, 1) := dk_4 (dk_at dksX0_addArea_0 19 rfl rfl)
theorem dX0_addArea_20 : decode cX0_addArea 20 = .ok (.ireturn, 1) := dk_172 (dk_at dksX0_addArea_0 20 rfl rfl)
theorem dX0_addArea_21 : decode cX0_addArea 21 = .ok (.astore 6, 2) := dk_58 6 (dk_at dksX0_addArea_0 21 rfl rfl)
theorem dX0_addArea_23 : decode cX0_addArea 23 = .ok (.iconst 2, 1) := dk_5 (dk_at dksX0_addArea_0 23 rfl rfl)
theorem dX0_addArea_24 : decode cX0_addArea 24 = .ok (.ireturn, 1) := dk_172 (dk_at dksX0_addArea_1 0 rfl rfl)
theorem dX0_addArea_25 : decode cX0_addArea 25 = .ok (.iconst 0, 1) := dk_3 (dk_at dksX0_addArea_1 1 rfl rfl)
theorem dX0_addArea_26 : decode cX0_addArea 26 = .ok (.ireturn, 1) := dk_172 (dk_at dksX0_addArea_1 2 rfl rfl)
abbrev cX0_moveArea : ByteArray := method_8_code
def yX0_moveArea : MethodName := ⟨RX0, "moveArea", "(LTileServer;III[J)I"⟩
def dkwX0_moveArea_1 : List UInt8 := [58, 5, 6, 172, 3, 172]
abbrev dktX0_moveArea_1 : List UInt8 := dkwX0_moveArea_1 ++ []
def dkwX0_moveArea_0 : List UInt8 := [25, 4, 3, 42, 27, 28, 29, 182, 0, 37, 133, 80, 167, 0, 15, 58, 5, 4, 172, 58, 5, 5, 172]
abbrev dktX0_moveArea_0 : List UInt8 := dkwX0_moveArea_0 ++ dktX0_moveArea_1
theorem dksX0_moveArea_0 : cX0_moveArea.data.toList.drop 0 = dktX0_moveArea_0 := by decide +kernel
theorem dksX0_moveArea_1 : cX0_moveArea.data.toList.drop 23 = dktX0_moveArea_1 := dk_seg dksX0_moveArea_0 23 rfl rfl
theorem dX0_moveArea_0 : decode cX0_moveArea 0 = .ok (.aload 4, 2) := dk_25 4 (dk_at dksX0_moveArea_0 0 rfl rfl)
theorem dX0_moveArea_2 : decode cX0_moveArea 2 = .ok (.iconst 0, 1) := dk_3 (dk_at dksX0_moveArea_0 2 rfl rfl)
theorem dX0_moveArea_3 : decode cX0_moveArea 3 = .ok (.aload_n 0, 1) := dk_42 (dk_at dksX0_moveArea_0 3 rfl rfl)
theorem dX0_moveArea_4 : decode cX0_moveArea 4 = .ok (.iload_n 1, 1) := dk_27 (dk_at dksX0_moveArea_0 4 rfl rfl)
theorem dX0_moveArea_5 : decode cX0_moveArea 5 = .ok (.iload_n 2, 1) := dk_28 (dk_at dksX0_moveArea_0 5 rfl rfl)
theorem dX0_moveArea_6 : decode cX0_moveArea 6 = .ok (.iload_n 3, 1) := dk_29 (dk_at dksX0_moveArea_0 6 rfl rfl)
theorem dX0_moveArea_7 : decode cX0_moveArea 7 = .ok (.invokevirtual 37, 3) := dk_182 0 37 (dk_at dksX0_moveArea_0 7 rfl rfl)
theorem dX0_moveArea_10 : decode cX0_moveArea 10 = .ok (.i2l, 1) := dk_133 (dk_at dksX0_moveArea_0 10 rfl rfl)
theorem dX0_moveArea_11 : decode cX0_moveArea 11 = .ok (.lastore, 1) := dk_80 (dk_at dksX0_moveArea_0 11 rfl rfl)
theorem dX0_moveArea_12 : decode cX0_moveArea 12 = .ok (.goto 15, 3) := dk_167 0 15 (dk_at dksX0_moveArea_0 12 rfl rfl)
theorem dX0_moveArea_15 : decode cX0_moveArea 15 = .ok (.astore 5, 2) := dk_58 5 (dk_at dksX0_moveArea_0 15 rfl rfl)
theorem dX0_moveArea_17 : decode cX0_moveArea 17 = .ok (.iconst 1, 1) := dk_4 (dk_at dksX0_moveArea_0 17 rfl rfl)
theorem dX0_moveArea_18 : decode cX0_moveArea 18 = .ok (.ireturn, 1) := dk_172 (dk_at dksX0_moveArea_0 18 rfl rfl)
theorem dX0_moveArea_19 : decode cX0_moveArea 19 = .ok (.astore 5, 2) := dk_58 5 (dk_at dksX0_moveArea_0 19 rfl rfl)
theorem dX0_moveArea_21 : decode cX0_moveArea 21 = .ok (.iconst 2, 1) := dk_5 (dk_at dksX0_moveArea_0 21 rfl rfl)
theorem dX0_moveArea_22 : decode cX0_moveArea 22 = .ok (.ireturn, 1) := dk_172 (dk_at dksX0_moveArea_0 22 rfl rfl)
theorem dX0_moveArea_23 : decode cX0_moveArea 23 = .ok (.astore 5, 2) := dk_58 5 (dk_at dksX0_moveArea_1 0 rfl rfl)
theorem dX0_moveArea_25 : decode cX0_moveArea 25 = .ok (.iconst 3, 1) := dk_6 (dk_at dksX0_moveArea_1 2 rfl rfl)
theorem dX0_moveArea_26 : decode cX0_moveArea 26 = .ok (.ireturn, 1) := dk_172 (dk_at dksX0_moveArea_1 3 rfl rfl)
theorem dX0_moveArea_27 : decode cX0_moveArea 27 = .ok (.iconst 0, 1) := dk_3 (dk_at dksX0_moveArea_1 4 rfl rfl)
theorem dX0_moveArea_28 : decode cX0_moveArea 28 = .ok (.ireturn, 1) := dk_172 (dk_at dksX0_moveArea_1 5 rfl rfl)
abbrev cX0_remove : ByteArray := method_9_code
def yX0_remove : MethodName := ⟨RX0, "remove", "(LTileServer;I[J)I"⟩
def dkwX0_remove_0 : List UInt8 := [44, 3, 42, 27, 182, 0, 40, 133, 80, 167, 0, 6, 78, 4, 172, 3, 172]
abbrev dktX0_remove_0 : List UInt8 := dkwX0_remove_0 ++ []
theorem dksX0_remove_0 : cX0_remove.data.toList.drop 0 = dktX0_remove_0 := by decide +kernel
theorem dX0_remove_0 : decode cX0_remove 0 = .ok (.aload_n 2, 1) := dk_44 (dk_at dksX0_remove_0 0 rfl rfl)
theorem dX0_remove_1 : decode cX0_remove 1 = .ok (.iconst 0, 1) := dk_3 (dk_at dksX0_remove_0 1 rfl rfl)
theorem dX0_remove_2 : decode cX0_remove 2 = .ok (.aload_n 0, 1) := dk_42 (dk_at dksX0_remove_0 2 rfl rfl)
theorem dX0_remove_3 : decode cX0_remove 3 = .ok (.iload_n 1, 1) := dk_27 (dk_at dksX0_remove_0 3 rfl rfl)
theorem dX0_remove_4 : decode cX0_remove 4 = .ok (.invokevirtual 40, 3) := dk_182 0 40 (dk_at dksX0_remove_0 4 rfl rfl)
theorem dX0_remove_7 : decode cX0_remove 7 = .ok (.i2l, 1) := dk_133 (dk_at dksX0_remove_0 7 rfl rfl)
theorem dX0_remove_8 : decode cX0_remove 8 = .ok (.lastore, 1) := dk_80 (dk_at dksX0_remove_0 8 rfl rfl)
theorem dX0_remove_9 : decode cX0_remove 9 = .ok (.goto 6, 3) := dk_167 0 6 (dk_at dksX0_remove_0 9 rfl rfl)
theorem dX0_remove_12 : decode cX0_remove 12 = .ok (.astore_n 3, 1) := dk_78 (dk_at dksX0_remove_0 12 rfl rfl)
theorem dX0_remove_13 : decode cX0_remove 13 = .ok (.iconst 1, 1) := dk_4 (dk_at dksX0_remove_0 13 rfl rfl)
theorem dX0_remove_14 : decode cX0_remove 14 = .ok (.ireturn, 1) := dk_172 (dk_at dksX0_remove_0 14 rfl rfl)
theorem dX0_remove_15 : decode cX0_remove 15 = .ok (.iconst 0, 1) := dk_3 (dk_at dksX0_remove_0 15 rfl rfl)
theorem dX0_remove_16 : decode cX0_remove 16 = .ok (.ireturn, 1) := dk_172 (dk_at dksX0_remove_0 16 rfl rfl)
abbrev cX0_setLabel : ByteArray := method_10_code
def yX0_setLabel : MethodName := ⟨RX0, "setLabel", "(LTileServer;III[J)I"⟩
def dkwX0_setLabel_1 : List UInt8 := [172]
abbrev dktX0_setLabel_1 : List UInt8 := dkwX0_setLabel_1 ++ []
def dkwX0_setLabel_0 : List UInt8 := [25, 4, 3, 42, 27, 28, 29, 182, 0, 44, 133, 80, 167, 0, 11, 58, 5, 4, 172, 58, 5, 5, 172, 3]
abbrev dktX0_setLabel_0 : List UInt8 := dkwX0_setLabel_0 ++ dktX0_setLabel_1
theorem dksX0_setLabel_0 : cX0_setLabel.data.toList.drop 0 = dktX0_setLabel_0 := by decide +kernel
theorem dksX0_setLabel_1 : cX0_setLabel.data.toList.drop 24 = dktX0_setLabel_1 := dk_seg dksX0_setLabel_0 24 rfl rfl
theorem dX0_setLabel_0 : decode cX0_setLabel 0 = .ok (.aload 4, 2) := dk_25 4 (dk_at dksX0_setLabel_0 0 rfl rfl)
theorem dX0_setLabel_2 : decode cX0_setLabel 2 = .ok (.iconst 0, 1) := dk_3 (dk_at dksX0_setLabel_0 2 rfl rfl)
theorem dX0_setLabel_3 : decode cX0_setLabel 3 = .ok (.aload_n 0, 1) := dk_42 (dk_at dksX0_setLabel_0 3 rfl rfl)
theorem dX0_setLabel_4 : decode cX0_setLabel 4 = .ok (.iload_n 1, 1) := dk_27 (dk_at dksX0_setLabel_0 4 rfl rfl)
theorem dX0_setLabel_5 : decode cX0_setLabel 5 = .ok (.iload_n 2, 1) := dk_28 (dk_at dksX0_setLabel_0 5 rfl rfl)
theorem dX0_setLabel_6 : decode cX0_setLabel 6 = .ok (.iload_n 3, 1) := dk_29 (dk_at dksX0_setLabel_0 6 rfl rfl)
theorem dX0_setLabel_7 : decode cX0_setLabel 7 = .ok (.invokevirtual 44, 3) := dk_182 0 44 (dk_at dksX0_setLabel_0 7 rfl rfl)
theorem dX0_setLabel_10 : decode cX0_setLabel 10 = .ok (.i2l, 1) := dk_133 (dk_at dksX0_setLabel_0 10 rfl rfl)
theorem dX0_setLabel_11 : decode cX0_setLabel 11 = .ok (.lastore, 1) := dk_80 (dk_at dksX0_setLabel_0 11 rfl rfl)
theorem dX0_setLabel_12 : decode cX0_setLabel 12 = .ok (.goto 11, 3) := dk_167 0 11 (dk_at dksX0_setLabel_0 12 rfl rfl)
theorem dX0_setLabel_15 : decode cX0_setLabel 15 = .ok (.astore 5, 2) := dk_58 5 (dk_at dksX0_setLabel_0 15 rfl rfl)
theorem dX0_setLabel_17 : decode cX0_setLabel 17 = .ok (.iconst 1, 1) := dk_4 (dk_at dksX0_setLabel_0 17 rfl rfl)
theorem dX0_setLabel_18 : decode cX0_setLabel 18 = .ok (.ireturn, 1) := dk_172 (dk_at dksX0_setLabel_0 18 rfl rfl)
theorem dX0_setLabel_19 : decode cX0_setLabel 19 = .ok (.astore 5, 2) := dk_58 5 (dk_at dksX0_setLabel_0 19 rfl rfl)
theorem dX0_setLabel_21 : decode cX0_setLabel 21 = .ok (.iconst 2, 1) := dk_5 (dk_at dksX0_setLabel_0 21 rfl rfl)
theorem dX0_setLabel_22 : decode cX0_setLabel 22 = .ok (.ireturn, 1) := dk_172 (dk_at dksX0_setLabel_0 22 rfl rfl)
theorem dX0_setLabel_23 : decode cX0_setLabel 23 = .ok (.iconst 0, 1) := dk_3 (dk_at dksX0_setLabel_0 23 rfl rfl)
theorem dX0_setLabel_24 : decode cX0_setLabel 24 = .ok (.ireturn, 1) := dk_172 (dk_at dksX0_setLabel_1 0 rfl rfl)
abbrev cX0_setTolerance : ByteArray := method_11_code
def yX0_setTolerance : MethodName := ⟨RX0, "setTolerance", "(LTileServer;II[J)I"⟩
def dkwX0_setTolerance_0 : List UInt8 := [45, 3, 42, 27, 28, 182, 0, 47, 133, 80, 167, 0, 11, 58, 4, 4, 172, 58, 4, 5, 172, 3, 172]
abbrev dktX0_setTolerance_0 : List UInt8 := dkwX0_setTolerance_0 ++ []
theorem dksX0_setTolerance_0 : cX0_setTolerance.data.toList.drop 0 = dktX0_setTolerance_0 := by decide +kernel
theorem dX0_setTolerance_0 : decode cX0_setTolerance 0 = .ok (.aload_n 3, 1) := dk_45 (dk_at dksX0_setTolerance_0 0 rfl rfl)
theorem dX0_setTolerance_1 : decode cX0_setTolerance 1 = .ok (.iconst 0, 1) := dk_3 (dk_at dksX0_setTolerance_0 1 rfl rfl)
theorem dX0_setTolerance_2 : decode cX0_setTolerance 2 = .ok (.aload_n 0, 1) := dk_42 (dk_at dksX0_setTolerance_0 2 rfl rfl)
theorem dX0_setTolerance_3 : decode cX0_setTolerance 3 = .ok (.iload_n 1, 1) := dk_27 (dk_at dksX0_setTolerance_0 3 rfl rfl)
theorem dX0_setTolerance_4 : decode cX0_setTolerance 4 = .ok (.iload_n 2, 1) := dk_28 (dk_at dksX0_setTolerance_0 4 rfl rfl)
theorem dX0_setTolerance_5 : decode cX0_setTolerance 5 = .ok (.invokevirtual 47, 3) := dk_182 0 47 (dk_at dksX0_setTolerance_0 5 rfl rfl)
theorem dX0_setTolerance_8 : decode cX0_setTolerance 8 = .ok (.i2l, 1) := dk_133 (dk_at dksX0_setTolerance_0 8 rfl rfl)
theorem dX0_setTolerance_9 : decode cX0_setTolerance 9 = .ok (.lastore, 1) := dk_80 (dk_at dksX0_setTolerance_0 9 rfl rfl)
theorem dX0_setTolerance_10 : decode cX0_setTolerance 10 = .ok (.goto 11, 3) := dk_167 0 11 (dk_at dksX0_setTolerance_0 10 rfl rfl)
theorem dX0_setTolerance_13 : decode cX0_setTolerance 13 = .ok (.astore 4, 2) := dk_58 4 (dk_at dksX0_setTolerance_0 13 rfl rfl)
theorem dX0_setTolerance_15 : decode cX0_setTolerance 15 = .ok (.iconst 1, 1) := dk_4 (dk_at dksX0_setTolerance_0 15 rfl rfl)
theorem dX0_setTolerance_16 : decode cX0_setTolerance 16 = .ok (.ireturn, 1) := dk_172 (dk_at dksX0_setTolerance_0 16 rfl rfl)
theorem dX0_setTolerance_17 : decode cX0_setTolerance 17 = .ok (.astore 4, 2) := dk_58 4 (dk_at dksX0_setTolerance_0 17 rfl rfl)
theorem dX0_setTolerance_19 : decode cX0_setTolerance 19 = .ok (.iconst 2, 1) := dk_5 (dk_at dksX0_setTolerance_0 19 rfl rfl)
theorem dX0_setTolerance_20 : decode cX0_setTolerance 20 = .ok (.ireturn, 1) := dk_172 (dk_at dksX0_setTolerance_0 20 rfl rfl)
theorem dX0_setTolerance_21 : decode cX0_setTolerance 21 = .ok (.iconst 0, 1) := dk_3 (dk_at dksX0_setTolerance_0 21 rfl rfl)
theorem dX0_setTolerance_22 : decode cX0_setTolerance 22 = .ok (.ireturn, 1) := dk_172 (dk_at dksX0_setTolerance_0 22 rfl rfl)
abbrev cX0_pass : ByteArray := method_12_code
def yX0_pass : MethodName := ⟨RX0, "pass", "(LTileServer;I[J)I"⟩
def dkwX0_pass_0 : List UInt8 := [44, 3, 42, 27, 182, 0, 50, 133, 80, 167, 0, 6, 78, 4, 172, 3, 172]
abbrev dktX0_pass_0 : List UInt8 := dkwX0_pass_0 ++ []
theorem dksX0_pass_0 : cX0_pass.data.toList.drop 0 = dktX0_pass_0 := by decide +kernel
theorem dX0_pass_0 : decode cX0_pass 0 = .ok (.aload_n 2, 1) := dk_44 (dk_at dksX0_pass_0 0 rfl rfl)
theorem dX0_pass_1 : decode cX0_pass 1 = .ok (.iconst 0, 1) := dk_3 (dk_at dksX0_pass_0 1 rfl rfl)
theorem dX0_pass_2 : decode cX0_pass 2 = .ok (.aload_n 0, 1) := dk_42 (dk_at dksX0_pass_0 2 rfl rfl)
theorem dX0_pass_3 : decode cX0_pass 3 = .ok (.iload_n 1, 1) := dk_27 (dk_at dksX0_pass_0 3 rfl rfl)
theorem dX0_pass_4 : decode cX0_pass 4 = .ok (.invokevirtual 50, 3) := dk_182 0 50 (dk_at dksX0_pass_0 4 rfl rfl)
theorem dX0_pass_7 : decode cX0_pass 7 = .ok (.i2l, 1) := dk_133 (dk_at dksX0_pass_0 7 rfl rfl)
theorem dX0_pass_8 : decode cX0_pass 8 = .ok (.lastore, 1) := dk_80 (dk_at dksX0_pass_0 8 rfl rfl)
theorem dX0_pass_9 : decode cX0_pass 9 = .ok (.goto 6, 3) := dk_167 0 6 (dk_at dksX0_pass_0 9 rfl rfl)
theorem dX0_pass_12 : decode cX0_pass 12 = .ok (.astore_n 3, 1) := dk_78 (dk_at dksX0_pass_0 12 rfl rfl)
theorem dX0_pass_13 : decode cX0_pass 13 = .ok (.iconst 1, 1) := dk_4 (dk_at dksX0_pass_0 13 rfl rfl)
theorem dX0_pass_14 : decode cX0_pass 14 = .ok (.ireturn, 1) := dk_172 (dk_at dksX0_pass_0 14 rfl rfl)
theorem dX0_pass_15 : decode cX0_pass 15 = .ok (.iconst 0, 1) := dk_3 (dk_at dksX0_pass_0 15 rfl rfl)
theorem dX0_pass_16 : decode cX0_pass 16 = .ok (.ireturn, 1) := dk_172 (dk_at dksX0_pass_0 16 rfl rfl)
abbrev cX0_kindOf : ByteArray := method_13_code
def yX0_kindOf : MethodName := ⟨RX0, "kindOf", "(LTileServer;I[J)I"⟩
def dkwX0_kindOf_0 : List UInt8 := [44, 3, 42, 27, 182, 0, 53, 133, 80, 167, 0, 6, 78, 4, 172, 3, 172]
abbrev dktX0_kindOf_0 : List UInt8 := dkwX0_kindOf_0 ++ []
theorem dksX0_kindOf_0 : cX0_kindOf.data.toList.drop 0 = dktX0_kindOf_0 := by decide +kernel
theorem dX0_kindOf_0 : decode cX0_kindOf 0 = .ok (.aload_n 2, 1) := dk_44 (dk_at dksX0_kindOf_0 0 rfl rfl)
theorem dX0_kindOf_1 : decode cX0_kindOf 1 = .ok (.iconst 0, 1) := dk_3 (dk_at dksX0_kindOf_0 1 rfl rfl)
theorem dX0_kindOf_2 : decode cX0_kindOf 2 = .ok (.aload_n 0, 1) := dk_42 (dk_at dksX0_kindOf_0 2 rfl rfl)
theorem dX0_kindOf_3 : decode cX0_kindOf 3 = .ok (.iload_n 1, 1) := dk_27 (dk_at dksX0_kindOf_0 3 rfl rfl)
theorem dX0_kindOf_4 : decode cX0_kindOf 4 = .ok (.invokevirtual 53, 3) := dk_182 0 53 (dk_at dksX0_kindOf_0 4 rfl rfl)
theorem dX0_kindOf_7 : decode cX0_kindOf 7 = .ok (.i2l, 1) := dk_133 (dk_at dksX0_kindOf_0 7 rfl rfl)
theorem dX0_kindOf_8 : decode cX0_kindOf 8 = .ok (.lastore, 1) := dk_80 (dk_at dksX0_kindOf_0 8 rfl rfl)
theorem dX0_kindOf_9 : decode cX0_kindOf 9 = .ok (.goto 6, 3) := dk_167 0 6 (dk_at dksX0_kindOf_0 9 rfl rfl)
theorem dX0_kindOf_12 : decode cX0_kindOf 12 = .ok (.astore_n 3, 1) := dk_78 (dk_at dksX0_kindOf_0 12 rfl rfl)
theorem dX0_kindOf_13 : decode cX0_kindOf 13 = .ok (.iconst 1, 1) := dk_4 (dk_at dksX0_kindOf_0 13 rfl rfl)
theorem dX0_kindOf_14 : decode cX0_kindOf 14 = .ok (.ireturn, 1) := dk_172 (dk_at dksX0_kindOf_0 14 rfl rfl)
theorem dX0_kindOf_15 : decode cX0_kindOf 15 = .ok (.iconst 0, 1) := dk_3 (dk_at dksX0_kindOf_0 15 rfl rfl)
theorem dX0_kindOf_16 : decode cX0_kindOf 16 = .ok (.ireturn, 1) := dk_172 (dk_at dksX0_kindOf_0 16 rfl rfl)
abbrev cX0_points : ByteArray := method_14_code
def yX0_points : MethodName := ⟨RX0, "points", "(LTileServer;I[J)I"⟩
def dkwX0_points_0 : List UInt8 := [44, 3, 42, 27, 182, 0, 57, 133, 80, 167, 0, 9, 78, 4, 172, 78, 5, 172, 3, 172]
abbrev dktX0_points_0 : List UInt8 := dkwX0_points_0 ++ []
theorem dksX0_points_0 : cX0_points.data.toList.drop 0 = dktX0_points_0 := by decide +kernel
theorem dX0_points_0 : decode cX0_points 0 = .ok (.aload_n 2, 1) := dk_44 (dk_at dksX0_points_0 0 rfl rfl)
theorem dX0_points_1 : decode cX0_points 1 = .ok (.iconst 0, 1) := dk_3 (dk_at dksX0_points_0 1 rfl rfl)
theorem dX0_points_2 : decode cX0_points 2 = .ok (.aload_n 0, 1) := dk_42 (dk_at dksX0_points_0 2 rfl rfl)
theorem dX0_points_3 : decode cX0_points 3 = .ok (.iload_n 1, 1) := dk_27 (dk_at dksX0_points_0 3 rfl rfl)
theorem dX0_points_4 : decode cX0_points 4 = .ok (.invokevirtual 57, 3) := dk_182 0 57 (dk_at dksX0_points_0 4 rfl rfl)
theorem dX0_points_7 : decode cX0_points 7 = .ok (.i2l, 1) := dk_133 (dk_at dksX0_points_0 7 rfl rfl)
theorem dX0_points_8 : decode cX0_points 8 = .ok (.lastore, 1) := dk_80 (dk_at dksX0_points_0 8 rfl rfl)
theorem dX0_points_9 : decode cX0_points 9 = .ok (.goto 9, 3) := dk_167 0 9 (dk_at dksX0_points_0 9 rfl rfl)
theorem dX0_points_12 : decode cX0_points 12 = .ok (.astore_n 3, 1) := dk_78 (dk_at dksX0_points_0 12 rfl rfl)
theorem dX0_points_13 : decode cX0_points 13 = .ok (.iconst 1, 1) := dk_4 (dk_at dksX0_points_0 13 rfl rfl)
theorem dX0_points_14 : decode cX0_points 14 = .ok (.ireturn, 1) := dk_172 (dk_at dksX0_points_0 14 rfl rfl)
theorem dX0_points_15 : decode cX0_points 15 = .ok (.astore_n 3, 1) := dk_78 (dk_at dksX0_points_0 15 rfl rfl)
theorem dX0_points_16 : decode cX0_points 16 = .ok (.iconst 2, 1) := dk_5 (dk_at dksX0_points_0 16 rfl rfl)
theorem dX0_points_17 : decode cX0_points 17 = .ok (.ireturn, 1) := dk_172 (dk_at dksX0_points_0 17 rfl rfl)
theorem dX0_points_18 : decode cX0_points 18 = .ok (.iconst 0, 1) := dk_3 (dk_at dksX0_points_0 18 rfl rfl)
theorem dX0_points_19 : decode cX0_points 19 = .ok (.ireturn, 1) := dk_172 (dk_at dksX0_points_0 19 rfl rfl)
abbrev cX0_xOf : ByteArray := method_15_code
def yX0_xOf : MethodName := ⟨RX0, "xOf", "(LTileServer;II[J)I"⟩
def dkwX0_xOf_1 : List UInt8 := [172, 3, 172]
abbrev dktX0_xOf_1 : List UInt8 := dkwX0_xOf_1 ++ []
def dkwX0_xOf_0 : List UInt8 := [45, 3, 42, 27, 28, 182, 0, 60, 133, 80, 167, 0, 15, 58, 4, 4, 172, 58, 4, 5, 172, 58, 4, 6]
abbrev dktX0_xOf_0 : List UInt8 := dkwX0_xOf_0 ++ dktX0_xOf_1
theorem dksX0_xOf_0 : cX0_xOf.data.toList.drop 0 = dktX0_xOf_0 := by decide +kernel
theorem dksX0_xOf_1 : cX0_xOf.data.toList.drop 24 = dktX0_xOf_1 := dk_seg dksX0_xOf_0 24 rfl rfl
theorem dX0_xOf_0 : decode cX0_xOf 0 = .ok (.aload_n 3, 1) := dk_45 (dk_at dksX0_xOf_0 0 rfl rfl)
theorem dX0_xOf_1 : decode cX0_xOf 1 = .ok (.iconst 0, 1) := dk_3 (dk_at dksX0_xOf_0 1 rfl rfl)
theorem dX0_xOf_2 : decode cX0_xOf 2 = .ok (.aload_n 0, 1) := dk_42 (dk_at dksX0_xOf_0 2 rfl rfl)
theorem dX0_xOf_3 : decode cX0_xOf 3 = .ok (.iload_n 1, 1) := dk_27 (dk_at dksX0_xOf_0 3 rfl rfl)
theorem dX0_xOf_4 : decode cX0_xOf 4 = .ok (.iload_n 2, 1) := dk_28 (dk_at dksX0_xOf_0 4 rfl rfl)
theorem dX0_xOf_5 : decode cX0_xOf 5 = .ok (.invokevirtual 60, 3) := dk_182 0 60 (dk_at dksX0_xOf_0 5 rfl rfl)
theorem dX0_xOf_8 : decode cX0_xOf 8 = .ok (.i2l, 1) := dk_133 (dk_at dksX0_xOf_0 8 rfl rfl)
theorem dX0_xOf_9 : decode cX0_xOf 9 = .ok (.lastore, 1) := dk_80 (dk_at dksX0_xOf_0 9 rfl rfl)
theorem dX0_xOf_10 : decode cX0_xOf 10 = .ok (.goto 15, 3) := dk_167 0 15 (dk_at dksX0_xOf_0 10 rfl rfl)
theorem dX0_xOf_13 : decode cX0_xOf 13 = .ok (.astore 4, 2) := dk_58 4 (dk_at dksX0_xOf_0 13 rfl rfl)
theorem dX0_xOf_15 : decode cX0_xOf 15 = .ok (.iconst 1, 1) := dk_4 (dk_at dksX0_xOf_0 15 rfl rfl)
theorem dX0_xOf_16 : decode cX0_xOf 16 = .ok (.ireturn, 1) := dk_172 (dk_at dksX0_xOf_0 16 rfl rfl)
theorem dX0_xOf_17 : decode cX0_xOf 17 = .ok (.astore 4, 2) := dk_58 4 (dk_at dksX0_xOf_0 17 rfl rfl)
theorem dX0_xOf_19 : decode cX0_xOf 19 = .ok (.iconst 2, 1) := dk_5 (dk_at dksX0_xOf_0 19 rfl rfl)
theorem dX0_xOf_20 : decode cX0_xOf 20 = .ok (.ireturn, 1) := dk_172 (dk_at dksX0_xOf_0 20 rfl rfl)
theorem dX0_xOf_21 : decode cX0_xOf 21 = .ok (.astore 4, 2) := dk_58 4 (dk_at dksX0_xOf_0 21 rfl rfl)
theorem dX0_xOf_23 : decode cX0_xOf 23 = .ok (.iconst 3, 1) := dk_6 (dk_at dksX0_xOf_0 23 rfl rfl)
theorem dX0_xOf_24 : decode cX0_xOf 24 = .ok (.ireturn, 1) := dk_172 (dk_at dksX0_xOf_1 0 rfl rfl)
theorem dX0_xOf_25 : decode cX0_xOf 25 = .ok (.iconst 0, 1) := dk_3 (dk_at dksX0_xOf_1 1 rfl rfl)
theorem dX0_xOf_26 : decode cX0_xOf 26 = .ok (.ireturn, 1) := dk_172 (dk_at dksX0_xOf_1 2 rfl rfl)
abbrev cX0_yOf : ByteArray := method_16_code
def yX0_yOf : MethodName := ⟨RX0, "yOf", "(LTileServer;II[J)I"⟩
def dkwX0_yOf_1 : List UInt8 := [172, 3, 172]
abbrev dktX0_yOf_1 : List UInt8 := dkwX0_yOf_1 ++ []
def dkwX0_yOf_0 : List UInt8 := [45, 3, 42, 27, 28, 182, 0, 63, 133, 80, 167, 0, 15, 58, 4, 4, 172, 58, 4, 5, 172, 58, 4, 6]
abbrev dktX0_yOf_0 : List UInt8 := dkwX0_yOf_0 ++ dktX0_yOf_1
theorem dksX0_yOf_0 : cX0_yOf.data.toList.drop 0 = dktX0_yOf_0 := by decide +kernel
theorem dksX0_yOf_1 : cX0_yOf.data.toList.drop 24 = dktX0_yOf_1 := dk_seg dksX0_yOf_0 24 rfl rfl
theorem dX0_yOf_0 : decode cX0_yOf 0 = .ok (.aload_n 3, 1) := dk_45 (dk_at dksX0_yOf_0 0 rfl rfl)
theorem dX0_yOf_1 : decode cX0_yOf 1 = .ok (.iconst 0, 1) := dk_3 (dk_at dksX0_yOf_0 1 rfl rfl)
theorem dX0_yOf_2 : decode cX0_yOf 2 = .ok (.aload_n 0, 1) := dk_42 (dk_at dksX0_yOf_0 2 rfl rfl)
theorem dX0_yOf_3 : decode cX0_yOf 3 = .ok (.iload_n 1, 1) := dk_27 (dk_at dksX0_yOf_0 3 rfl rfl)
theorem dX0_yOf_4 : decode cX0_yOf 4 = .ok (.iload_n 2, 1) := dk_28 (dk_at dksX0_yOf_0 4 rfl rfl)
theorem dX0_yOf_5 : decode cX0_yOf 5 = .ok (.invokevirtual 63, 3) := dk_182 0 63 (dk_at dksX0_yOf_0 5 rfl rfl)
theorem dX0_yOf_8 : decode cX0_yOf 8 = .ok (.i2l, 1) := dk_133 (dk_at dksX0_yOf_0 8 rfl rfl)
theorem dX0_yOf_9 : decode cX0_yOf 9 = .ok (.lastore, 1) := dk_80 (dk_at dksX0_yOf_0 9 rfl rfl)
theorem dX0_yOf_10 : decode cX0_yOf 10 = .ok (.goto 15, 3) := dk_167 0 15 (dk_at dksX0_yOf_0 10 rfl rfl)
theorem dX0_yOf_13 : decode cX0_yOf 13 = .ok (.astore 4, 2) := dk_58 4 (dk_at dksX0_yOf_0 13 rfl rfl)
theorem dX0_yOf_15 : decode cX0_yOf 15 = .ok (.iconst 1, 1) := dk_4 (dk_at dksX0_yOf_0 15 rfl rfl)
theorem dX0_yOf_16 : decode cX0_yOf 16 = .ok (.ireturn, 1) := dk_172 (dk_at dksX0_yOf_0 16 rfl rfl)
theorem dX0_yOf_17 : decode cX0_yOf 17 = .ok (.astore 4, 2) := dk_58 4 (dk_at dksX0_yOf_0 17 rfl rfl)
theorem dX0_yOf_19 : decode cX0_yOf 19 = .ok (.iconst 2, 1) := dk_5 (dk_at dksX0_yOf_0 19 rfl rfl)
theorem dX0_yOf_20 : decode cX0_yOf 20 = .ok (.ireturn, 1) := dk_172 (dk_at dksX0_yOf_0 20 rfl rfl)
theorem dX0_yOf_21 : decode cX0_yOf 21 = .ok (.astore 4, 2) := dk_58 4 (dk_at dksX0_yOf_0 21 rfl rfl)
theorem dX0_yOf_23 : decode cX0_yOf 23 = .ok (.iconst 3, 1) := dk_6 (dk_at dksX0_yOf_0 23 rfl rfl)
theorem dX0_yOf_24 : decode cX0_yOf 24 = .ok (.ireturn, 1) := dk_172 (dk_at dksX0_yOf_1 0 rfl rfl)
theorem dX0_yOf_25 : decode cX0_yOf 25 = .ok (.iconst 0, 1) := dk_3 (dk_at dksX0_yOf_1 1 rfl rfl)
theorem dX0_yOf_26 : decode cX0_yOf 26 = .ok (.ireturn, 1) := dk_172 (dk_at dksX0_yOf_1 2 rfl rfl)
abbrev cX0_isKept : ByteArray := method_17_code
def yX0_isKept : MethodName := ⟨RX0, "isKept", "(LTileServer;III[J)I"⟩
def dkwX0_isKept_1 : List UInt8 := [4, 172, 58, 5, 5, 172, 58, 5, 6, 172, 3, 172]
abbrev dktX0_isKept_1 : List UInt8 := dkwX0_isKept_1 ++ []
def dkwX0_isKept_0 : List UInt8 := [25, 4, 3, 42, 27, 28, 29, 182, 0, 66, 153, 0, 7, 10, 167, 0, 4, 9, 80, 167, 0, 15, 58, 5]
abbrev dktX0_isKept_0 : List UInt8 := dkwX0_isKept_0 ++ dktX0_isKept_1
theorem dksX0_isKept_0 : cX0_isKept.data.toList.drop 0 = dktX0_isKept_0 := by decide +kernel
theorem dksX0_isKept_1 : cX0_isKept.data.toList.drop 24 = dktX0_isKept_1 := dk_seg dksX0_isKept_0 24 rfl rfl
theorem dX0_isKept_0 : decode cX0_isKept 0 = .ok (.aload 4, 2) := dk_25 4 (dk_at dksX0_isKept_0 0 rfl rfl)
theorem dX0_isKept_2 : decode cX0_isKept 2 = .ok (.iconst 0, 1) := dk_3 (dk_at dksX0_isKept_0 2 rfl rfl)
theorem dX0_isKept_3 : decode cX0_isKept 3 = .ok (.aload_n 0, 1) := dk_42 (dk_at dksX0_isKept_0 3 rfl rfl)
theorem dX0_isKept_4 : decode cX0_isKept 4 = .ok (.iload_n 1, 1) := dk_27 (dk_at dksX0_isKept_0 4 rfl rfl)
theorem dX0_isKept_5 : decode cX0_isKept 5 = .ok (.iload_n 2, 1) := dk_28 (dk_at dksX0_isKept_0 5 rfl rfl)
theorem dX0_isKept_6 : decode cX0_isKept 6 = .ok (.iload_n 3, 1) := dk_29 (dk_at dksX0_isKept_0 6 rfl rfl)
theorem dX0_isKept_7 : decode cX0_isKept 7 = .ok (.invokevirtual 66, 3) := dk_182 0 66 (dk_at dksX0_isKept_0 7 rfl rfl)
theorem dX0_isKept_10 : decode cX0_isKept 10 = .ok (.ifCond .eq 7, 3) := dk_153 0 7 (dk_at dksX0_isKept_0 10 rfl rfl)
theorem dX0_isKept_13 : decode cX0_isKept 13 = .ok (.lconst 1, 1) := dk_10 (dk_at dksX0_isKept_0 13 rfl rfl)
theorem dX0_isKept_14 : decode cX0_isKept 14 = .ok (.goto 4, 3) := dk_167 0 4 (dk_at dksX0_isKept_0 14 rfl rfl)
theorem dX0_isKept_17 : decode cX0_isKept 17 = .ok (.lconst 0, 1) := dk_9 (dk_at dksX0_isKept_0 17 rfl rfl)
theorem dX0_isKept_18 : decode cX0_isKept 18 = .ok (.lastore, 1) := dk_80 (dk_at dksX0_isKept_0 18 rfl rfl)
theorem dX0_isKept_19 : decode cX0_isKept 19 = .ok (.goto 15, 3) := dk_167 0 15 (dk_at dksX0_isKept_0 19 rfl rfl)
theorem dX0_isKept_22 : decode cX0_isKept 22 = .ok (.astore 5, 2) := dk_58 5 (dk_at dksX0_isKept_0 22 rfl rfl)
theorem dX0_isKept_24 : decode cX0_isKept 24 = .ok (.iconst 1, 1) := dk_4 (dk_at dksX0_isKept_1 0 rfl rfl)
theorem dX0_isKept_25 : decode cX0_isKept 25 = .ok (.ireturn, 1) := dk_172 (dk_at dksX0_isKept_1 1 rfl rfl)
theorem dX0_isKept_26 : decode cX0_isKept 26 = .ok (.astore 5, 2) := dk_58 5 (dk_at dksX0_isKept_1 2 rfl rfl)
theorem dX0_isKept_28 : decode cX0_isKept 28 = .ok (.iconst 2, 1) := dk_5 (dk_at dksX0_isKept_1 4 rfl rfl)
theorem dX0_isKept_29 : decode cX0_isKept 29 = .ok (.ireturn, 1) := dk_172 (dk_at dksX0_isKept_1 5 rfl rfl)
theorem dX0_isKept_30 : decode cX0_isKept 30 = .ok (.astore 5, 2) := dk_58 5 (dk_at dksX0_isKept_1 6 rfl rfl)
theorem dX0_isKept_32 : decode cX0_isKept 32 = .ok (.iconst 3, 1) := dk_6 (dk_at dksX0_isKept_1 8 rfl rfl)
theorem dX0_isKept_33 : decode cX0_isKept 33 = .ok (.ireturn, 1) := dk_172 (dk_at dksX0_isKept_1 9 rfl rfl)
theorem dX0_isKept_34 : decode cX0_isKept 34 = .ok (.iconst 0, 1) := dk_3 (dk_at dksX0_isKept_1 10 rfl rfl)
theorem dX0_isKept_35 : decode cX0_isKept 35 = .ok (.ireturn, 1) := dk_172 (dk_at dksX0_isKept_1 11 rfl rfl)
abbrev cX0_isKeptByMarks : ByteArray := method_18_code
def yX0_isKeptByMarks : MethodName := ⟨RX0, "isKeptByMarks", "(LTileServer;III[J)I"⟩
def dkwX0_isKeptByMarks_1 : List UInt8 := [4, 172, 58, 5, 5, 172, 58, 5, 6, 172, 3, 172]
abbrev dktX0_isKeptByMarks_1 : List UInt8 := dkwX0_isKeptByMarks_1 ++ []
def dkwX0_isKeptByMarks_0 : List UInt8 := [25, 4, 3, 42, 27, 28, 29, 182, 0, 70, 153, 0, 7, 10, 167, 0, 4, 9, 80, 167, 0, 15, 58, 5]
abbrev dktX0_isKeptByMarks_0 : List UInt8 := dkwX0_isKeptByMarks_0 ++ dktX0_isKeptByMarks_1
theorem dksX0_isKeptByMarks_0 : cX0_isKeptByMarks.data.toList.drop 0 = dktX0_isKeptByMarks_0 := by decide +kernel
theorem dksX0_isKeptByMarks_1 : cX0_isKeptByMarks.data.toList.drop 24 = dktX0_isKeptByMarks_1 := dk_seg dksX0_isKeptByMarks_0 24 rfl rfl
theorem dX0_isKeptByMarks_0 : decode cX0_isKeptByMarks 0 = .ok (.aload 4, 2) := dk_25 4 (dk_at dksX0_isKeptByMarks_0 0 rfl rfl)
theorem dX0_isKeptByMarks_2 : decode cX0_isKeptByMarks 2 = .ok (.iconst 0, 1) := dk_3 (dk_at dksX0_isKeptByMarks_0 2 rfl rfl)
theorem dX0_isKeptByMarks_3 : decode cX0_isKeptByMarks 3 = .ok (.aload_n 0, 1) := dk_42 (dk_at dksX0_isKeptByMarks_0 3 rfl rfl)
theorem dX0_isKeptByMarks_4 : decode cX0_isKeptByMarks 4 = .ok (.iload_n 1, 1) := dk_27 (dk_at dksX0_isKeptByMarks_0 4 rfl rfl)
theorem dX0_isKeptByMarks_5 : decode cX0_isKeptByMarks 5 = .ok (.iload_n 2, 1) := dk_28 (dk_at dksX0_isKeptByMarks_0 5 rfl rfl)
theorem dX0_isKeptByMarks_6 : decode cX0_isKeptByMarks 6 = .ok (.iload_n 3, 1) := dk_29 (dk_at dksX0_isKeptByMarks_0 6 rfl rfl)
theorem dX0_isKeptByMarks_7 : decode cX0_isKeptByMarks 7 = .ok (.invokevirtual 70, 3) := dk_182 0 70 (dk_at dksX0_isKeptByMarks_0 7 rfl rfl)
theorem dX0_isKeptByMarks_10 : decode cX0_isKeptByMarks 10 = .ok (.ifCond .eq 7, 3) := dk_153 0 7 (dk_at dksX0_isKeptByMarks_0 10 rfl rfl)
theorem dX0_isKeptByMarks_13 : decode cX0_isKeptByMarks 13 = .ok (.lconst 1, 1) := dk_10 (dk_at dksX0_isKeptByMarks_0 13 rfl rfl)
theorem dX0_isKeptByMarks_14 : decode cX0_isKeptByMarks 14 = .ok (.goto 4, 3) := dk_167 0 4 (dk_at dksX0_isKeptByMarks_0 14 rfl rfl)
theorem dX0_isKeptByMarks_17 : decode cX0_isKeptByMarks 17 = .ok (.lconst 0, 1) := dk_9 (dk_at dksX0_isKeptByMarks_0 17 rfl rfl)
theorem dX0_isKeptByMarks_18 : decode cX0_isKeptByMarks 18 = .ok (.lastore, 1) := dk_80 (dk_at dksX0_isKeptByMarks_0 18 rfl rfl)
theorem dX0_isKeptByMarks_19 : decode cX0_isKeptByMarks 19 = .ok (.goto 15, 3) := dk_167 0 15 (dk_at dksX0_isKeptByMarks_0 19 rfl rfl)
theorem dX0_isKeptByMarks_22 : decode cX0_isKeptByMarks 22 = .ok (.astore 5, 2) := dk_58 5 (dk_at dksX0_isKeptByMarks_0 22 rfl rfl)
theorem dX0_isKeptByMarks_24 : decode cX0_isKeptByMarks 24 = .ok (.iconst 1, 1) := dk_4 (dk_at dksX0_isKeptByMarks_1 0 rfl rfl)
theorem dX0_isKeptByMarks_25 : decode cX0_isKeptByMarks 25 = .ok (.ireturn, 1) := dk_172 (dk_at dksX0_isKeptByMarks_1 1 rfl rfl)
theorem dX0_isKeptByMarks_26 : decode cX0_isKeptByMarks 26 = .ok (.astore 5, 2) := dk_58 5 (dk_at dksX0_isKeptByMarks_1 2 rfl rfl)
theorem dX0_isKeptByMarks_28 : decode cX0_isKeptByMarks 28 = .ok (.iconst 2, 1) := dk_5 (dk_at dksX0_isKeptByMarks_1 4 rfl rfl)
theorem dX0_isKeptByMarks_29 : decode cX0_isKeptByMarks 29 = .ok (.ireturn, 1) := dk_172 (dk_at dksX0_isKeptByMarks_1 5 rfl rfl)
theorem dX0_isKeptByMarks_30 : decode cX0_isKeptByMarks 30 = .ok (.astore 5, 2) := dk_58 5 (dk_at dksX0_isKeptByMarks_1 6 rfl rfl)
theorem dX0_isKeptByMarks_32 : decode cX0_isKeptByMarks 32 = .ok (.iconst 3, 1) := dk_6 (dk_at dksX0_isKeptByMarks_1 8 rfl rfl)
theorem dX0_isKeptByMarks_33 : decode cX0_isKeptByMarks 33 = .ok (.ireturn, 1) := dk_172 (dk_at dksX0_isKeptByMarks_1 9 rfl rfl)
theorem dX0_isKeptByMarks_34 : decode cX0_isKeptByMarks 34 = .ok (.iconst 0, 1) := dk_3 (dk_at dksX0_isKeptByMarks_1 10 rfl rfl)
theorem dX0_isKeptByMarks_35 : decode cX0_isKeptByMarks 35 = .ok (.ireturn, 1) := dk_172 (dk_at dksX0_isKeptByMarks_1 11 rfl rfl)
abbrev cX0_keptPoints : ByteArray := method_19_code
def yX0_keptPoints : MethodName := ⟨RX0, "keptPoints", "(LTileServer;II[J)I"⟩
def dkwX0_keptPoints_1 : List UInt8 := [172, 3, 172]
abbrev dktX0_keptPoints_1 : List UInt8 := dkwX0_keptPoints_1 ++ []
def dkwX0_keptPoints_0 : List UInt8 := [45, 3, 42, 27, 28, 182, 0, 73, 133, 80, 167, 0, 15, 58, 4, 4, 172, 58, 4, 5, 172, 58, 4, 6]
abbrev dktX0_keptPoints_0 : List UInt8 := dkwX0_keptPoints_0 ++ dktX0_keptPoints_1
theorem dksX0_keptPoints_0 : cX0_keptPoints.data.toList.drop 0 = dktX0_keptPoints_0 := by decide +kernel
theorem dksX0_keptPoints_1 : cX0_keptPoints.data.toList.drop 24 = dktX0_keptPoints_1 := dk_seg dksX0_keptPoints_0 24 rfl rfl
theorem dX0_keptPoints_0 : decode cX0_keptPoints 0 = .ok (.aload_n 3, 1) := dk_45 (dk_at dksX0_keptPoints_0 0 rfl rfl)
theorem dX0_keptPoints_1 : decode cX0_keptPoints 1 = .ok (.iconst 0, 1) := dk_3 (dk_at dksX0_keptPoints_0 1 rfl rfl)
theorem dX0_keptPoints_2 : decode cX0_keptPoints 2 = .ok (.aload_n 0, 1) := dk_42 (dk_at dksX0_keptPoints_0 2 rfl rfl)
theorem dX0_keptPoints_3 : decode cX0_keptPoints 3 = .ok (.iload_n 1, 1) := dk_27 (dk_at dksX0_keptPoints_0 3 rfl rfl)
theorem dX0_keptPoints_4 : decode cX0_keptPoints 4 = .ok (.iload_n 2, 1) := dk_28 (dk_at dksX0_keptPoints_0 4 rfl rfl)
theorem dX0_keptPoints_5 : decode cX0_keptPoints 5 = .ok (.invokevirtual 73, 3) := dk_182 0 73 (dk_at dksX0_keptPoints_0 5 rfl rfl)
theorem dX0_keptPoints_8 : decode cX0_keptPoints 8 = .ok (.i2l, 1) := dk_133 (dk_at dksX0_keptPoints_0 8 rfl rfl)
theorem dX0_keptPoints_9 : decode cX0_keptPoints 9 = .ok (.lastore, 1) := dk_80 (dk_at dksX0_keptPoints_0 9 rfl rfl)
theorem dX0_keptPoints_10 : decode cX0_keptPoints 10 = .ok (.goto 15, 3) := dk_167 0 15 (dk_at dksX0_keptPoints_0 10 rfl rfl)
theorem dX0_keptPoints_13 : decode cX0_keptPoints 13 = .ok (.astore 4, 2) := dk_58 4 (dk_at dksX0_keptPoints_0 13 rfl rfl)
theorem dX0_keptPoints_15 : decode cX0_keptPoints 15 = .ok (.iconst 1, 1) := dk_4 (dk_at dksX0_keptPoints_0 15 rfl rfl)
theorem dX0_keptPoints_16 : decode cX0_keptPoints 16 = .ok (.ireturn, 1) := dk_172 (dk_at dksX0_keptPoints_0 16 rfl rfl)
theorem dX0_keptPoints_17 : decode cX0_keptPoints 17 = .ok (.astore 4, 2) := dk_58 4 (dk_at dksX0_keptPoints_0 17 rfl rfl)
theorem dX0_keptPoints_19 : decode cX0_keptPoints 19 = .ok (.iconst 2, 1) := dk_5 (dk_at dksX0_keptPoints_0 19 rfl rfl)
theorem dX0_keptPoints_20 : decode cX0_keptPoints 20 = .ok (.ireturn, 1) := dk_172 (dk_at dksX0_keptPoints_0 20 rfl rfl)
theorem dX0_keptPoints_21 : decode cX0_keptPoints 21 = .ok (.astore 4, 2) := dk_58 4 (dk_at dksX0_keptPoints_0 21 rfl rfl)
theorem dX0_keptPoints_23 : decode cX0_keptPoints 23 = .ok (.iconst 3, 1) := dk_6 (dk_at dksX0_keptPoints_0 23 rfl rfl)
theorem dX0_keptPoints_24 : decode cX0_keptPoints 24 = .ok (.ireturn, 1) := dk_172 (dk_at dksX0_keptPoints_1 0 rfl rfl)
theorem dX0_keptPoints_25 : decode cX0_keptPoints 25 = .ok (.iconst 0, 1) := dk_3 (dk_at dksX0_keptPoints_1 1 rfl rfl)
theorem dX0_keptPoints_26 : decode cX0_keptPoints 26 = .ok (.ireturn, 1) := dk_172 (dk_at dksX0_keptPoints_1 2 rfl rfl)
abbrev cX0_cellAt : ByteArray := method_20_code
def yX0_cellAt : MethodName := ⟨RX0, "cellAt", "(LTileServer;IIIII[J)I"⟩
def dkwX0_cellAt_1 : List UInt8 := [172]
abbrev dktX0_cellAt_1 : List UInt8 := dkwX0_cellAt_1 ++ []
def dkwX0_cellAt_0 : List UInt8 := [25, 6, 3, 42, 27, 28, 29, 21, 4, 21, 5, 182, 0, 76, 133, 80, 167, 0, 7, 58, 7, 4, 172, 3]
abbrev dktX0_cellAt_0 : List UInt8 := dkwX0_cellAt_0 ++ dktX0_cellAt_1
theorem dksX0_cellAt_0 : cX0_cellAt.data.toList.drop 0 = dktX0_cellAt_0 := by decide +kernel
theorem dksX0_cellAt_1 : cX0_cellAt.data.toList.drop 24 = dktX0_cellAt_1 := dk_seg dksX0_cellAt_0 24 rfl rfl
theorem dX0_cellAt_0 : decode cX0_cellAt 0 = .ok (.aload 6, 2) := dk_25 6 (dk_at dksX0_cellAt_0 0 rfl rfl)
theorem dX0_cellAt_2 : decode cX0_cellAt 2 = .ok (.iconst 0, 1) := dk_3 (dk_at dksX0_cellAt_0 2 rfl rfl)
theorem dX0_cellAt_3 : decode cX0_cellAt 3 = .ok (.aload_n 0, 1) := dk_42 (dk_at dksX0_cellAt_0 3 rfl rfl)
theorem dX0_cellAt_4 : decode cX0_cellAt 4 = .ok (.iload_n 1, 1) := dk_27 (dk_at dksX0_cellAt_0 4 rfl rfl)
theorem dX0_cellAt_5 : decode cX0_cellAt 5 = .ok (.iload_n 2, 1) := dk_28 (dk_at dksX0_cellAt_0 5 rfl rfl)
theorem dX0_cellAt_6 : decode cX0_cellAt 6 = .ok (.iload_n 3, 1) := dk_29 (dk_at dksX0_cellAt_0 6 rfl rfl)
theorem dX0_cellAt_7 : decode cX0_cellAt 7 = .ok (.iload 4, 2) := dk_21 4 (dk_at dksX0_cellAt_0 7 rfl rfl)
theorem dX0_cellAt_9 : decode cX0_cellAt 9 = .ok (.iload 5, 2) := dk_21 5 (dk_at dksX0_cellAt_0 9 rfl rfl)
theorem dX0_cellAt_11 : decode cX0_cellAt 11 = .ok (.invokevirtual 76, 3) := dk_182 0 76 (dk_at dksX0_cellAt_0 11 rfl rfl)
theorem dX0_cellAt_14 : decode cX0_cellAt 14 = .ok (.i2l, 1) := dk_133 (dk_at dksX0_cellAt_0 14 rfl rfl)
theorem dX0_cellAt_15 : decode cX0_cellAt 15 = .ok (.lastore, 1) := dk_80 (dk_at dksX0_cellAt_0 15 rfl rfl)
theorem dX0_cellAt_16 : decode cX0_cellAt 16 = .ok (.goto 7, 3) := dk_167 0 7 (dk_at dksX0_cellAt_0 16 rfl rfl)
theorem dX0_cellAt_19 : decode cX0_cellAt 19 = .ok (.astore 7, 2) := dk_58 7 (dk_at dksX0_cellAt_0 19 rfl rfl)
theorem dX0_cellAt_21 : decode cX0_cellAt 21 = .ok (.iconst 1, 1) := dk_4 (dk_at dksX0_cellAt_0 21 rfl rfl)
theorem dX0_cellAt_22 : decode cX0_cellAt 22 = .ok (.ireturn, 1) := dk_172 (dk_at dksX0_cellAt_0 22 rfl rfl)
theorem dX0_cellAt_23 : decode cX0_cellAt 23 = .ok (.iconst 0, 1) := dk_3 (dk_at dksX0_cellAt_0 23 rfl rfl)
theorem dX0_cellAt_24 : decode cX0_cellAt 24 = .ok (.ireturn, 1) := dk_172 (dk_at dksX0_cellAt_1 0 rfl rfl)
abbrev cX0_cellByDrawing : ByteArray := method_21_code
def yX0_cellByDrawing : MethodName := ⟨RX0, "cellByDrawing", "(LTileServer;IIIII[J)I"⟩
def dkwX0_cellByDrawing_1 : List UInt8 := [172]
abbrev dktX0_cellByDrawing_1 : List UInt8 := dkwX0_cellByDrawing_1 ++ []
def dkwX0_cellByDrawing_0 : List UInt8 := [25, 6, 3, 42, 27, 28, 29, 21, 4, 21, 5, 182, 0, 80, 133, 80, 167, 0, 7, 58, 7, 4, 172, 3]
abbrev dktX0_cellByDrawing_0 : List UInt8 := dkwX0_cellByDrawing_0 ++ dktX0_cellByDrawing_1
theorem dksX0_cellByDrawing_0 : cX0_cellByDrawing.data.toList.drop 0 = dktX0_cellByDrawing_0 := by decide +kernel
theorem dksX0_cellByDrawing_1 : cX0_cellByDrawing.data.toList.drop 24 = dktX0_cellByDrawing_1 := dk_seg dksX0_cellByDrawing_0 24 rfl rfl
theorem dX0_cellByDrawing_0 : decode cX0_cellByDrawing 0 = .ok (.aload 6, 2) := dk_25 6 (dk_at dksX0_cellByDrawing_0 0 rfl rfl)
theorem dX0_cellByDrawing_2 : decode cX0_cellByDrawing 2 = .ok (.iconst 0, 1) := dk_3 (dk_at dksX0_cellByDrawing_0 2 rfl rfl)
theorem dX0_cellByDrawing_3 : decode cX0_cellByDrawing 3 = .ok (.aload_n 0, 1) := dk_42 (dk_at dksX0_cellByDrawing_0 3 rfl rfl)
theorem dX0_cellByDrawing_4 : decode cX0_cellByDrawing 4 = .ok (.iload_n 1, 1) := dk_27 (dk_at dksX0_cellByDrawing_0 4 rfl rfl)
theorem dX0_cellByDrawing_5 : decode cX0_cellByDrawing 5 = .ok (.iload_n 2, 1) := dk_28 (dk_at dksX0_cellByDrawing_0 5 rfl rfl)
theorem dX0_cellByDrawing_6 : decode cX0_cellByDrawing 6 = .ok (.iload_n 3, 1) := dk_29 (dk_at dksX0_cellByDrawing_0 6 rfl rfl)
theorem dX0_cellByDrawing_7 : decode cX0_cellByDrawing 7 = .ok (.iload 4, 2) := dk_21 4 (dk_at dksX0_cellByDrawing_0 7 rfl rfl)
theorem dX0_cellByDrawing_9 : decode cX0_cellByDrawing 9 = .ok (.iload 5, 2) := dk_21 5 (dk_at dksX0_cellByDrawing_0 9 rfl rfl)
theorem dX0_cellByDrawing_11 : decode cX0_cellByDrawing 11 = .ok (.invokevirtual 80, 3) := dk_182 0 80 (dk_at dksX0_cellByDrawing_0 11 rfl rfl)
theorem dX0_cellByDrawing_14 : decode cX0_cellByDrawing 14 = .ok (.i2l, 1) := dk_133 (dk_at dksX0_cellByDrawing_0 14 rfl rfl)
theorem dX0_cellByDrawing_15 : decode cX0_cellByDrawing 15 = .ok (.lastore, 1) := dk_80 (dk_at dksX0_cellByDrawing_0 15 rfl rfl)
theorem dX0_cellByDrawing_16 : decode cX0_cellByDrawing 16 = .ok (.goto 7, 3) := dk_167 0 7 (dk_at dksX0_cellByDrawing_0 16 rfl rfl)
theorem dX0_cellByDrawing_19 : decode cX0_cellByDrawing 19 = .ok (.astore 7, 2) := dk_58 7 (dk_at dksX0_cellByDrawing_0 19 rfl rfl)
theorem dX0_cellByDrawing_21 : decode cX0_cellByDrawing 21 = .ok (.iconst 1, 1) := dk_4 (dk_at dksX0_cellByDrawing_0 21 rfl rfl)
theorem dX0_cellByDrawing_22 : decode cX0_cellByDrawing 22 = .ok (.ireturn, 1) := dk_172 (dk_at dksX0_cellByDrawing_0 22 rfl rfl)
theorem dX0_cellByDrawing_23 : decode cX0_cellByDrawing 23 = .ok (.iconst 0, 1) := dk_3 (dk_at dksX0_cellByDrawing_0 23 rfl rfl)
theorem dX0_cellByDrawing_24 : decode cX0_cellByDrawing 24 = .ok (.ireturn, 1) := dk_172 (dk_at dksX0_cellByDrawing_1 0 rfl rfl)
abbrev cX0_isCached : ByteArray := method_22_code
def yX0_isCached : MethodName := ⟨RX0, "isCached", "(LTileServer;III[J)I"⟩
def dkwX0_isCached_1 : List UInt8 := [4, 172, 3, 172]
abbrev dktX0_isCached_1 : List UInt8 := dkwX0_isCached_1 ++ []
def dkwX0_isCached_0 : List UInt8 := [25, 4, 3, 42, 27, 28, 29, 182, 0, 83, 153, 0, 7, 10, 167, 0, 4, 9, 80, 167, 0, 7, 58, 5]
abbrev dktX0_isCached_0 : List UInt8 := dkwX0_isCached_0 ++ dktX0_isCached_1
theorem dksX0_isCached_0 : cX0_isCached.data.toList.drop 0 = dktX0_isCached_0 := by decide +kernel
theorem dksX0_isCached_1 : cX0_isCached.data.toList.drop 24 = dktX0_isCached_1 := dk_seg dksX0_isCached_0 24 rfl rfl
theorem dX0_isCached_0 : decode cX0_isCached 0 = .ok (.aload 4, 2) := dk_25 4 (dk_at dksX0_isCached_0 0 rfl rfl)
theorem dX0_isCached_2 : decode cX0_isCached 2 = .ok (.iconst 0, 1) := dk_3 (dk_at dksX0_isCached_0 2 rfl rfl)
theorem dX0_isCached_3 : decode cX0_isCached 3 = .ok (.aload_n 0, 1) := dk_42 (dk_at dksX0_isCached_0 3 rfl rfl)
theorem dX0_isCached_4 : decode cX0_isCached 4 = .ok (.iload_n 1, 1) := dk_27 (dk_at dksX0_isCached_0 4 rfl rfl)
theorem dX0_isCached_5 : decode cX0_isCached 5 = .ok (.iload_n 2, 1) := dk_28 (dk_at dksX0_isCached_0 5 rfl rfl)
theorem dX0_isCached_6 : decode cX0_isCached 6 = .ok (.iload_n 3, 1) := dk_29 (dk_at dksX0_isCached_0 6 rfl rfl)
theorem dX0_isCached_7 : decode cX0_isCached 7 = .ok (.invokevirtual 83, 3) := dk_182 0 83 (dk_at dksX0_isCached_0 7 rfl rfl)
theorem dX0_isCached_10 : decode cX0_isCached 10 = .ok (.ifCond .eq 7, 3) := dk_153 0 7 (dk_at dksX0_isCached_0 10 rfl rfl)
theorem dX0_isCached_13 : decode cX0_isCached 13 = .ok (.lconst 1, 1) := dk_10 (dk_at dksX0_isCached_0 13 rfl rfl)
theorem dX0_isCached_14 : decode cX0_isCached 14 = .ok (.goto 4, 3) := dk_167 0 4 (dk_at dksX0_isCached_0 14 rfl rfl)
theorem dX0_isCached_17 : decode cX0_isCached 17 = .ok (.lconst 0, 1) := dk_9 (dk_at dksX0_isCached_0 17 rfl rfl)
theorem dX0_isCached_18 : decode cX0_isCached 18 = .ok (.lastore, 1) := dk_80 (dk_at dksX0_isCached_0 18 rfl rfl)
theorem dX0_isCached_19 : decode cX0_isCached 19 = .ok (.goto 7, 3) := dk_167 0 7 (dk_at dksX0_isCached_0 19 rfl rfl)
theorem dX0_isCached_22 : decode cX0_isCached 22 = .ok (.astore 5, 2) := dk_58 5 (dk_at dksX0_isCached_0 22 rfl rfl)
theorem dX0_isCached_24 : decode cX0_isCached 24 = .ok (.iconst 1, 1) := dk_4 (dk_at dksX0_isCached_1 0 rfl rfl)
theorem dX0_isCached_25 : decode cX0_isCached 25 = .ok (.ireturn, 1) := dk_172 (dk_at dksX0_isCached_1 1 rfl rfl)
theorem dX0_isCached_26 : decode cX0_isCached 26 = .ok (.iconst 0, 1) := dk_3 (dk_at dksX0_isCached_1 2 rfl rfl)
theorem dX0_isCached_27 : decode cX0_isCached 27 = .ok (.ireturn, 1) := dk_172 (dk_at dksX0_isCached_1 3 rfl rfl)
abbrev cX0_ageOf : ByteArray := method_23_code
def yX0_ageOf : MethodName := ⟨RX0, "ageOf", "(LTileServer;III[J)I"⟩
def dkwX0_ageOf_1 : List UInt8 := [172]
abbrev dktX0_ageOf_1 : List UInt8 := dkwX0_ageOf_1 ++ []
def dkwX0_ageOf_0 : List UInt8 := [25, 4, 3, 42, 27, 28, 29, 182, 0, 86, 133, 80, 167, 0, 11, 58, 5, 4, 172, 58, 5, 5, 172, 3]
abbrev dktX0_ageOf_0 : List UInt8 := dkwX0_ageOf_0 ++ dktX0_ageOf_1
theorem dksX0_ageOf_0 : cX0_ageOf.data.toList.drop 0 = dktX0_ageOf_0 := by decide +kernel
theorem dksX0_ageOf_1 : cX0_ageOf.data.toList.drop 24 = dktX0_ageOf_1 := dk_seg dksX0_ageOf_0 24 rfl rfl
theorem dX0_ageOf_0 : decode cX0_ageOf 0 = .ok (.aload 4, 2) := dk_25 4 (dk_at dksX0_ageOf_0 0 rfl rfl)
theorem dX0_ageOf_2 : decode cX0_ageOf 2 = .ok (.iconst 0, 1) := dk_3 (dk_at dksX0_ageOf_0 2 rfl rfl)
theorem dX0_ageOf_3 : decode cX0_ageOf 3 = .ok (.aload_n 0, 1) := dk_42 (dk_at dksX0_ageOf_0 3 rfl rfl)
theorem dX0_ageOf_4 : decode cX0_ageOf 4 = .ok (.iload_n 1, 1) := dk_27 (dk_at dksX0_ageOf_0 4 rfl rfl)
theorem dX0_ageOf_5 : decode cX0_ageOf 5 = .ok (.iload_n 2, 1) := dk_28 (dk_at dksX0_ageOf_0 5 rfl rfl)
theorem dX0_ageOf_6 : decode cX0_ageOf 6 = .ok (.iload_n 3, 1) := dk_29 (dk_at dksX0_ageOf_0 6 rfl rfl)
theorem dX0_ageOf_7 : decode cX0_ageOf 7 = .ok (.invokevirtual 86, 3) := dk_182 0 86 (dk_at dksX0_ageOf_0 7 rfl rfl)
theorem dX0_ageOf_10 : decode cX0_ageOf 10 = .ok (.i2l, 1) := dk_133 (dk_at dksX0_ageOf_0 10 rfl rfl)
theorem dX0_ageOf_11 : decode cX0_ageOf 11 = .ok (.lastore, 1) := dk_80 (dk_at dksX0_ageOf_0 11 rfl rfl)
theorem dX0_ageOf_12 : decode cX0_ageOf 12 = .ok (.goto 11, 3) := dk_167 0 11 (dk_at dksX0_ageOf_0 12 rfl rfl)
theorem dX0_ageOf_15 : decode cX0_ageOf 15 = .ok (.astore 5, 2) := dk_58 5 (dk_at dksX0_ageOf_0 15 rfl rfl)
theorem dX0_ageOf_17 : decode cX0_ageOf 17 = .ok (.iconst 1, 1) := dk_4 (dk_at dksX0_ageOf_0 17 rfl rfl)
theorem dX0_ageOf_18 : decode cX0_ageOf 18 = .ok (.ireturn, 1) := dk_172 (dk_at dksX0_ageOf_0 18 rfl rfl)
theorem dX0_ageOf_19 : decode cX0_ageOf 19 = .ok (.astore 5, 2) := dk_58 5 (dk_at dksX0_ageOf_0 19 rfl rfl)
theorem dX0_ageOf_21 : decode cX0_ageOf 21 = .ok (.iconst 2, 1) := dk_5 (dk_at dksX0_ageOf_0 21 rfl rfl)
theorem dX0_ageOf_22 : decode cX0_ageOf 22 = .ok (.ireturn, 1) := dk_172 (dk_at dksX0_ageOf_0 22 rfl rfl)
theorem dX0_ageOf_23 : decode cX0_ageOf 23 = .ok (.iconst 0, 1) := dk_3 (dk_at dksX0_ageOf_0 23 rfl rfl)
theorem dX0_ageOf_24 : decode cX0_ageOf 24 = .ok (.ireturn, 1) := dk_172 (dk_at dksX0_ageOf_1 0 rfl rfl)
abbrev cX0_hitShare : ByteArray := method_24_code
def yX0_hitShare : MethodName := ⟨RX0, "hitShare", "(LTileServer;[D)I"⟩
def dkwX0_hitShare_0 : List UInt8 := [43, 3, 42, 182, 0, 89, 141, 82, 167, 0, 6, 77, 4, 172, 3, 172]
abbrev dktX0_hitShare_0 : List UInt8 := dkwX0_hitShare_0 ++ []
theorem dksX0_hitShare_0 : cX0_hitShare.data.toList.drop 0 = dktX0_hitShare_0 := by decide +kernel
theorem dX0_hitShare_0 : decode cX0_hitShare 0 = .ok (.aload_n 1, 1) := dk_43 (dk_at dksX0_hitShare_0 0 rfl rfl)
theorem dX0_hitShare_1 : decode cX0_hitShare 1 = .ok (.iconst 0, 1) := dk_3 (dk_at dksX0_hitShare_0 1 rfl rfl)
theorem dX0_hitShare_2 : decode cX0_hitShare 2 = .ok (.aload_n 0, 1) := dk_42 (dk_at dksX0_hitShare_0 2 rfl rfl)
theorem dX0_hitShare_3 : decode cX0_hitShare 3 = .ok (.invokevirtual 89, 3) := dk_182 0 89 (dk_at dksX0_hitShare_0 3 rfl rfl)
theorem dX0_hitShare_6 : decode cX0_hitShare 6 = .ok (.f2d, 1) := dk_141 (dk_at dksX0_hitShare_0 6 rfl rfl)
theorem dX0_hitShare_7 : decode cX0_hitShare 7 = .ok (.dastore, 1) := dk_82 (dk_at dksX0_hitShare_0 7 rfl rfl)
theorem dX0_hitShare_8 : decode cX0_hitShare 8 = .ok (.goto 6, 3) := dk_167 0 6 (dk_at dksX0_hitShare_0 8 rfl rfl)
theorem dX0_hitShare_11 : decode cX0_hitShare 11 = .ok (.astore_n 2, 1) := dk_77 (dk_at dksX0_hitShare_0 11 rfl rfl)
theorem dX0_hitShare_12 : decode cX0_hitShare 12 = .ok (.iconst 1, 1) := dk_4 (dk_at dksX0_hitShare_0 12 rfl rfl)
theorem dX0_hitShare_13 : decode cX0_hitShare 13 = .ok (.ireturn, 1) := dk_172 (dk_at dksX0_hitShare_0 13 rfl rfl)
theorem dX0_hitShare_14 : decode cX0_hitShare 14 = .ok (.iconst 0, 1) := dk_3 (dk_at dksX0_hitShare_0 14 rfl rfl)
theorem dX0_hitShare_15 : decode cX0_hitShare 15 = .ok (.ireturn, 1) := dk_172 (dk_at dksX0_hitShare_0 15 rfl rfl)
abbrev cX0_areaIn : ByteArray := method_25_code
def yX0_areaIn : MethodName := ⟨RX0, "areaIn", "(LTileServer;IIII[J)I"⟩
def dkwX0_areaIn_1 : List UInt8 := [172, 58, 6, 6, 172, 3, 172]
abbrev dktX0_areaIn_1 : List UInt8 := dkwX0_areaIn_1 ++ []
def dkwX0_areaIn_0 : List UInt8 := [25, 5, 3, 42, 27, 28, 29, 21, 4, 182, 0, 95, 133, 80, 167, 0, 15, 58, 6, 4, 172, 58, 6, 5]
abbrev dktX0_areaIn_0 : List UInt8 := dkwX0_areaIn_0 ++ dktX0_areaIn_1
theorem dksX0_areaIn_0 : cX0_areaIn.data.toList.drop 0 = dktX0_areaIn_0 := by decide +kernel
theorem dksX0_areaIn_1 : cX0_areaIn.data.toList.drop 24 = dktX0_areaIn_1 := dk_seg dksX0_areaIn_0 24 rfl rfl
theorem dX0_areaIn_0 : decode cX0_areaIn 0 = .ok (.aload 5, 2) := dk_25 5 (dk_at dksX0_areaIn_0 0 rfl rfl)
theorem dX0_areaIn_2 : decode cX0_areaIn 2 = .ok (.iconst 0, 1) := dk_3 (dk_at dksX0_areaIn_0 2 rfl rfl)
theorem dX0_areaIn_3 : decode cX0_areaIn 3 = .ok (.aload_n 0, 1) := dk_42 (dk_at dksX0_areaIn_0 3 rfl rfl)
theorem dX0_areaIn_4 : decode cX0_areaIn 4 = .ok (.iload_n 1, 1) := dk_27 (dk_at dksX0_areaIn_0 4 rfl rfl)
theorem dX0_areaIn_5 : decode cX0_areaIn 5 = .ok (.iload_n 2, 1) := dk_28 (dk_at dksX0_areaIn_0 5 rfl rfl)
theorem dX0_areaIn_6 : decode cX0_areaIn 6 = .ok (.iload_n 3, 1) := dk_29 (dk_at dksX0_areaIn_0 6 rfl rfl)
theorem dX0_areaIn_7 : decode cX0_areaIn 7 = .ok (.iload 4, 2) := dk_21 4 (dk_at dksX0_areaIn_0 7 rfl rfl)
theorem dX0_areaIn_9 : decode cX0_areaIn 9 = .ok (.invokevirtual 95, 3) := dk_182 0 95 (dk_at dksX0_areaIn_0 9 rfl rfl)
theorem dX0_areaIn_12 : decode cX0_areaIn 12 = .ok (.i2l, 1) := dk_133 (dk_at dksX0_areaIn_0 12 rfl rfl)
theorem dX0_areaIn_13 : decode cX0_areaIn 13 = .ok (.lastore, 1) := dk_80 (dk_at dksX0_areaIn_0 13 rfl rfl)
theorem dX0_areaIn_14 : decode cX0_areaIn 14 = .ok (.goto 15, 3) := dk_167 0 15 (dk_at dksX0_areaIn_0 14 rfl rfl)
theorem dX0_areaIn_17 : decode cX0_areaIn 17 = .ok (.astore 6, 2) := dk_58 6 (dk_at dksX0_areaIn_0 17 rfl rfl)
theorem dX0_areaIn_19 : decode cX0_areaIn 19 = .ok (.iconst 1, 1) := dk_4 (dk_at dksX0_areaIn_0 19 rfl rfl)
theorem dX0_areaIn_20 : decode cX0_areaIn 20 = .ok (.ireturn, 1) := dk_172 (dk_at dksX0_areaIn_0 20 rfl rfl)
theorem dX0_areaIn_21 : decode cX0_areaIn 21 = .ok (.astore 6, 2) := dk_58 6 (dk_at dksX0_areaIn_0 21 rfl rfl)
theorem dX0_areaIn_23 : decode cX0_areaIn 23 = .ok (.iconst 2, 1) := dk_5 (dk_at dksX0_areaIn_0 23 rfl rfl)
theorem dX0_areaIn_24 : decode cX0_areaIn 24 = .ok (.ireturn, 1) := dk_172 (dk_at dksX0_areaIn_1 0 rfl rfl)
theorem dX0_areaIn_25 : decode cX0_areaIn 25 = .ok (.astore 6, 2) := dk_58 6 (dk_at dksX0_areaIn_1 1 rfl rfl)
theorem dX0_areaIn_27 : decode cX0_areaIn 27 = .ok (.iconst 3, 1) := dk_6 (dk_at dksX0_areaIn_1 3 rfl rfl)
theorem dX0_areaIn_28 : decode cX0_areaIn 28 = .ok (.ireturn, 1) := dk_172 (dk_at dksX0_areaIn_1 4 rfl rfl)
theorem dX0_areaIn_29 : decode cX0_areaIn 29 = .ok (.iconst 0, 1) := dk_3 (dk_at dksX0_areaIn_1 5 rfl rfl)
theorem dX0_areaIn_30 : decode cX0_areaIn 30 = .ok (.ireturn, 1) := dk_172 (dk_at dksX0_areaIn_1 6 rfl rfl)
abbrev cX0_areaByQuarters : ByteArray := method_26_code
def yX0_areaByQuarters : MethodName := ⟨RX0, "areaByQuarters", "(LTileServer;IIII[J)I"⟩
def dkwX0_areaByQuarters_1 : List UInt8 := [172, 58, 6, 6, 172, 3, 172]
abbrev dktX0_areaByQuarters_1 : List UInt8 := dkwX0_areaByQuarters_1 ++ []
def dkwX0_areaByQuarters_0 : List UInt8 := [25, 5, 3, 42, 27, 28, 29, 21, 4, 182, 0, 98, 133, 80, 167, 0, 15, 58, 6, 4, 172, 58, 6, 5]
abbrev dktX0_areaByQuarters_0 : List UInt8 := dkwX0_areaByQuarters_0 ++ dktX0_areaByQuarters_1
theorem dksX0_areaByQuarters_0 : cX0_areaByQuarters.data.toList.drop 0 = dktX0_areaByQuarters_0 := by decide +kernel
theorem dksX0_areaByQuarters_1 : cX0_areaByQuarters.data.toList.drop 24 = dktX0_areaByQuarters_1 := dk_seg dksX0_areaByQuarters_0 24 rfl rfl
theorem dX0_areaByQuarters_0 : decode cX0_areaByQuarters 0 = .ok (.aload 5, 2) := dk_25 5 (dk_at dksX0_areaByQuarters_0 0 rfl rfl)
theorem dX0_areaByQuarters_2 : decode cX0_areaByQuarters 2 = .ok (.iconst 0, 1) := dk_3 (dk_at dksX0_areaByQuarters_0 2 rfl rfl)
theorem dX0_areaByQuarters_3 : decode cX0_areaByQuarters 3 = .ok (.aload_n 0, 1) := dk_42 (dk_at dksX0_areaByQuarters_0 3 rfl rfl)
theorem dX0_areaByQuarters_4 : decode cX0_areaByQuarters 4 = .ok (.iload_n 1, 1) := dk_27 (dk_at dksX0_areaByQuarters_0 4 rfl rfl)
theorem dX0_areaByQuarters_5 : decode cX0_areaByQuarters 5 = .ok (.iload_n 2, 1) := dk_28 (dk_at dksX0_areaByQuarters_0 5 rfl rfl)
theorem dX0_areaByQuarters_6 : decode cX0_areaByQuarters 6 = .ok (.iload_n 3, 1) := dk_29 (dk_at dksX0_areaByQuarters_0 6 rfl rfl)
theorem dX0_areaByQuarters_7 : decode cX0_areaByQuarters 7 = .ok (.iload 4, 2) := dk_21 4 (dk_at dksX0_areaByQuarters_0 7 rfl rfl)
theorem dX0_areaByQuarters_9 : decode cX0_areaByQuarters 9 = .ok (.invokevirtual 98, 3) := dk_182 0 98 (dk_at dksX0_areaByQuarters_0 9 rfl rfl)
theorem dX0_areaByQuarters_12 : decode cX0_areaByQuarters 12 = .ok (.i2l, 1) := dk_133 (dk_at dksX0_areaByQuarters_0 12 rfl rfl)
theorem dX0_areaByQuarters_13 : decode cX0_areaByQuarters 13 = .ok (.lastore, 1) := dk_80 (dk_at dksX0_areaByQuarters_0 13 rfl rfl)
theorem dX0_areaByQuarters_14 : decode cX0_areaByQuarters 14 = .ok (.goto 15, 3) := dk_167 0 15 (dk_at dksX0_areaByQuarters_0 14 rfl rfl)
theorem dX0_areaByQuarters_17 : decode cX0_areaByQuarters 17 = .ok (.astore 6, 2) := dk_58 6 (dk_at dksX0_areaByQuarters_0 17 rfl rfl)
theorem dX0_areaByQuarters_19 : decode cX0_areaByQuarters 19 = .ok (.iconst 1, 1) := dk_4 (dk_at dksX0_areaByQuarters_0 19 rfl rfl)
theorem dX0_areaByQuarters_20 : decode cX0_areaByQuarters 20 = .ok (.ireturn, 1) := dk_172 (dk_at dksX0_areaByQuarters_0 20 rfl rfl)
theorem dX0_areaByQuarters_21 : decode cX0_areaByQuarters 21 = .ok (.astore 6, 2) := dk_58 6 (dk_at dksX0_areaByQuarters_0 21 rfl rfl)
theorem dX0_areaByQuarters_23 : decode cX0_areaByQuarters 23 = .ok (.iconst 2, 1) := dk_5 (dk_at dksX0_areaByQuarters_0 23 rfl rfl)
theorem dX0_areaByQuarters_24 : decode cX0_areaByQuarters 24 = .ok (.ireturn, 1) := dk_172 (dk_at dksX0_areaByQuarters_1 0 rfl rfl)
theorem dX0_areaByQuarters_25 : decode cX0_areaByQuarters 25 = .ok (.astore 6, 2) := dk_58 6 (dk_at dksX0_areaByQuarters_1 1 rfl rfl)
theorem dX0_areaByQuarters_27 : decode cX0_areaByQuarters 27 = .ok (.iconst 3, 1) := dk_6 (dk_at dksX0_areaByQuarters_1 3 rfl rfl)
theorem dX0_areaByQuarters_28 : decode cX0_areaByQuarters 28 = .ok (.ireturn, 1) := dk_172 (dk_at dksX0_areaByQuarters_1 4 rfl rfl)
theorem dX0_areaByQuarters_29 : decode cX0_areaByQuarters 29 = .ok (.iconst 0, 1) := dk_3 (dk_at dksX0_areaByQuarters_1 5 rfl rfl)
theorem dX0_areaByQuarters_30 : decode cX0_areaByQuarters 30 = .ok (.ireturn, 1) := dk_172 (dk_at dksX0_areaByQuarters_1 6 rfl rfl)
abbrev cX0_crossesRight : ByteArray := method_27_code
def yX0_crossesRight : MethodName := ⟨RX0, "crossesRight", "(LTileServer;IIII[J)I"⟩
def dkwX0_crossesRight_1 : List UInt8 := [172, 58, 6, 6, 172, 3, 172]
abbrev dktX0_crossesRight_1 : List UInt8 := dkwX0_crossesRight_1 ++ []
def dkwX0_crossesRight_0 : List UInt8 := [25, 5, 3, 42, 27, 28, 29, 21, 4, 182, 0, 101, 133, 80, 167, 0, 15, 58, 6, 4, 172, 58, 6, 5]
abbrev dktX0_crossesRight_0 : List UInt8 := dkwX0_crossesRight_0 ++ dktX0_crossesRight_1
theorem dksX0_crossesRight_0 : cX0_crossesRight.data.toList.drop 0 = dktX0_crossesRight_0 := by decide +kernel
theorem dksX0_crossesRight_1 : cX0_crossesRight.data.toList.drop 24 = dktX0_crossesRight_1 := dk_seg dksX0_crossesRight_0 24 rfl rfl
theorem dX0_crossesRight_0 : decode cX0_crossesRight 0 = .ok (.aload 5, 2) := dk_25 5 (dk_at dksX0_crossesRight_0 0 rfl rfl)
theorem dX0_crossesRight_2 : decode cX0_crossesRight 2 = .ok (.iconst 0, 1) := dk_3 (dk_at dksX0_crossesRight_0 2 rfl rfl)
theorem dX0_crossesRight_3 : decode cX0_crossesRight 3 = .ok (.aload_n 0, 1) := dk_42 (dk_at dksX0_crossesRight_0 3 rfl rfl)
theorem dX0_crossesRight_4 : decode cX0_crossesRight 4 = .ok (.iload_n 1, 1) := dk_27 (dk_at dksX0_crossesRight_0 4 rfl rfl)
theorem dX0_crossesRight_5 : decode cX0_crossesRight 5 = .ok (.iload_n 2, 1) := dk_28 (dk_at dksX0_crossesRight_0 5 rfl rfl)
theorem dX0_crossesRight_6 : decode cX0_crossesRight 6 = .ok (.iload_n 3, 1) := dk_29 (dk_at dksX0_crossesRight_0 6 rfl rfl)
theorem dX0_crossesRight_7 : decode cX0_crossesRight 7 = .ok (.iload 4, 2) := dk_21 4 (dk_at dksX0_crossesRight_0 7 rfl rfl)
theorem dX0_crossesRight_9 : decode cX0_crossesRight 9 = .ok (.invokevirtual 101, 3) := dk_182 0 101 (dk_at dksX0_crossesRight_0 9 rfl rfl)
theorem dX0_crossesRight_12 : decode cX0_crossesRight 12 = .ok (.i2l, 1) := dk_133 (dk_at dksX0_crossesRight_0 12 rfl rfl)
theorem dX0_crossesRight_13 : decode cX0_crossesRight 13 = .ok (.lastore, 1) := dk_80 (dk_at dksX0_crossesRight_0 13 rfl rfl)
theorem dX0_crossesRight_14 : decode cX0_crossesRight 14 = .ok (.goto 15, 3) := dk_167 0 15 (dk_at dksX0_crossesRight_0 14 rfl rfl)
theorem dX0_crossesRight_17 : decode cX0_crossesRight 17 = .ok (.astore 6, 2) := dk_58 6 (dk_at dksX0_crossesRight_0 17 rfl rfl)
theorem dX0_crossesRight_19 : decode cX0_crossesRight 19 = .ok (.iconst 1, 1) := dk_4 (dk_at dksX0_crossesRight_0 19 rfl rfl)
theorem dX0_crossesRight_20 : decode cX0_crossesRight 20 = .ok (.ireturn, 1) := dk_172 (dk_at dksX0_crossesRight_0 20 rfl rfl)
theorem dX0_crossesRight_21 : decode cX0_crossesRight 21 = .ok (.astore 6, 2) := dk_58 6 (dk_at dksX0_crossesRight_0 21 rfl rfl)
theorem dX0_crossesRight_23 : decode cX0_crossesRight 23 = .ok (.iconst 2, 1) := dk_5 (dk_at dksX0_crossesRight_0 23 rfl rfl)
theorem dX0_crossesRight_24 : decode cX0_crossesRight 24 = .ok (.ireturn, 1) := dk_172 (dk_at dksX0_crossesRight_1 0 rfl rfl)
theorem dX0_crossesRight_25 : decode cX0_crossesRight 25 = .ok (.astore 6, 2) := dk_58 6 (dk_at dksX0_crossesRight_1 1 rfl rfl)
theorem dX0_crossesRight_27 : decode cX0_crossesRight 27 = .ok (.iconst 3, 1) := dk_6 (dk_at dksX0_crossesRight_1 3 rfl rfl)
theorem dX0_crossesRight_28 : decode cX0_crossesRight 28 = .ok (.ireturn, 1) := dk_172 (dk_at dksX0_crossesRight_1 4 rfl rfl)
theorem dX0_crossesRight_29 : decode cX0_crossesRight 29 = .ok (.iconst 0, 1) := dk_3 (dk_at dksX0_crossesRight_1 5 rfl rfl)
theorem dX0_crossesRight_30 : decode cX0_crossesRight 30 = .ok (.ireturn, 1) := dk_172 (dk_at dksX0_crossesRight_1 6 rfl rfl)
abbrev cX0_crossesLeft : ByteArray := method_28_code
def yX0_crossesLeft : MethodName := ⟨RX0, "crossesLeft", "(LTileServer;IIII[J)I"⟩
def dkwX0_crossesLeft_1 : List UInt8 := [172, 58, 6, 6, 172, 3, 172]
abbrev dktX0_crossesLeft_1 : List UInt8 := dkwX0_crossesLeft_1 ++ []
def dkwX0_crossesLeft_0 : List UInt8 := [25, 5, 3, 42, 27, 28, 29, 21, 4, 182, 0, 104, 133, 80, 167, 0, 15, 58, 6, 4, 172, 58, 6, 5]
abbrev dktX0_crossesLeft_0 : List UInt8 := dkwX0_crossesLeft_0 ++ dktX0_crossesLeft_1
theorem dksX0_crossesLeft_0 : cX0_crossesLeft.data.toList.drop 0 = dktX0_crossesLeft_0 := by decide +kernel
theorem dksX0_crossesLeft_1 : cX0_crossesLeft.data.toList.drop 24 = dktX0_crossesLeft_1 := dk_seg dksX0_crossesLeft_0 24 rfl rfl
theorem dX0_crossesLeft_0 : decode cX0_crossesLeft 0 = .ok (.aload 5, 2) := dk_25 5 (dk_at dksX0_crossesLeft_0 0 rfl rfl)
theorem dX0_crossesLeft_2 : decode cX0_crossesLeft 2 = .ok (.iconst 0, 1) := dk_3 (dk_at dksX0_crossesLeft_0 2 rfl rfl)
theorem dX0_crossesLeft_3 : decode cX0_crossesLeft 3 = .ok (.aload_n 0, 1) := dk_42 (dk_at dksX0_crossesLeft_0 3 rfl rfl)
theorem dX0_crossesLeft_4 : decode cX0_crossesLeft 4 = .ok (.iload_n 1, 1) := dk_27 (dk_at dksX0_crossesLeft_0 4 rfl rfl)
theorem dX0_crossesLeft_5 : decode cX0_crossesLeft 5 = .ok (.iload_n 2, 1) := dk_28 (dk_at dksX0_crossesLeft_0 5 rfl rfl)
theorem dX0_crossesLeft_6 : decode cX0_crossesLeft 6 = .ok (.iload_n 3, 1) := dk_29 (dk_at dksX0_crossesLeft_0 6 rfl rfl)
theorem dX0_crossesLeft_7 : decode cX0_crossesLeft 7 = .ok (.iload 4, 2) := dk_21 4 (dk_at dksX0_crossesLeft_0 7 rfl rfl)
theorem dX0_crossesLeft_9 : decode cX0_crossesLeft 9 = .ok (.invokevirtual 104, 3) := dk_182 0 104 (dk_at dksX0_crossesLeft_0 9 rfl rfl)
theorem dX0_crossesLeft_12 : decode cX0_crossesLeft 12 = .ok (.i2l, 1) := dk_133 (dk_at dksX0_crossesLeft_0 12 rfl rfl)
theorem dX0_crossesLeft_13 : decode cX0_crossesLeft 13 = .ok (.lastore, 1) := dk_80 (dk_at dksX0_crossesLeft_0 13 rfl rfl)
theorem dX0_crossesLeft_14 : decode cX0_crossesLeft 14 = .ok (.goto 15, 3) := dk_167 0 15 (dk_at dksX0_crossesLeft_0 14 rfl rfl)
theorem dX0_crossesLeft_17 : decode cX0_crossesLeft 17 = .ok (.astore 6, 2) := dk_58 6 (dk_at dksX0_crossesLeft_0 17 rfl rfl)
theorem dX0_crossesLeft_19 : decode cX0_crossesLeft 19 = .ok (.iconst 1, 1) := dk_4 (dk_at dksX0_crossesLeft_0 19 rfl rfl)
theorem dX0_crossesLeft_20 : decode cX0_crossesLeft 20 = .ok (.ireturn, 1) := dk_172 (dk_at dksX0_crossesLeft_0 20 rfl rfl)
theorem dX0_crossesLeft_21 : decode cX0_crossesLeft 21 = .ok (.astore 6, 2) := dk_58 6 (dk_at dksX0_crossesLeft_0 21 rfl rfl)
theorem dX0_crossesLeft_23 : decode cX0_crossesLeft 23 = .ok (.iconst 2, 1) := dk_5 (dk_at dksX0_crossesLeft_0 23 rfl rfl)
theorem dX0_crossesLeft_24 : decode cX0_crossesLeft 24 = .ok (.ireturn, 1) := dk_172 (dk_at dksX0_crossesLeft_1 0 rfl rfl)
theorem dX0_crossesLeft_25 : decode cX0_crossesLeft 25 = .ok (.astore 6, 2) := dk_58 6 (dk_at dksX0_crossesLeft_1 1 rfl rfl)
theorem dX0_crossesLeft_27 : decode cX0_crossesLeft 27 = .ok (.iconst 3, 1) := dk_6 (dk_at dksX0_crossesLeft_1 3 rfl rfl)
theorem dX0_crossesLeft_28 : decode cX0_crossesLeft 28 = .ok (.ireturn, 1) := dk_172 (dk_at dksX0_crossesLeft_1 4 rfl rfl)
theorem dX0_crossesLeft_29 : decode cX0_crossesLeft 29 = .ok (.iconst 0, 1) := dk_3 (dk_at dksX0_crossesLeft_1 5 rfl rfl)
theorem dX0_crossesLeft_30 : decode cX0_crossesLeft 30 = .ok (.ireturn, 1) := dk_172 (dk_at dksX0_crossesLeft_1 6 rfl rfl)
abbrev cX0_segmentsIn : ByteArray := method_29_code
def yX0_segmentsIn : MethodName := ⟨RX0, "segmentsIn", "(LTileServer;III[J)I"⟩
def dkwX0_segmentsIn_0 : List UInt8 := [25, 4, 3, 42, 27, 28, 29, 182, 0, 107, 133, 80, 167, 0, 7, 58, 5, 4, 172, 3, 172]
abbrev dktX0_segmentsIn_0 : List UInt8 := dkwX0_segmentsIn_0 ++ []
theorem dksX0_segmentsIn_0 : cX0_segmentsIn.data.toList.drop 0 = dktX0_segmentsIn_0 := by decide +kernel
theorem dX0_segmentsIn_0 : decode cX0_segmentsIn 0 = .ok (.aload 4, 2) := dk_25 4 (dk_at dksX0_segmentsIn_0 0 rfl rfl)
theorem dX0_segmentsIn_2 : decode cX0_segmentsIn 2 = .ok (.iconst 0, 1) := dk_3 (dk_at dksX0_segmentsIn_0 2 rfl rfl)
theorem dX0_segmentsIn_3 : decode cX0_segmentsIn 3 = .ok (.aload_n 0, 1) := dk_42 (dk_at dksX0_segmentsIn_0 3 rfl rfl)
theorem dX0_segmentsIn_4 : decode cX0_segmentsIn 4 = .ok (.iload_n 1, 1) := dk_27 (dk_at dksX0_segmentsIn_0 4 rfl rfl)
theorem dX0_segmentsIn_5 : decode cX0_segmentsIn 5 = .ok (.iload_n 2, 1) := dk_28 (dk_at dksX0_segmentsIn_0 5 rfl rfl)
theorem dX0_segmentsIn_6 : decode cX0_segmentsIn 6 = .ok (.iload_n 3, 1) := dk_29 (dk_at dksX0_segmentsIn_0 6 rfl rfl)
theorem dX0_segmentsIn_7 : decode cX0_segmentsIn 7 = .ok (.invokevirtual 107, 3) := dk_182 0 107 (dk_at dksX0_segmentsIn_0 7 rfl rfl)
theorem dX0_segmentsIn_10 : decode cX0_segmentsIn 10 = .ok (.i2l, 1) := dk_133 (dk_at dksX0_segmentsIn_0 10 rfl rfl)
theorem dX0_segmentsIn_11 : decode cX0_segmentsIn 11 = .ok (.lastore, 1) := dk_80 (dk_at dksX0_segmentsIn_0 11 rfl rfl)
theorem dX0_segmentsIn_12 : decode cX0_segmentsIn 12 = .ok (.goto 7, 3) := dk_167 0 7 (dk_at dksX0_segmentsIn_0 12 rfl rfl)
theorem dX0_segmentsIn_15 : decode cX0_segmentsIn 15 = .ok (.astore 5, 2) := dk_58 5 (dk_at dksX0_segmentsIn_0 15 rfl rfl)
theorem dX0_segmentsIn_17 : decode cX0_segmentsIn 17 = .ok (.iconst 1, 1) := dk_4 (dk_at dksX0_segmentsIn_0 17 rfl rfl)
theorem dX0_segmentsIn_18 : decode cX0_segmentsIn 18 = .ok (.ireturn, 1) := dk_172 (dk_at dksX0_segmentsIn_0 18 rfl rfl)
theorem dX0_segmentsIn_19 : decode cX0_segmentsIn 19 = .ok (.iconst 0, 1) := dk_3 (dk_at dksX0_segmentsIn_0 19 rfl rfl)
theorem dX0_segmentsIn_20 : decode cX0_segmentsIn 20 = .ok (.ireturn, 1) := dk_172 (dk_at dksX0_segmentsIn_0 20 rfl rfl)
abbrev cX0_placeOf : ByteArray := method_30_code
def yX0_placeOf : MethodName := ⟨RX0, "placeOf", "(LTileServer;II[J)I"⟩
def dkwX0_placeOf_1 : List UInt8 := [172, 3, 172]
abbrev dktX0_placeOf_1 : List UInt8 := dkwX0_placeOf_1 ++ []
def dkwX0_placeOf_0 : List UInt8 := [45, 3, 42, 27, 28, 182, 0, 110, 133, 80, 167, 0, 15, 58, 4, 4, 172, 58, 4, 5, 172, 58, 4, 6]
abbrev dktX0_placeOf_0 : List UInt8 := dkwX0_placeOf_0 ++ dktX0_placeOf_1
theorem dksX0_placeOf_0 : cX0_placeOf.data.toList.drop 0 = dktX0_placeOf_0 := by decide +kernel
theorem dksX0_placeOf_1 : cX0_placeOf.data.toList.drop 24 = dktX0_placeOf_1 := dk_seg dksX0_placeOf_0 24 rfl rfl
theorem dX0_placeOf_0 : decode cX0_placeOf 0 = .ok (.aload_n 3, 1) := dk_45 (dk_at dksX0_placeOf_0 0 rfl rfl)
theorem dX0_placeOf_1 : decode cX0_placeOf 1 = .ok (.iconst 0, 1) := dk_3 (dk_at dksX0_placeOf_0 1 rfl rfl)
theorem dX0_placeOf_2 : decode cX0_placeOf 2 = .ok (.aload_n 0, 1) := dk_42 (dk_at dksX0_placeOf_0 2 rfl rfl)
theorem dX0_placeOf_3 : decode cX0_placeOf 3 = .ok (.iload_n 1, 1) := dk_27 (dk_at dksX0_placeOf_0 3 rfl rfl)
theorem dX0_placeOf_4 : decode cX0_placeOf 4 = .ok (.iload_n 2, 1) := dk_28 (dk_at dksX0_placeOf_0 4 rfl rfl)
theorem dX0_placeOf_5 : decode cX0_placeOf 5 = .ok (.invokevirtual 110, 3) := dk_182 0 110 (dk_at dksX0_placeOf_0 5 rfl rfl)
theorem dX0_placeOf_8 : decode cX0_placeOf 8 = .ok (.i2l, 1) := dk_133 (dk_at dksX0_placeOf_0 8 rfl rfl)
theorem dX0_placeOf_9 : decode cX0_placeOf 9 = .ok (.lastore, 1) := dk_80 (dk_at dksX0_placeOf_0 9 rfl rfl)
theorem dX0_placeOf_10 : decode cX0_placeOf 10 = .ok (.goto 15, 3) := dk_167 0 15 (dk_at dksX0_placeOf_0 10 rfl rfl)
theorem dX0_placeOf_13 : decode cX0_placeOf 13 = .ok (.astore 4, 2) := dk_58 4 (dk_at dksX0_placeOf_0 13 rfl rfl)
theorem dX0_placeOf_15 : decode cX0_placeOf 15 = .ok (.iconst 1, 1) := dk_4 (dk_at dksX0_placeOf_0 15 rfl rfl)
theorem dX0_placeOf_16 : decode cX0_placeOf 16 = .ok (.ireturn, 1) := dk_172 (dk_at dksX0_placeOf_0 16 rfl rfl)
theorem dX0_placeOf_17 : decode cX0_placeOf 17 = .ok (.astore 4, 2) := dk_58 4 (dk_at dksX0_placeOf_0 17 rfl rfl)
theorem dX0_placeOf_19 : decode cX0_placeOf 19 = .ok (.iconst 2, 1) := dk_5 (dk_at dksX0_placeOf_0 19 rfl rfl)
theorem dX0_placeOf_20 : decode cX0_placeOf 20 = .ok (.ireturn, 1) := dk_172 (dk_at dksX0_placeOf_0 20 rfl rfl)
theorem dX0_placeOf_21 : decode cX0_placeOf 21 = .ok (.astore 4, 2) := dk_58 4 (dk_at dksX0_placeOf_0 21 rfl rfl)
theorem dX0_placeOf_23 : decode cX0_placeOf 23 = .ok (.iconst 3, 1) := dk_6 (dk_at dksX0_placeOf_0 23 rfl rfl)
theorem dX0_placeOf_24 : decode cX0_placeOf 24 = .ok (.ireturn, 1) := dk_172 (dk_at dksX0_placeOf_1 0 rfl rfl)
theorem dX0_placeOf_25 : decode cX0_placeOf 25 = .ok (.iconst 0, 1) := dk_3 (dk_at dksX0_placeOf_1 1 rfl rfl)
theorem dX0_placeOf_26 : decode cX0_placeOf 26 = .ok (.ireturn, 1) := dk_172 (dk_at dksX0_placeOf_1 2 rfl rfl)
abbrev cX0_labelLeft : ByteArray := method_31_code
def yX0_labelLeft : MethodName := ⟨RX0, "labelLeft", "(LTileServer;II[J)I"⟩
def dkwX0_labelLeft_1 : List UInt8 := [172, 3, 172]
abbrev dktX0_labelLeft_1 : List UInt8 := dkwX0_labelLeft_1 ++ []
def dkwX0_labelLeft_0 : List UInt8 := [45, 3, 42, 27, 28, 182, 0, 114, 133, 80, 167, 0, 15, 58, 4, 4, 172, 58, 4, 5, 172, 58, 4, 6]
abbrev dktX0_labelLeft_0 : List UInt8 := dkwX0_labelLeft_0 ++ dktX0_labelLeft_1
theorem dksX0_labelLeft_0 : cX0_labelLeft.data.toList.drop 0 = dktX0_labelLeft_0 := by decide +kernel
theorem dksX0_labelLeft_1 : cX0_labelLeft.data.toList.drop 24 = dktX0_labelLeft_1 := dk_seg dksX0_labelLeft_0 24 rfl rfl
theorem dX0_labelLeft_0 : decode cX0_labelLeft 0 = .ok (.aload_n 3, 1) := dk_45 (dk_at dksX0_labelLeft_0 0 rfl rfl)
theorem dX0_labelLeft_1 : decode cX0_labelLeft 1 = .ok (.iconst 0, 1) := dk_3 (dk_at dksX0_labelLeft_0 1 rfl rfl)
theorem dX0_labelLeft_2 : decode cX0_labelLeft 2 = .ok (.aload_n 0, 1) := dk_42 (dk_at dksX0_labelLeft_0 2 rfl rfl)
theorem dX0_labelLeft_3 : decode cX0_labelLeft 3 = .ok (.iload_n 1, 1) := dk_27 (dk_at dksX0_labelLeft_0 3 rfl rfl)
theorem dX0_labelLeft_4 : decode cX0_labelLeft 4 = .ok (.iload_n 2, 1) := dk_28 (dk_at dksX0_labelLeft_0 4 rfl rfl)
theorem dX0_labelLeft_5 : decode cX0_labelLeft 5 = .ok (.invokevirtual 114, 3) := dk_182 0 114 (dk_at dksX0_labelLeft_0 5 rfl rfl)
theorem dX0_labelLeft_8 : decode cX0_labelLeft 8 = .ok (.i2l, 1) := dk_133 (dk_at dksX0_labelLeft_0 8 rfl rfl)
theorem dX0_labelLeft_9 : decode cX0_labelLeft 9 = .ok (.lastore, 1) := dk_80 (dk_at dksX0_labelLeft_0 9 rfl rfl)
theorem dX0_labelLeft_10 : decode cX0_labelLeft 10 = .ok (.goto 15, 3) := dk_167 0 15 (dk_at dksX0_labelLeft_0 10 rfl rfl)
theorem dX0_labelLeft_13 : decode cX0_labelLeft 13 = .ok (.astore 4, 2) := dk_58 4 (dk_at dksX0_labelLeft_0 13 rfl rfl)
theorem dX0_labelLeft_15 : decode cX0_labelLeft 15 = .ok (.iconst 1, 1) := dk_4 (dk_at dksX0_labelLeft_0 15 rfl rfl)
theorem dX0_labelLeft_16 : decode cX0_labelLeft 16 = .ok (.ireturn, 1) := dk_172 (dk_at dksX0_labelLeft_0 16 rfl rfl)
theorem dX0_labelLeft_17 : decode cX0_labelLeft 17 = .ok (.astore 4, 2) := dk_58 4 (dk_at dksX0_labelLeft_0 17 rfl rfl)
theorem dX0_labelLeft_19 : decode cX0_labelLeft 19 = .ok (.iconst 2, 1) := dk_5 (dk_at dksX0_labelLeft_0 19 rfl rfl)
theorem dX0_labelLeft_20 : decode cX0_labelLeft 20 = .ok (.ireturn, 1) := dk_172 (dk_at dksX0_labelLeft_0 20 rfl rfl)
theorem dX0_labelLeft_21 : decode cX0_labelLeft 21 = .ok (.astore 4, 2) := dk_58 4 (dk_at dksX0_labelLeft_0 21 rfl rfl)
theorem dX0_labelLeft_23 : decode cX0_labelLeft 23 = .ok (.iconst 3, 1) := dk_6 (dk_at dksX0_labelLeft_0 23 rfl rfl)
theorem dX0_labelLeft_24 : decode cX0_labelLeft 24 = .ok (.ireturn, 1) := dk_172 (dk_at dksX0_labelLeft_1 0 rfl rfl)
theorem dX0_labelLeft_25 : decode cX0_labelLeft 25 = .ok (.iconst 0, 1) := dk_3 (dk_at dksX0_labelLeft_1 1 rfl rfl)
theorem dX0_labelLeft_26 : decode cX0_labelLeft 26 = .ok (.ireturn, 1) := dk_172 (dk_at dksX0_labelLeft_1 2 rfl rfl)
abbrev cX0_labelLow : ByteArray := method_32_code
def yX0_labelLow : MethodName := ⟨RX0, "labelLow", "(LTileServer;II[J)I"⟩
def dkwX0_labelLow_1 : List UInt8 := [172, 3, 172]
abbrev dktX0_labelLow_1 : List UInt8 := dkwX0_labelLow_1 ++ []
def dkwX0_labelLow_0 : List UInt8 := [45, 3, 42, 27, 28, 182, 0, 117, 133, 80, 167, 0, 15, 58, 4, 4, 172, 58, 4, 5, 172, 58, 4, 6]
abbrev dktX0_labelLow_0 : List UInt8 := dkwX0_labelLow_0 ++ dktX0_labelLow_1
theorem dksX0_labelLow_0 : cX0_labelLow.data.toList.drop 0 = dktX0_labelLow_0 := by decide +kernel
theorem dksX0_labelLow_1 : cX0_labelLow.data.toList.drop 24 = dktX0_labelLow_1 := dk_seg dksX0_labelLow_0 24 rfl rfl
theorem dX0_labelLow_0 : decode cX0_labelLow 0 = .ok (.aload_n 3, 1) := dk_45 (dk_at dksX0_labelLow_0 0 rfl rfl)
theorem dX0_labelLow_1 : decode cX0_labelLow 1 = .ok (.iconst 0, 1) := dk_3 (dk_at dksX0_labelLow_0 1 rfl rfl)
theorem dX0_labelLow_2 : decode cX0_labelLow 2 = .ok (.aload_n 0, 1) := dk_42 (dk_at dksX0_labelLow_0 2 rfl rfl)
theorem dX0_labelLow_3 : decode cX0_labelLow 3 = .ok (.iload_n 1, 1) := dk_27 (dk_at dksX0_labelLow_0 3 rfl rfl)
theorem dX0_labelLow_4 : decode cX0_labelLow 4 = .ok (.iload_n 2, 1) := dk_28 (dk_at dksX0_labelLow_0 4 rfl rfl)
theorem dX0_labelLow_5 : decode cX0_labelLow 5 = .ok (.invokevirtual 117, 3) := dk_182 0 117 (dk_at dksX0_labelLow_0 5 rfl rfl)
theorem dX0_labelLow_8 : decode cX0_labelLow 8 = .ok (.i2l, 1) := dk_133 (dk_at dksX0_labelLow_0 8 rfl rfl)
theorem dX0_labelLow_9 : decode cX0_labelLow 9 = .ok (.lastore, 1) := dk_80 (dk_at dksX0_labelLow_0 9 rfl rfl)
theorem dX0_labelLow_10 : decode cX0_labelLow 10 = .ok (.goto 15, 3) := dk_167 0 15 (dk_at dksX0_labelLow_0 10 rfl rfl)
theorem dX0_labelLow_13 : decode cX0_labelLow 13 = .ok (.astore 4, 2) := dk_58 4 (dk_at dksX0_labelLow_0 13 rfl rfl)
theorem dX0_labelLow_15 : decode cX0_labelLow 15 = .ok (.iconst 1, 1) := dk_4 (dk_at dksX0_labelLow_0 15 rfl rfl)
theorem dX0_labelLow_16 : decode cX0_labelLow 16 = .ok (.ireturn, 1) := dk_172 (dk_at dksX0_labelLow_0 16 rfl rfl)
theorem dX0_labelLow_17 : decode cX0_labelLow 17 = .ok (.astore 4, 2) := dk_58 4 (dk_at dksX0_labelLow_0 17 rfl rfl)
theorem dX0_labelLow_19 : decode cX0_labelLow 19 = .ok (.iconst 2, 1) := dk_5 (dk_at dksX0_labelLow_0 19 rfl rfl)
theorem dX0_labelLow_20 : decode cX0_labelLow 20 = .ok (.ireturn, 1) := dk_172 (dk_at dksX0_labelLow_0 20 rfl rfl)
theorem dX0_labelLow_21 : decode cX0_labelLow 21 = .ok (.astore 4, 2) := dk_58 4 (dk_at dksX0_labelLow_0 21 rfl rfl)
theorem dX0_labelLow_23 : decode cX0_labelLow 23 = .ok (.iconst 3, 1) := dk_6 (dk_at dksX0_labelLow_0 23 rfl rfl)
theorem dX0_labelLow_24 : decode cX0_labelLow 24 = .ok (.ireturn, 1) := dk_172 (dk_at dksX0_labelLow_1 0 rfl rfl)
theorem dX0_labelLow_25 : decode cX0_labelLow 25 = .ok (.iconst 0, 1) := dk_3 (dk_at dksX0_labelLow_1 1 rfl rfl)
theorem dX0_labelLow_26 : decode cX0_labelLow 26 = .ok (.ireturn, 1) := dk_172 (dk_at dksX0_labelLow_1 2 rfl rfl)
abbrev cX0_shownLabels : ByteArray := method_33_code
def yX0_shownLabels : MethodName := ⟨RX0, "shownLabels", "(LTileServer;I[J)I"⟩
def dkwX0_shownLabels_0 : List UInt8 := [44, 3, 42, 27, 182, 0, 120, 133, 80, 167, 0, 6, 78, 4, 172, 3, 172]
abbrev dktX0_shownLabels_0 : List UInt8 := dkwX0_shownLabels_0 ++ []
theorem dksX0_shownLabels_0 : cX0_shownLabels.data.toList.drop 0 = dktX0_shownLabels_0 := by decide +kernel
theorem dX0_shownLabels_0 : decode cX0_shownLabels 0 = .ok (.aload_n 2, 1) := dk_44 (dk_at dksX0_shownLabels_0 0 rfl rfl)
theorem dX0_shownLabels_1 : decode cX0_shownLabels 1 = .ok (.iconst 0, 1) := dk_3 (dk_at dksX0_shownLabels_0 1 rfl rfl)
theorem dX0_shownLabels_2 : decode cX0_shownLabels 2 = .ok (.aload_n 0, 1) := dk_42 (dk_at dksX0_shownLabels_0 2 rfl rfl)
theorem dX0_shownLabels_3 : decode cX0_shownLabels 3 = .ok (.iload_n 1, 1) := dk_27 (dk_at dksX0_shownLabels_0 3 rfl rfl)
theorem dX0_shownLabels_4 : decode cX0_shownLabels 4 = .ok (.invokevirtual 120, 3) := dk_182 0 120 (dk_at dksX0_shownLabels_0 4 rfl rfl)
theorem dX0_shownLabels_7 : decode cX0_shownLabels 7 = .ok (.i2l, 1) := dk_133 (dk_at dksX0_shownLabels_0 7 rfl rfl)
theorem dX0_shownLabels_8 : decode cX0_shownLabels 8 = .ok (.lastore, 1) := dk_80 (dk_at dksX0_shownLabels_0 8 rfl rfl)
theorem dX0_shownLabels_9 : decode cX0_shownLabels 9 = .ok (.goto 6, 3) := dk_167 0 6 (dk_at dksX0_shownLabels_0 9 rfl rfl)
theorem dX0_shownLabels_12 : decode cX0_shownLabels 12 = .ok (.astore_n 3, 1) := dk_78 (dk_at dksX0_shownLabels_0 12 rfl rfl)
theorem dX0_shownLabels_13 : decode cX0_shownLabels 13 = .ok (.iconst 1, 1) := dk_4 (dk_at dksX0_shownLabels_0 13 rfl rfl)
theorem dX0_shownLabels_14 : decode cX0_shownLabels 14 = .ok (.ireturn, 1) := dk_172 (dk_at dksX0_shownLabels_0 14 rfl rfl)
theorem dX0_shownLabels_15 : decode cX0_shownLabels 15 = .ok (.iconst 0, 1) := dk_3 (dk_at dksX0_shownLabels_0 15 rfl rfl)
theorem dX0_shownLabels_16 : decode cX0_shownLabels 16 = .ok (.ireturn, 1) := dk_172 (dk_at dksX0_shownLabels_0 16 rfl rfl)
abbrev cX0_meanKept : ByteArray := method_34_code
def yX0_meanKept : MethodName := ⟨RX0, "meanKept", "(LTileServer;I[D)I"⟩
def dkwX0_meanKept_0 : List UInt8 := [44, 3, 42, 27, 182, 0, 123, 82, 167, 0, 9, 78, 4, 172, 78, 5, 172, 3, 172]
abbrev dktX0_meanKept_0 : List UInt8 := dkwX0_meanKept_0 ++ []
theorem dksX0_meanKept_0 : cX0_meanKept.data.toList.drop 0 = dktX0_meanKept_0 := by decide +kernel
theorem dX0_meanKept_0 : decode cX0_meanKept 0 = .ok (.aload_n 2, 1) := dk_44 (dk_at dksX0_meanKept_0 0 rfl rfl)
theorem dX0_meanKept_1 : decode cX0_meanKept 1 = .ok (.iconst 0, 1) := dk_3 (dk_at dksX0_meanKept_0 1 rfl rfl)
theorem dX0_meanKept_2 : decode cX0_meanKept 2 = .ok (.aload_n 0, 1) := dk_42 (dk_at dksX0_meanKept_0 2 rfl rfl)
theorem dX0_meanKept_3 : decode cX0_meanKept 3 = .ok (.iload_n 1, 1) := dk_27 (dk_at dksX0_meanKept_0 3 rfl rfl)
theorem dX0_meanKept_4 : decode cX0_meanKept 4 = .ok (.invokevirtual 123, 3) := dk_182 0 123 (dk_at dksX0_meanKept_0 4 rfl rfl)
theorem dX0_meanKept_7 : decode cX0_meanKept 7 = .ok (.dastore, 1) := dk_82 (dk_at dksX0_meanKept_0 7 rfl rfl)
theorem dX0_meanKept_8 : decode cX0_meanKept 8 = .ok (.goto 9, 3) := dk_167 0 9 (dk_at dksX0_meanKept_0 8 rfl rfl)
theorem dX0_meanKept_11 : decode cX0_meanKept 11 = .ok (.astore_n 3, 1) := dk_78 (dk_at dksX0_meanKept_0 11 rfl rfl)
theorem dX0_meanKept_12 : decode cX0_meanKept 12 = .ok (.iconst 1, 1) := dk_4 (dk_at dksX0_meanKept_0 12 rfl rfl)
theorem dX0_meanKept_13 : decode cX0_meanKept 13 = .ok (.ireturn, 1) := dk_172 (dk_at dksX0_meanKept_0 13 rfl rfl)
theorem dX0_meanKept_14 : decode cX0_meanKept 14 = .ok (.astore_n 3, 1) := dk_78 (dk_at dksX0_meanKept_0 14 rfl rfl)
theorem dX0_meanKept_15 : decode cX0_meanKept 15 = .ok (.iconst 2, 1) := dk_5 (dk_at dksX0_meanKept_0 15 rfl rfl)
theorem dX0_meanKept_16 : decode cX0_meanKept 16 = .ok (.ireturn, 1) := dk_172 (dk_at dksX0_meanKept_0 16 rfl rfl)
theorem dX0_meanKept_17 : decode cX0_meanKept 17 = .ok (.iconst 0, 1) := dk_3 (dk_at dksX0_meanKept_0 17 rfl rfl)
theorem dX0_meanKept_18 : decode cX0_meanKept 18 = .ok (.ireturn, 1) := dk_172 (dk_at dksX0_meanKept_0 18 rfl rfl)
theorem q61 : (Jvm.Cond.initialized "TileServerLaw") ∈ lw_all := lw_g (lw_at lw_m1 0 rfl) rfl
theorem q103 : (Jvm.Cond.classLink "TileServerLaw" (8 : Nat) "TileServer") ∈ lw_all := lw_g (lw_at lw_m1 42 rfl) rfl
theorem q105 : (Jvm.Cond.methodLink "TileServerLaw" (127 : Nat) ({ cls := "TileServer", name := "<init>", desc := "()V" } : Jvm.MethodName)) ∈ lw_all := lw_g (lw_at lw_m1 44 rfl) rfl
theorem q213 : (Jvm.Cond.methodLink "TileServerLaw" (171 : Nat) ({ cls := "TileServer", name := "clock", desc := "()I" } : Jvm.MethodName)) ∈ lw_all := lw_g (lw_at lw_m1 152 rfl) rfl
theorem q217 : (Jvm.Cond.methodLink "TileServerLaw" (175 : Nat) ({ cls := "TileServer", name := "shapes", desc := "()I" } : Jvm.MethodName)) ∈ lw_all := lw_g (lw_at lw_m1 156 rfl) rfl
theorem q231 : (Jvm.Cond.methodLink "TileServerLaw" (213 : Nat) ({ cls := "TileServer", name := "cached", desc := "()I" } : Jvm.MethodName)) ∈ lw_all := lw_g (lw_at lw_m1 170 rfl) rfl
theorem q235 : (Jvm.Cond.methodLink "TileServerLaw" (217 : Nat) ({ cls := "TileServer", name := "misses", desc := "()I" } : Jvm.MethodName)) ∈ lw_all := lw_g (lw_at lw_m1 174 rfl) rfl
theorem q239 : (Jvm.Cond.methodLink "TileServerLaw" (252 : Nat) ({ cls := "TileServer", name := "drawn", desc := "()J" } : Jvm.MethodName)) ∈ lw_all := lw_g (lw_at lw_m1 178 rfl) rfl
theorem q243 : (Jvm.Cond.methodLink "TileServerLaw" (261 : Nat) ({ cls := "TileServer", name := "isFresh", desc := "()Z" } : Jvm.MethodName)) ∈ lw_all := lw_g (lw_at lw_m1 182 rfl) rfl
theorem q681 : (Jvm.Cond.methodLink "TileServerLaw" (131 : Nat) ({ cls := "TileServerLaw", name := "addLine", desc := "(LTileServer;IIII[J)I" } : Jvm.MethodName)) ∈ lw_all := lw_g (lw_at lw_m3 140 rfl) rfl
theorem q682 : (Jvm.Cond.static ({ cls := "TileServerLaw", name := "addLine", desc := "(LTileServer;IIII[J)I" } : Jvm.MethodName)) ∈ lw_all := lw_g (lw_at lw_m3 141 rfl) rfl
theorem q683 : (Jvm.Cond.codeWith ({ cls := "TileServerLaw", name := "addLine", desc := "(LTileServer;IIII[J)I" } : Jvm.MethodName) method_3_code (7 : Nat) (Option.some Jvm.ClassFile.FieldType.int) [((0 : Nat), (14 : Nat), (17 : Nat), (13 : Nat)), ((0 : Nat), (14 : Nat), (21 : Nat), (15 : Nat))]) ∈ lw_all := lw_g (lw_at lw_m3 142 rfl) rfl
theorem q684 : (Jvm.Cond.classLink "TileServerLaw" (13 : Nat) "java/lang/IllegalArgumentException") ∈ lw_all := lw_g (lw_at lw_m3 143 rfl) rfl
theorem q685 : (Jvm.Cond.classLink "TileServerLaw" (15 : Nat) "java/lang/IllegalStateException") ∈ lw_all := lw_g (lw_at lw_m3 144 rfl) rfl
theorem q686 : (Jvm.Cond.methodLink "TileServerLaw" (7 : Nat) ({ cls := "TileServer", name := "addLine", desc := "(IIII)I" } : Jvm.MethodName)) ∈ lw_all := lw_g (lw_at lw_m3 145 rfl) rfl
theorem q792 : (Jvm.Cond.methodLink "TileServerLaw" (141 : Nat) ({ cls := "TileServerLaw", name := "extend", desc := "(LTileServer;III[J)I" } : Jvm.MethodName)) ∈ lw_all := lw_g (lw_at lw_m4 11 rfl) rfl
theorem q793 : (Jvm.Cond.static ({ cls := "TileServerLaw", name := "extend", desc := "(LTileServer;III[J)I" } : Jvm.MethodName)) ∈ lw_all := lw_g (lw_at lw_m4 12 rfl) rfl
theorem q794 : (Jvm.Cond.codeWith ({ cls := "TileServerLaw", name := "extend", desc := "(LTileServer;III[J)I" } : Jvm.MethodName) method_4_code (6 : Nat) (Option.some Jvm.ClassFile.FieldType.int) [((0 : Nat), (12 : Nat), (15 : Nat), (21 : Nat)), ((0 : Nat), (12 : Nat), (19 : Nat), (23 : Nat)), ((0 : Nat), (12 : Nat), (23 : Nat), (13 : Nat)), ((0 : Nat), (12 : Nat), (27 : Nat), (15 : Nat))]) ∈ lw_all := lw_g (lw_at lw_m4 13 rfl) rfl
theorem q795 : (Jvm.Cond.classLink "TileServerLaw" (21 : Nat) "java/util/NoSuchElementException") ∈ lw_all := lw_g (lw_at lw_m4 14 rfl) rfl
theorem q796 : (Jvm.Cond.classLink "TileServerLaw" (23 : Nat) "java/lang/UnsupportedOperationException") ∈ lw_all := lw_g (lw_at lw_m4 15 rfl) rfl
theorem q797 : (Jvm.Cond.methodLink "TileServerLaw" (17 : Nat) ({ cls := "TileServer", name := "extend", desc := "(III)I" } : Jvm.MethodName)) ∈ lw_all := lw_g (lw_at lw_m4 16 rfl) rfl
theorem q827 : (Jvm.Cond.methodLink "TileServerLaw" (145 : Nat) ({ cls := "TileServerLaw", name := "movePoint", desc := "(LTileServer;IIII[J)I" } : Jvm.MethodName)) ∈ lw_all := lw_g (lw_at lw_m4 46 rfl) rfl
theorem q828 : (Jvm.Cond.static ({ cls := "TileServerLaw", name := "movePoint", desc := "(LTileServer;IIII[J)I" } : Jvm.MethodName)) ∈ lw_all := lw_g (lw_at lw_m4 47 rfl) rfl
theorem q829 : (Jvm.Cond.codeWith ({ cls := "TileServerLaw", name := "movePoint", desc := "(LTileServer;IIII[J)I" } : Jvm.MethodName) method_5_code (7 : Nat) (Option.some Jvm.ClassFile.FieldType.int) [((0 : Nat), (14 : Nat), (17 : Nat), (21 : Nat)), ((0 : Nat), (14 : Nat), (21 : Nat), (23 : Nat)), ((0 : Nat), (14 : Nat), (25 : Nat), (28 : Nat)), ((0 : Nat), (14 : Nat), (29 : Nat), (13 : Nat))]) ∈ lw_all := lw_g (lw_at lw_m4 48 rfl) rfl
theorem q830 : (Jvm.Cond.classLink "TileServerLaw" (28 : Nat) "java/lang/IndexOutOfBoundsException") ∈ lw_all := lw_g (lw_at lw_m4 49 rfl) rfl
theorem q863 : (Jvm.Cond.methodLink "TileServerLaw" (25 : Nat) ({ cls := "TileServer", name := "movePoint", desc := "(IIII)I" } : Jvm.MethodName)) ∈ lw_all := lw_g (lw_at lw_m4 82 rfl) rfl
theorem q890 : (Jvm.Cond.methodLink "TileServerLaw" (148 : Nat) ({ cls := "TileServerLaw", name := "dropPoint", desc := "(LTileServer;II[J)I" } : Jvm.MethodName)) ∈ lw_all := lw_g (lw_at lw_m4 109 rfl) rfl
theorem q891 : (Jvm.Cond.static ({ cls := "TileServerLaw", name := "dropPoint", desc := "(LTileServer;II[J)I" } : Jvm.MethodName)) ∈ lw_all := lw_g (lw_at lw_m4 110 rfl) rfl
theorem q892 : (Jvm.Cond.codeWith ({ cls := "TileServerLaw", name := "dropPoint", desc := "(LTileServer;II[J)I" } : Jvm.MethodName) method_6_code (5 : Nat) (Option.some Jvm.ClassFile.FieldType.int) [((0 : Nat), (10 : Nat), (13 : Nat), (21 : Nat)), ((0 : Nat), (10 : Nat), (17 : Nat), (23 : Nat)), ((0 : Nat), (10 : Nat), (21 : Nat), (28 : Nat)), ((0 : Nat), (10 : Nat), (25 : Nat), (15 : Nat))]) ∈ lw_all := lw_g (lw_at lw_m4 111 rfl) rfl
theorem q893 : (Jvm.Cond.methodLink "TileServerLaw" (30 : Nat) ({ cls := "TileServer", name := "dropPoint", desc := "(II)I" } : Jvm.MethodName)) ∈ lw_all := lw_g (lw_at lw_m4 112 rfl) rfl
theorem q897 : (Jvm.Cond.methodLink "TileServerLaw" (152 : Nat) ({ cls := "TileServerLaw", name := "addArea", desc := "(LTileServer;IIII[J)I" } : Jvm.MethodName)) ∈ lw_all := lw_g (lw_at lw_m4 116 rfl) rfl
theorem q898 : (Jvm.Cond.static ({ cls := "TileServerLaw", name := "addArea", desc := "(LTileServer;IIII[J)I" } : Jvm.MethodName)) ∈ lw_all := lw_g (lw_at lw_m4 117 rfl) rfl
theorem q899 : (Jvm.Cond.codeWith ({ cls := "TileServerLaw", name := "addArea", desc := "(LTileServer;IIII[J)I" } : Jvm.MethodName) method_7_code (7 : Nat) (Option.some Jvm.ClassFile.FieldType.int) [((0 : Nat), (14 : Nat), (17 : Nat), (13 : Nat)), ((0 : Nat), (14 : Nat), (21 : Nat), (15 : Nat))]) ∈ lw_all := lw_g (lw_at lw_m4 118 rfl) rfl
theorem q900 : (Jvm.Cond.methodLink "TileServerLaw" (34 : Nat) ({ cls := "TileServer", name := "addArea", desc := "(IIII)I" } : Jvm.MethodName)) ∈ lw_all := lw_g (lw_at lw_m4 119 rfl) rfl
theorem q932 : (Jvm.Cond.methodLink "TileServerLaw" (155 : Nat) ({ cls := "TileServerLaw", name := "moveArea", desc := "(LTileServer;III[J)I" } : Jvm.MethodName)) ∈ lw_all := lw_g (lw_at lw_m4 151 rfl) rfl
theorem q933 : (Jvm.Cond.static ({ cls := "TileServerLaw", name := "moveArea", desc := "(LTileServer;III[J)I" } : Jvm.MethodName)) ∈ lw_all := lw_g (lw_at lw_m4 152 rfl) rfl
theorem q934 : (Jvm.Cond.codeWith ({ cls := "TileServerLaw", name := "moveArea", desc := "(LTileServer;III[J)I" } : Jvm.MethodName) method_8_code (6 : Nat) (Option.some Jvm.ClassFile.FieldType.int) [((0 : Nat), (12 : Nat), (15 : Nat), (21 : Nat)), ((0 : Nat), (12 : Nat), (19 : Nat), (23 : Nat)), ((0 : Nat), (12 : Nat), (23 : Nat), (13 : Nat))]) ∈ lw_all := lw_g (lw_at lw_m4 153 rfl) rfl
theorem q935 : (Jvm.Cond.methodLink "TileServerLaw" (37 : Nat) ({ cls := "TileServer", name := "moveArea", desc := "(III)I" } : Jvm.MethodName)) ∈ lw_all := lw_g (lw_at lw_m4 154 rfl) rfl
theorem q947 : (Jvm.Cond.methodLink "TileServerLaw" (158 : Nat) ({ cls := "TileServerLaw", name := "remove", desc := "(LTileServer;I[J)I" } : Jvm.MethodName)) ∈ lw_all := lw_g (lw_at lw_m4 166 rfl) rfl
theorem q948 : (Jvm.Cond.static ({ cls := "TileServerLaw", name := "remove", desc := "(LTileServer;I[J)I" } : Jvm.MethodName)) ∈ lw_all := lw_g (lw_at lw_m4 167 rfl) rfl
theorem q949 : (Jvm.Cond.codeWith ({ cls := "TileServerLaw", name := "remove", desc := "(LTileServer;I[J)I" } : Jvm.MethodName) method_9_code (4 : Nat) (Option.some Jvm.ClassFile.FieldType.int) [((0 : Nat), (9 : Nat), (12 : Nat), (21 : Nat))]) ∈ lw_all := lw_g (lw_at lw_m4 168 rfl) rfl
theorem q950 : (Jvm.Cond.methodLink "TileServerLaw" (40 : Nat) ({ cls := "TileServer", name := "remove", desc := "(I)I" } : Jvm.MethodName)) ∈ lw_all := lw_g (lw_at lw_m4 169 rfl) rfl
theorem q999 : (Jvm.Cond.methodLink "TileServerLaw" (162 : Nat) ({ cls := "TileServerLaw", name := "setLabel", desc := "(LTileServer;III[J)I" } : Jvm.MethodName)) ∈ lw_all := lw_g (lw_at lw_m4 218 rfl) rfl
theorem q1000 : (Jvm.Cond.static ({ cls := "TileServerLaw", name := "setLabel", desc := "(LTileServer;III[J)I" } : Jvm.MethodName)) ∈ lw_all := lw_g (lw_at lw_m4 219 rfl) rfl
theorem q1001 : (Jvm.Cond.codeWith ({ cls := "TileServerLaw", name := "setLabel", desc := "(LTileServer;III[J)I" } : Jvm.MethodName) method_10_code (6 : Nat) (Option.some Jvm.ClassFile.FieldType.int) [((0 : Nat), (12 : Nat), (15 : Nat), (21 : Nat)), ((0 : Nat), (12 : Nat), (19 : Nat), (13 : Nat))]) ∈ lw_all := lw_g (lw_at lw_m4 220 rfl) rfl
theorem q1002 : (Jvm.Cond.methodLink "TileServerLaw" (44 : Nat) ({ cls := "TileServer", name := "setLabel", desc := "(III)I" } : Jvm.MethodName)) ∈ lw_all := lw_g (lw_at lw_m4 221 rfl) rfl
theorem q1006 : (Jvm.Cond.methodLink "TileServerLaw" (165 : Nat) ({ cls := "TileServerLaw", name := "setTolerance", desc := "(LTileServer;II[J)I" } : Jvm.MethodName)) ∈ lw_all := lw_g (lw_at lw_m4 225 rfl) rfl
theorem q1007 : (Jvm.Cond.static ({ cls := "TileServerLaw", name := "setTolerance", desc := "(LTileServer;II[J)I" } : Jvm.MethodName)) ∈ lw_all := lw_g (lw_at lw_m4 226 rfl) rfl
theorem q1008 : (Jvm.Cond.codeWith ({ cls := "TileServerLaw", name := "setTolerance", desc := "(LTileServer;II[J)I" } : Jvm.MethodName) method_11_code (5 : Nat) (Option.some Jvm.ClassFile.FieldType.int) [((0 : Nat), (10 : Nat), (13 : Nat), (28 : Nat)), ((0 : Nat), (10 : Nat), (17 : Nat), (13 : Nat))]) ∈ lw_all := lw_g (lw_at lw_m4 227 rfl) rfl
theorem q1009 : (Jvm.Cond.methodLink "TileServerLaw" (47 : Nat) ({ cls := "TileServer", name := "setTolerance", desc := "(II)I" } : Jvm.MethodName)) ∈ lw_all := lw_g (lw_at lw_m4 228 rfl) rfl
theorem q1017 : (Jvm.Cond.methodLink "TileServerLaw" (168 : Nat) ({ cls := "TileServerLaw", name := "pass", desc := "(LTileServer;I[J)I" } : Jvm.MethodName)) ∈ lw_all := lw_g (lw_at lw_m4 236 rfl) rfl
theorem q1018 : (Jvm.Cond.static ({ cls := "TileServerLaw", name := "pass", desc := "(LTileServer;I[J)I" } : Jvm.MethodName)) ∈ lw_all := lw_g (lw_at lw_m4 237 rfl) rfl
theorem q1019 : (Jvm.Cond.codeWith ({ cls := "TileServerLaw", name := "pass", desc := "(LTileServer;I[J)I" } : Jvm.MethodName) method_12_code (4 : Nat) (Option.some Jvm.ClassFile.FieldType.int) [((0 : Nat), (9 : Nat), (12 : Nat), (13 : Nat))]) ∈ lw_all := lw_g (lw_at lw_m4 238 rfl) rfl
theorem q1020 : (Jvm.Cond.methodLink "TileServerLaw" (50 : Nat) ({ cls := "TileServer", name := "pass", desc := "(I)I" } : Jvm.MethodName)) ∈ lw_all := lw_g (lw_at lw_m4 239 rfl) rfl
theorem q1024 : (Jvm.Cond.methodLink "TileServerLaw" (179 : Nat) ({ cls := "TileServerLaw", name := "kindOf", desc := "(LTileServer;I[J)I" } : Jvm.MethodName)) ∈ lw_all := lw_g (lw_at lw_m5 3 rfl) rfl
theorem q1025 : (Jvm.Cond.static ({ cls := "TileServerLaw", name := "kindOf", desc := "(LTileServer;I[J)I" } : Jvm.MethodName)) ∈ lw_all := lw_g (lw_at lw_m5 4 rfl) rfl
theorem q1026 : (Jvm.Cond.codeWith ({ cls := "TileServerLaw", name := "kindOf", desc := "(LTileServer;I[J)I" } : Jvm.MethodName) method_13_code (4 : Nat) (Option.some Jvm.ClassFile.FieldType.int) [((0 : Nat), (9 : Nat), (12 : Nat), (21 : Nat))]) ∈ lw_all := lw_g (lw_at lw_m5 5 rfl) rfl
theorem q1027 : (Jvm.Cond.methodLink "TileServerLaw" (53 : Nat) ({ cls := "TileServer", name := "kindOf", desc := "(I)C" } : Jvm.MethodName)) ∈ lw_all := lw_g (lw_at lw_m5 6 rfl) rfl
theorem q1040 : (Jvm.Cond.methodLink "TileServerLaw" (182 : Nat) ({ cls := "TileServerLaw", name := "points", desc := "(LTileServer;I[J)I" } : Jvm.MethodName)) ∈ lw_all := lw_g (lw_at lw_m5 19 rfl) rfl
theorem q1041 : (Jvm.Cond.static ({ cls := "TileServerLaw", name := "points", desc := "(LTileServer;I[J)I" } : Jvm.MethodName)) ∈ lw_all := lw_g (lw_at lw_m5 20 rfl) rfl
theorem q1042 : (Jvm.Cond.codeWith ({ cls := "TileServerLaw", name := "points", desc := "(LTileServer;I[J)I" } : Jvm.MethodName) method_14_code (4 : Nat) (Option.some Jvm.ClassFile.FieldType.int) [((0 : Nat), (9 : Nat), (12 : Nat), (21 : Nat)), ((0 : Nat), (9 : Nat), (15 : Nat), (23 : Nat))]) ∈ lw_all := lw_g (lw_at lw_m5 21 rfl) rfl
theorem q1043 : (Jvm.Cond.methodLink "TileServerLaw" (57 : Nat) ({ cls := "TileServer", name := "points", desc := "(I)I" } : Jvm.MethodName)) ∈ lw_all := lw_g (lw_at lw_m5 22 rfl) rfl
theorem q1047 : (Jvm.Cond.methodLink "TileServerLaw" (185 : Nat) ({ cls := "TileServerLaw", name := "xOf", desc := "(LTileServer;II[J)I" } : Jvm.MethodName)) ∈ lw_all := lw_g (lw_at lw_m5 26 rfl) rfl
theorem q1048 : (Jvm.Cond.static ({ cls := "TileServerLaw", name := "xOf", desc := "(LTileServer;II[J)I" } : Jvm.MethodName)) ∈ lw_all := lw_g (lw_at lw_m5 27 rfl) rfl
theorem q1049 : (Jvm.Cond.codeWith ({ cls := "TileServerLaw", name := "xOf", desc := "(LTileServer;II[J)I" } : Jvm.MethodName) method_15_code (5 : Nat) (Option.some Jvm.ClassFile.FieldType.int) [((0 : Nat), (10 : Nat), (13 : Nat), (21 : Nat)), ((0 : Nat), (10 : Nat), (17 : Nat), (23 : Nat)), ((0 : Nat), (10 : Nat), (21 : Nat), (28 : Nat))]) ∈ lw_all := lw_g (lw_at lw_m5 28 rfl) rfl
theorem q1050 : (Jvm.Cond.methodLink "TileServerLaw" (60 : Nat) ({ cls := "TileServer", name := "xOf", desc := "(II)I" } : Jvm.MethodName)) ∈ lw_all := lw_g (lw_at lw_m5 29 rfl) rfl
theorem q1054 : (Jvm.Cond.methodLink "TileServerLaw" (188 : Nat) ({ cls := "TileServerLaw", name := "yOf", desc := "(LTileServer;II[J)I" } : Jvm.MethodName)) ∈ lw_all := lw_g (lw_at lw_m5 33 rfl) rfl
theorem q1055 : (Jvm.Cond.static ({ cls := "TileServerLaw", name := "yOf", desc := "(LTileServer;II[J)I" } : Jvm.MethodName)) ∈ lw_all := lw_g (lw_at lw_m5 34 rfl) rfl
theorem q1056 : (Jvm.Cond.codeWith ({ cls := "TileServerLaw", name := "yOf", desc := "(LTileServer;II[J)I" } : Jvm.MethodName) method_16_code (5 : Nat) (Option.some Jvm.ClassFile.FieldType.int) [((0 : Nat), (10 : Nat), (13 : Nat), (21 : Nat)), ((0 : Nat), (10 : Nat), (17 : Nat), (23 : Nat)), ((0 : Nat), (10 : Nat), (21 : Nat), (28 : Nat))]) ∈ lw_all := lw_g (lw_at lw_m5 35 rfl) rfl
theorem q1057 : (Jvm.Cond.methodLink "TileServerLaw" (63 : Nat) ({ cls := "TileServer", name := "yOf", desc := "(II)I" } : Jvm.MethodName)) ∈ lw_all := lw_g (lw_at lw_m5 36 rfl) rfl
theorem q1061 : (Jvm.Cond.methodLink "TileServerLaw" (191 : Nat) ({ cls := "TileServerLaw", name := "isKept", desc := "(LTileServer;III[J)I" } : Jvm.MethodName)) ∈ lw_all := lw_g (lw_at lw_m5 40 rfl) rfl
theorem q1062 : (Jvm.Cond.static ({ cls := "TileServerLaw", name := "isKept", desc := "(LTileServer;III[J)I" } : Jvm.MethodName)) ∈ lw_all := lw_g (lw_at lw_m5 41 rfl) rfl
theorem q1063 : (Jvm.Cond.codeWith ({ cls := "TileServerLaw", name := "isKept", desc := "(LTileServer;III[J)I" } : Jvm.MethodName) method_17_code (6 : Nat) (Option.some Jvm.ClassFile.FieldType.int) [((0 : Nat), (19 : Nat), (22 : Nat), (21 : Nat)), ((0 : Nat), (19 : Nat), (26 : Nat), (23 : Nat)), ((0 : Nat), (19 : Nat), (30 : Nat), (28 : Nat))]) ∈ lw_all := lw_g (lw_at lw_m5 42 rfl) rfl
theorem q1064 : (Jvm.Cond.methodLink "TileServerLaw" (66 : Nat) ({ cls := "TileServer", name := "isKept", desc := "(III)Z" } : Jvm.MethodName)) ∈ lw_all := lw_g (lw_at lw_m5 43 rfl) rfl
theorem q1069 : (Jvm.Cond.methodLink "TileServerLaw" (194 : Nat) ({ cls := "TileServerLaw", name := "isKeptByMarks", desc := "(LTileServer;III[J)I" } : Jvm.MethodName)) ∈ lw_all := lw_g (lw_at lw_m5 48 rfl) rfl
theorem q1070 : (Jvm.Cond.static ({ cls := "TileServerLaw", name := "isKeptByMarks", desc := "(LTileServer;III[J)I" } : Jvm.MethodName)) ∈ lw_all := lw_g (lw_at lw_m5 49 rfl) rfl
theorem q1071 : (Jvm.Cond.codeWith ({ cls := "TileServerLaw", name := "isKeptByMarks", desc := "(LTileServer;III[J)I" } : Jvm.MethodName) method_18_code (6 : Nat) (Option.some Jvm.ClassFile.FieldType.int) [((0 : Nat), (19 : Nat), (22 : Nat), (21 : Nat)), ((0 : Nat), (19 : Nat), (26 : Nat), (23 : Nat)), ((0 : Nat), (19 : Nat), (30 : Nat), (28 : Nat))]) ∈ lw_all := lw_g (lw_at lw_m5 50 rfl) rfl
theorem q1072 : (Jvm.Cond.methodLink "TileServerLaw" (70 : Nat) ({ cls := "TileServer", name := "isKeptByMarks", desc := "(III)Z" } : Jvm.MethodName)) ∈ lw_all := lw_g (lw_at lw_m5 51 rfl) rfl
theorem q1085 : (Jvm.Cond.methodLink "TileServerLaw" (197 : Nat) ({ cls := "TileServerLaw", name := "keptPoints", desc := "(LTileServer;II[J)I" } : Jvm.MethodName)) ∈ lw_all := lw_g (lw_at lw_m5 64 rfl) rfl
theorem q1086 : (Jvm.Cond.static ({ cls := "TileServerLaw", name := "keptPoints", desc := "(LTileServer;II[J)I" } : Jvm.MethodName)) ∈ lw_all := lw_g (lw_at lw_m5 65 rfl) rfl
theorem q1087 : (Jvm.Cond.codeWith ({ cls := "TileServerLaw", name := "keptPoints", desc := "(LTileServer;II[J)I" } : Jvm.MethodName) method_19_code (5 : Nat) (Option.some Jvm.ClassFile.FieldType.int) [((0 : Nat), (10 : Nat), (13 : Nat), (21 : Nat)), ((0 : Nat), (10 : Nat), (17 : Nat), (23 : Nat)), ((0 : Nat), (10 : Nat), (21 : Nat), (28 : Nat))]) ∈ lw_all := lw_g (lw_at lw_m5 66 rfl) rfl
theorem q1088 : (Jvm.Cond.methodLink "TileServerLaw" (73 : Nat) ({ cls := "TileServer", name := "keptPoints", desc := "(II)I" } : Jvm.MethodName)) ∈ lw_all := lw_g (lw_at lw_m5 67 rfl) rfl
theorem q1101 : (Jvm.Cond.methodLink "TileServerLaw" (200 : Nat) ({ cls := "TileServerLaw", name := "cellAt", desc := "(LTileServer;IIIII[J)I" } : Jvm.MethodName)) ∈ lw_all := lw_g (lw_at lw_m5 80 rfl) rfl
theorem q1102 : (Jvm.Cond.static ({ cls := "TileServerLaw", name := "cellAt", desc := "(LTileServer;IIIII[J)I" } : Jvm.MethodName)) ∈ lw_all := lw_g (lw_at lw_m5 81 rfl) rfl
theorem q1103 : (Jvm.Cond.codeWith ({ cls := "TileServerLaw", name := "cellAt", desc := "(LTileServer;IIIII[J)I" } : Jvm.MethodName) method_20_code (8 : Nat) (Option.some Jvm.ClassFile.FieldType.int) [((0 : Nat), (16 : Nat), (19 : Nat), (28 : Nat))]) ∈ lw_all := lw_g (lw_at lw_m5 82 rfl) rfl
theorem q1104 : (Jvm.Cond.methodLink "TileServerLaw" (76 : Nat) ({ cls := "TileServer", name := "cellAt", desc := "(IIIII)I" } : Jvm.MethodName)) ∈ lw_all := lw_g (lw_at lw_m5 83 rfl) rfl
theorem q1130 : (Jvm.Cond.methodLink "TileServerLaw" (204 : Nat) ({ cls := "TileServerLaw", name := "cellByDrawing", desc := "(LTileServer;IIIII[J)I" } : Jvm.MethodName)) ∈ lw_all := lw_g (lw_at lw_m5 109 rfl) rfl
theorem q1131 : (Jvm.Cond.static ({ cls := "TileServerLaw", name := "cellByDrawing", desc := "(LTileServer;IIIII[J)I" } : Jvm.MethodName)) ∈ lw_all := lw_g (lw_at lw_m5 110 rfl) rfl
theorem q1132 : (Jvm.Cond.codeWith ({ cls := "TileServerLaw", name := "cellByDrawing", desc := "(LTileServer;IIIII[J)I" } : Jvm.MethodName) method_21_code (8 : Nat) (Option.some Jvm.ClassFile.FieldType.int) [((0 : Nat), (16 : Nat), (19 : Nat), (28 : Nat))]) ∈ lw_all := lw_g (lw_at lw_m5 111 rfl) rfl
theorem q1133 : (Jvm.Cond.methodLink "TileServerLaw" (80 : Nat) ({ cls := "TileServer", name := "cellByDrawing", desc := "(IIIII)I" } : Jvm.MethodName)) ∈ lw_all := lw_g (lw_at lw_m5 112 rfl) rfl
theorem q1137 : (Jvm.Cond.methodLink "TileServerLaw" (207 : Nat) ({ cls := "TileServerLaw", name := "isCached", desc := "(LTileServer;III[J)I" } : Jvm.MethodName)) ∈ lw_all := lw_g (lw_at lw_m5 116 rfl) rfl
theorem q1138 : (Jvm.Cond.static ({ cls := "TileServerLaw", name := "isCached", desc := "(LTileServer;III[J)I" } : Jvm.MethodName)) ∈ lw_all := lw_g (lw_at lw_m5 117 rfl) rfl
theorem q1139 : (Jvm.Cond.codeWith ({ cls := "TileServerLaw", name := "isCached", desc := "(LTileServer;III[J)I" } : Jvm.MethodName) method_22_code (6 : Nat) (Option.some Jvm.ClassFile.FieldType.int) [((0 : Nat), (19 : Nat), (22 : Nat), (28 : Nat))]) ∈ lw_all := lw_g (lw_at lw_m5 118 rfl) rfl
theorem q1140 : (Jvm.Cond.methodLink "TileServerLaw" (83 : Nat) ({ cls := "TileServer", name := "isCached", desc := "(III)Z" } : Jvm.MethodName)) ∈ lw_all := lw_g (lw_at lw_m5 119 rfl) rfl
theorem q1144 : (Jvm.Cond.methodLink "TileServerLaw" (210 : Nat) ({ cls := "TileServerLaw", name := "ageOf", desc := "(LTileServer;III[J)I" } : Jvm.MethodName)) ∈ lw_all := lw_g (lw_at lw_m5 123 rfl) rfl
theorem q1145 : (Jvm.Cond.static ({ cls := "TileServerLaw", name := "ageOf", desc := "(LTileServer;III[J)I" } : Jvm.MethodName)) ∈ lw_all := lw_g (lw_at lw_m5 124 rfl) rfl
theorem q1146 : (Jvm.Cond.codeWith ({ cls := "TileServerLaw", name := "ageOf", desc := "(LTileServer;III[J)I" } : Jvm.MethodName) method_23_code (6 : Nat) (Option.some Jvm.ClassFile.FieldType.int) [((0 : Nat), (12 : Nat), (15 : Nat), (28 : Nat)), ((0 : Nat), (12 : Nat), (19 : Nat), (21 : Nat))]) ∈ lw_all := lw_g (lw_at lw_m5 125 rfl) rfl
theorem q1147 : (Jvm.Cond.methodLink "TileServerLaw" (86 : Nat) ({ cls := "TileServer", name := "ageOf", desc := "(III)I" } : Jvm.MethodName)) ∈ lw_all := lw_g (lw_at lw_m5 126 rfl) rfl
theorem q1151 : (Jvm.Cond.methodLink "TileServerLaw" (221 : Nat) ({ cls := "TileServerLaw", name := "hitShare", desc := "(LTileServer;[D)I" } : Jvm.MethodName)) ∈ lw_all := lw_g (lw_at lw_m5 130 rfl) rfl
theorem q1152 : (Jvm.Cond.static ({ cls := "TileServerLaw", name := "hitShare", desc := "(LTileServer;[D)I" } : Jvm.MethodName)) ∈ lw_all := lw_g (lw_at lw_m5 131 rfl) rfl
theorem q1153 : (Jvm.Cond.codeWith ({ cls := "TileServerLaw", name := "hitShare", desc := "(LTileServer;[D)I" } : Jvm.MethodName) method_24_code (3 : Nat) (Option.some Jvm.ClassFile.FieldType.int) [((0 : Nat), (8 : Nat), (11 : Nat), (93 : Nat))]) ∈ lw_all := lw_g (lw_at lw_m5 132 rfl) rfl
theorem q1154 : (Jvm.Cond.classLink "TileServerLaw" (93 : Nat) "java/lang/ArithmeticException") ∈ lw_all := lw_g (lw_at lw_m5 133 rfl) rfl
theorem q1168 : (Jvm.Cond.methodLink "TileServerLaw" (89 : Nat) ({ cls := "TileServer", name := "hitShare", desc := "()F" } : Jvm.MethodName)) ∈ lw_all := lw_g (lw_at lw_m5 147 rfl) rfl
theorem q1177 : (Jvm.Cond.methodLink "TileServerLaw" (225 : Nat) ({ cls := "TileServerLaw", name := "areaIn", desc := "(LTileServer;IIII[J)I" } : Jvm.MethodName)) ∈ lw_all := lw_g (lw_at lw_m5 156 rfl) rfl
theorem q1178 : (Jvm.Cond.static ({ cls := "TileServerLaw", name := "areaIn", desc := "(LTileServer;IIII[J)I" } : Jvm.MethodName)) ∈ lw_all := lw_g (lw_at lw_m5 157 rfl) rfl
theorem q1179 : (Jvm.Cond.codeWith ({ cls := "TileServerLaw", name := "areaIn", desc := "(LTileServer;IIII[J)I" } : Jvm.MethodName) method_25_code (7 : Nat) (Option.some Jvm.ClassFile.FieldType.int) [((0 : Nat), (14 : Nat), (17 : Nat), (21 : Nat)), ((0 : Nat), (14 : Nat), (21 : Nat), (23 : Nat)), ((0 : Nat), (14 : Nat), (25 : Nat), (28 : Nat))]) ∈ lw_all := lw_g (lw_at lw_m5 158 rfl) rfl
theorem q1180 : (Jvm.Cond.methodLink "TileServerLaw" (95 : Nat) ({ cls := "TileServer", name := "areaIn", desc := "(IIII)I" } : Jvm.MethodName)) ∈ lw_all := lw_g (lw_at lw_m5 159 rfl) rfl
theorem q1204 : (Jvm.Cond.methodLink "TileServerLaw" (228 : Nat) ({ cls := "TileServerLaw", name := "areaByQuarters", desc := "(LTileServer;IIII[J)I" } : Jvm.MethodName)) ∈ lw_all := lw_g (lw_at lw_m5 183 rfl) rfl
theorem q1205 : (Jvm.Cond.static ({ cls := "TileServerLaw", name := "areaByQuarters", desc := "(LTileServer;IIII[J)I" } : Jvm.MethodName)) ∈ lw_all := lw_g (lw_at lw_m5 184 rfl) rfl
theorem q1206 : (Jvm.Cond.codeWith ({ cls := "TileServerLaw", name := "areaByQuarters", desc := "(LTileServer;IIII[J)I" } : Jvm.MethodName) method_26_code (7 : Nat) (Option.some Jvm.ClassFile.FieldType.int) [((0 : Nat), (14 : Nat), (17 : Nat), (21 : Nat)), ((0 : Nat), (14 : Nat), (21 : Nat), (23 : Nat)), ((0 : Nat), (14 : Nat), (25 : Nat), (28 : Nat))]) ∈ lw_all := lw_g (lw_at lw_m5 185 rfl) rfl
theorem q1207 : (Jvm.Cond.methodLink "TileServerLaw" (98 : Nat) ({ cls := "TileServer", name := "areaByQuarters", desc := "(IIII)I" } : Jvm.MethodName)) ∈ lw_all := lw_g (lw_at lw_m5 186 rfl) rfl
theorem q1218 : (Jvm.Cond.methodLink "TileServerLaw" (231 : Nat) ({ cls := "TileServerLaw", name := "crossesRight", desc := "(LTileServer;IIII[J)I" } : Jvm.MethodName)) ∈ lw_all := lw_g (lw_at lw_m5 197 rfl) rfl
theorem q1219 : (Jvm.Cond.static ({ cls := "TileServerLaw", name := "crossesRight", desc := "(LTileServer;IIII[J)I" } : Jvm.MethodName)) ∈ lw_all := lw_g (lw_at lw_m5 198 rfl) rfl
theorem q1220 : (Jvm.Cond.codeWith ({ cls := "TileServerLaw", name := "crossesRight", desc := "(LTileServer;IIII[J)I" } : Jvm.MethodName) method_27_code (7 : Nat) (Option.some Jvm.ClassFile.FieldType.int) [((0 : Nat), (14 : Nat), (17 : Nat), (21 : Nat)), ((0 : Nat), (14 : Nat), (21 : Nat), (23 : Nat)), ((0 : Nat), (14 : Nat), (25 : Nat), (28 : Nat))]) ∈ lw_all := lw_g (lw_at lw_m5 199 rfl) rfl
theorem q1221 : (Jvm.Cond.methodLink "TileServerLaw" (101 : Nat) ({ cls := "TileServer", name := "crossesRight", desc := "(IIII)I" } : Jvm.MethodName)) ∈ lw_all := lw_g (lw_at lw_m5 200 rfl) rfl
theorem q1230 : (Jvm.Cond.methodLink "TileServerLaw" (234 : Nat) ({ cls := "TileServerLaw", name := "crossesLeft", desc := "(LTileServer;IIII[J)I" } : Jvm.MethodName)) ∈ lw_all := lw_g (lw_at lw_m5 209 rfl) rfl
theorem q1231 : (Jvm.Cond.static ({ cls := "TileServerLaw", name := "crossesLeft", desc := "(LTileServer;IIII[J)I" } : Jvm.MethodName)) ∈ lw_all := lw_g (lw_at lw_m5 210 rfl) rfl
theorem q1232 : (Jvm.Cond.codeWith ({ cls := "TileServerLaw", name := "crossesLeft", desc := "(LTileServer;IIII[J)I" } : Jvm.MethodName) method_28_code (7 : Nat) (Option.some Jvm.ClassFile.FieldType.int) [((0 : Nat), (14 : Nat), (17 : Nat), (21 : Nat)), ((0 : Nat), (14 : Nat), (21 : Nat), (23 : Nat)), ((0 : Nat), (14 : Nat), (25 : Nat), (28 : Nat))]) ∈ lw_all := lw_g (lw_at lw_m5 211 rfl) rfl
theorem q1233 : (Jvm.Cond.methodLink "TileServerLaw" (104 : Nat) ({ cls := "TileServer", name := "crossesLeft", desc := "(IIII)I" } : Jvm.MethodName)) ∈ lw_all := lw_g (lw_at lw_m5 212 rfl) rfl
theorem q1238 : (Jvm.Cond.methodLink "TileServerLaw" (237 : Nat) ({ cls := "TileServerLaw", name := "segmentsIn", desc := "(LTileServer;III[J)I" } : Jvm.MethodName)) ∈ lw_all := lw_g (lw_at lw_m5 217 rfl) rfl
theorem q1239 : (Jvm.Cond.static ({ cls := "TileServerLaw", name := "segmentsIn", desc := "(LTileServer;III[J)I" } : Jvm.MethodName)) ∈ lw_all := lw_g (lw_at lw_m5 218 rfl) rfl
theorem q1240 : (Jvm.Cond.codeWith ({ cls := "TileServerLaw", name := "segmentsIn", desc := "(LTileServer;III[J)I" } : Jvm.MethodName) method_29_code (6 : Nat) (Option.some Jvm.ClassFile.FieldType.int) [((0 : Nat), (12 : Nat), (15 : Nat), (28 : Nat))]) ∈ lw_all := lw_g (lw_at lw_m5 219 rfl) rfl
theorem q1241 : (Jvm.Cond.methodLink "TileServerLaw" (107 : Nat) ({ cls := "TileServer", name := "segmentsIn", desc := "(III)I" } : Jvm.MethodName)) ∈ lw_all := lw_g (lw_at lw_m5 220 rfl) rfl
theorem q1245 : (Jvm.Cond.methodLink "TileServerLaw" (240 : Nat) ({ cls := "TileServerLaw", name := "placeOf", desc := "(LTileServer;II[J)I" } : Jvm.MethodName)) ∈ lw_all := lw_g (lw_at lw_m5 224 rfl) rfl
theorem q1246 : (Jvm.Cond.static ({ cls := "TileServerLaw", name := "placeOf", desc := "(LTileServer;II[J)I" } : Jvm.MethodName)) ∈ lw_all := lw_g (lw_at lw_m5 225 rfl) rfl
theorem q1247 : (Jvm.Cond.codeWith ({ cls := "TileServerLaw", name := "placeOf", desc := "(LTileServer;II[J)I" } : Jvm.MethodName) method_30_code (5 : Nat) (Option.some Jvm.ClassFile.FieldType.int) [((0 : Nat), (10 : Nat), (13 : Nat), (21 : Nat)), ((0 : Nat), (10 : Nat), (17 : Nat), (15 : Nat)), ((0 : Nat), (10 : Nat), (21 : Nat), (28 : Nat))]) ∈ lw_all := lw_g (lw_at lw_m5 226 rfl) rfl
theorem q1248 : (Jvm.Cond.methodLink "TileServerLaw" (110 : Nat) ({ cls := "TileServer", name := "placeOf", desc := "(II)C" } : Jvm.MethodName)) ∈ lw_all := lw_g (lw_at lw_m5 227 rfl) rfl
theorem q1566 : (Jvm.Cond.methodLink "TileServerLaw" (243 : Nat) ({ cls := "TileServerLaw", name := "labelLeft", desc := "(LTileServer;II[J)I" } : Jvm.MethodName)) ∈ lw_all := lw_g (lw_at lw_m7 65 rfl) rfl
theorem q1567 : (Jvm.Cond.static ({ cls := "TileServerLaw", name := "labelLeft", desc := "(LTileServer;II[J)I" } : Jvm.MethodName)) ∈ lw_all := lw_g (lw_at lw_m7 66 rfl) rfl
theorem q1568 : (Jvm.Cond.codeWith ({ cls := "TileServerLaw", name := "labelLeft", desc := "(LTileServer;II[J)I" } : Jvm.MethodName) method_31_code (5 : Nat) (Option.some Jvm.ClassFile.FieldType.int) [((0 : Nat), (10 : Nat), (13 : Nat), (21 : Nat)), ((0 : Nat), (10 : Nat), (17 : Nat), (15 : Nat)), ((0 : Nat), (10 : Nat), (21 : Nat), (28 : Nat))]) ∈ lw_all := lw_g (lw_at lw_m7 67 rfl) rfl
theorem q1569 : (Jvm.Cond.methodLink "TileServerLaw" (114 : Nat) ({ cls := "TileServer", name := "labelLeft", desc := "(II)I" } : Jvm.MethodName)) ∈ lw_all := lw_g (lw_at lw_m7 68 rfl) rfl
theorem q1573 : (Jvm.Cond.methodLink "TileServerLaw" (246 : Nat) ({ cls := "TileServerLaw", name := "labelLow", desc := "(LTileServer;II[J)I" } : Jvm.MethodName)) ∈ lw_all := lw_g (lw_at lw_m7 72 rfl) rfl
theorem q1574 : (Jvm.Cond.static ({ cls := "TileServerLaw", name := "labelLow", desc := "(LTileServer;II[J)I" } : Jvm.MethodName)) ∈ lw_all := lw_g (lw_at lw_m7 73 rfl) rfl
theorem q1575 : (Jvm.Cond.codeWith ({ cls := "TileServerLaw", name := "labelLow", desc := "(LTileServer;II[J)I" } : Jvm.MethodName) method_32_code (5 : Nat) (Option.some Jvm.ClassFile.FieldType.int) [((0 : Nat), (10 : Nat), (13 : Nat), (21 : Nat)), ((0 : Nat), (10 : Nat), (17 : Nat), (15 : Nat)), ((0 : Nat), (10 : Nat), (21 : Nat), (28 : Nat))]) ∈ lw_all := lw_g (lw_at lw_m7 74 rfl) rfl
theorem q1576 : (Jvm.Cond.methodLink "TileServerLaw" (117 : Nat) ({ cls := "TileServer", name := "labelLow", desc := "(II)I" } : Jvm.MethodName)) ∈ lw_all := lw_g (lw_at lw_m7 75 rfl) rfl
theorem q1580 : (Jvm.Cond.methodLink "TileServerLaw" (249 : Nat) ({ cls := "TileServerLaw", name := "shownLabels", desc := "(LTileServer;I[J)I" } : Jvm.MethodName)) ∈ lw_all := lw_g (lw_at lw_m7 79 rfl) rfl
theorem q1581 : (Jvm.Cond.static ({ cls := "TileServerLaw", name := "shownLabels", desc := "(LTileServer;I[J)I" } : Jvm.MethodName)) ∈ lw_all := lw_g (lw_at lw_m7 80 rfl) rfl
theorem q1582 : (Jvm.Cond.codeWith ({ cls := "TileServerLaw", name := "shownLabels", desc := "(LTileServer;I[J)I" } : Jvm.MethodName) method_33_code (4 : Nat) (Option.some Jvm.ClassFile.FieldType.int) [((0 : Nat), (9 : Nat), (12 : Nat), (28 : Nat))]) ∈ lw_all := lw_g (lw_at lw_m7 81 rfl) rfl
theorem q1583 : (Jvm.Cond.methodLink "TileServerLaw" (120 : Nat) ({ cls := "TileServer", name := "shownLabels", desc := "(I)I" } : Jvm.MethodName)) ∈ lw_all := lw_g (lw_at lw_m7 82 rfl) rfl
theorem q1587 : (Jvm.Cond.methodLink "TileServerLaw" (257 : Nat) ({ cls := "TileServerLaw", name := "meanKept", desc := "(LTileServer;I[D)I" } : Jvm.MethodName)) ∈ lw_all := lw_g (lw_at lw_m7 86 rfl) rfl
theorem q1588 : (Jvm.Cond.static ({ cls := "TileServerLaw", name := "meanKept", desc := "(LTileServer;I[D)I" } : Jvm.MethodName)) ∈ lw_all := lw_g (lw_at lw_m7 87 rfl) rfl
theorem q1589 : (Jvm.Cond.codeWith ({ cls := "TileServerLaw", name := "meanKept", desc := "(LTileServer;I[D)I" } : Jvm.MethodName) method_34_code (4 : Nat) (Option.some Jvm.ClassFile.FieldType.int) [((0 : Nat), (8 : Nat), (11 : Nat), (28 : Nat)), ((0 : Nat), (8 : Nat), (14 : Nat), (93 : Nat))]) ∈ lw_all := lw_g (lw_at lw_m7 88 rfl) rfl
theorem q1590 : (Jvm.Cond.methodLink "TileServerLaw" (123 : Nat) ({ cls := "TileServer", name := "meanKept", desc := "(I)D" } : Jvm.MethodName)) ∈ lw_all := lw_g (lw_at lw_m7 89 rfl) rfl
theorem q1594 : (Jvm.Cond.classLink "TileServerLaw" (128 : Nat) "TileServerModel") ∈ lw_all := lw_g (lw_at lw_m7 93 rfl) rfl
theorem q1596 : (Jvm.Cond.methodLink "TileServerLaw" (130 : Nat) ({ cls := "TileServerModel", name := "<init>", desc := "()V" } : Jvm.MethodName)) ∈ lw_all := lw_g (lw_at lw_m7 95 rfl) rfl
theorem q1650 : (Jvm.Cond.methodLink "TileServerLaw" (137 : Nat) ({ cls := "TileServerModel", name := "thrown", desc := "()I" } : Jvm.MethodName)) ∈ lw_all := lw_g (lw_at lw_m7 149 rfl) rfl
theorem q1654 : (Jvm.Cond.methodLink "TileServerLaw" (136 : Nat) ({ cls := "TileServerModel", name := "addLine", desc := "(IIII)I" } : Jvm.MethodName)) ∈ lw_all := lw_g (lw_at lw_m7 153 rfl) rfl
theorem q1702 : (Jvm.Cond.methodLink "TileServerLaw" (144 : Nat) ({ cls := "TileServerModel", name := "extend", desc := "(III)I" } : Jvm.MethodName)) ∈ lw_all := lw_g (lw_at lw_m7 201 rfl) rfl
theorem q1714 : (Jvm.Cond.methodLink "TileServerLaw" (147 : Nat) ({ cls := "TileServerModel", name := "movePoint", desc := "(IIII)I" } : Jvm.MethodName)) ∈ lw_all := lw_g (lw_at lw_m7 213 rfl) rfl
theorem q1722 : (Jvm.Cond.methodLink "TileServerLaw" (151 : Nat) ({ cls := "TileServerModel", name := "dropPoint", desc := "(II)I" } : Jvm.MethodName)) ∈ lw_all := lw_g (lw_at lw_m7 221 rfl) rfl
theorem q1726 : (Jvm.Cond.methodLink "TileServerLaw" (154 : Nat) ({ cls := "TileServerModel", name := "addArea", desc := "(IIII)I" } : Jvm.MethodName)) ∈ lw_all := lw_g (lw_at lw_m7 225 rfl) rfl
theorem q1732 : (Jvm.Cond.methodLink "TileServerLaw" (157 : Nat) ({ cls := "TileServerModel", name := "moveArea", desc := "(III)I" } : Jvm.MethodName)) ∈ lw_all := lw_g (lw_at lw_m7 231 rfl) rfl
theorem q1740 : (Jvm.Cond.methodLink "TileServerLaw" (161 : Nat) ({ cls := "TileServerModel", name := "remove", desc := "(I)I" } : Jvm.MethodName)) ∈ lw_all := lw_g (lw_at lw_m7 239 rfl) rfl
theorem q1744 : (Jvm.Cond.methodLink "TileServerLaw" (164 : Nat) ({ cls := "TileServerModel", name := "setLabel", desc := "(III)I" } : Jvm.MethodName)) ∈ lw_all := lw_g (lw_at lw_m8 3 rfl) rfl
theorem q1750 : (Jvm.Cond.methodLink "TileServerLaw" (167 : Nat) ({ cls := "TileServerModel", name := "setTolerance", desc := "(II)I" } : Jvm.MethodName)) ∈ lw_all := lw_g (lw_at lw_m8 9 rfl) rfl
theorem q1758 : (Jvm.Cond.methodLink "TileServerLaw" (170 : Nat) ({ cls := "TileServerModel", name := "pass", desc := "(I)I" } : Jvm.MethodName)) ∈ lw_all := lw_g (lw_at lw_m8 17 rfl) rfl
theorem q1763 : (Jvm.Cond.methodLink "TileServerLaw" (174 : Nat) ({ cls := "TileServerModel", name := "clock", desc := "()I" } : Jvm.MethodName)) ∈ lw_all := lw_g (lw_at lw_m8 22 rfl) rfl
theorem q1767 : (Jvm.Cond.methodLink "TileServerLaw" (178 : Nat) ({ cls := "TileServerModel", name := "shapes", desc := "()I" } : Jvm.MethodName)) ∈ lw_all := lw_g (lw_at lw_m8 26 rfl) rfl
theorem q1771 : (Jvm.Cond.methodLink "TileServerLaw" (181 : Nat) ({ cls := "TileServerModel", name := "kindOf", desc := "(I)C" } : Jvm.MethodName)) ∈ lw_all := lw_g (lw_at lw_m8 30 rfl) rfl
theorem q1775 : (Jvm.Cond.methodLink "TileServerLaw" (184 : Nat) ({ cls := "TileServerModel", name := "points", desc := "(I)I" } : Jvm.MethodName)) ∈ lw_all := lw_g (lw_at lw_m8 34 rfl) rfl
theorem q1779 : (Jvm.Cond.methodLink "TileServerLaw" (187 : Nat) ({ cls := "TileServerModel", name := "xOf", desc := "(II)I" } : Jvm.MethodName)) ∈ lw_all := lw_g (lw_at lw_m8 38 rfl) rfl
theorem q1783 : (Jvm.Cond.methodLink "TileServerLaw" (190 : Nat) ({ cls := "TileServerModel", name := "yOf", desc := "(II)I" } : Jvm.MethodName)) ∈ lw_all := lw_g (lw_at lw_m8 42 rfl) rfl
theorem q1787 : (Jvm.Cond.methodLink "TileServerLaw" (193 : Nat) ({ cls := "TileServerModel", name := "isKept", desc := "(III)Z" } : Jvm.MethodName)) ∈ lw_all := lw_g (lw_at lw_m8 46 rfl) rfl
theorem q1812 : (Jvm.Cond.methodLink "TileServerLaw" (196 : Nat) ({ cls := "TileServerModel", name := "isKeptByMarks", desc := "(III)Z" } : Jvm.MethodName)) ∈ lw_all := lw_g (lw_at lw_m8 71 rfl) rfl
theorem q1817 : (Jvm.Cond.methodLink "TileServerLaw" (199 : Nat) ({ cls := "TileServerModel", name := "keptPoints", desc := "(II)I" } : Jvm.MethodName)) ∈ lw_all := lw_g (lw_at lw_m8 76 rfl) rfl
theorem q1831 : (Jvm.Cond.methodLink "TileServerLaw" (203 : Nat) ({ cls := "TileServerModel", name := "cellAt", desc := "(IIIII)I" } : Jvm.MethodName)) ∈ lw_all := lw_g (lw_at lw_m8 90 rfl) rfl
theorem q1870 : (Jvm.Cond.methodLink "TileServerLaw" (206 : Nat) ({ cls := "TileServerModel", name := "cellByDrawing", desc := "(IIIII)I" } : Jvm.MethodName)) ∈ lw_all := lw_g (lw_at lw_m8 129 rfl) rfl
theorem q1874 : (Jvm.Cond.methodLink "TileServerLaw" (209 : Nat) ({ cls := "TileServerModel", name := "isCached", desc := "(III)Z" } : Jvm.MethodName)) ∈ lw_all := lw_g (lw_at lw_m8 133 rfl) rfl
theorem q1878 : (Jvm.Cond.methodLink "TileServerLaw" (212 : Nat) ({ cls := "TileServerModel", name := "ageOf", desc := "(III)I" } : Jvm.MethodName)) ∈ lw_all := lw_g (lw_at lw_m8 137 rfl) rfl
theorem q1882 : (Jvm.Cond.methodLink "TileServerLaw" (216 : Nat) ({ cls := "TileServerModel", name := "cached", desc := "()I" } : Jvm.MethodName)) ∈ lw_all := lw_g (lw_at lw_m8 141 rfl) rfl
theorem q1886 : (Jvm.Cond.methodLink "TileServerLaw" (220 : Nat) ({ cls := "TileServerModel", name := "misses", desc := "()I" } : Jvm.MethodName)) ∈ lw_all := lw_g (lw_at lw_m8 145 rfl) rfl
theorem q1890 : (Jvm.Cond.methodLink "TileServerLaw" (224 : Nat) ({ cls := "TileServerModel", name := "hitShare", desc := "()F" } : Jvm.MethodName)) ∈ lw_all := lw_g (lw_at lw_m8 149 rfl) rfl
theorem q1894 : (Jvm.Cond.methodLink "TileServerLaw" (227 : Nat) ({ cls := "TileServerModel", name := "areaIn", desc := "(IIII)I" } : Jvm.MethodName)) ∈ lw_all := lw_g (lw_at lw_m8 153 rfl) rfl
theorem q1902 : (Jvm.Cond.methodLink "TileServerLaw" (230 : Nat) ({ cls := "TileServerModel", name := "areaByQuarters", desc := "(IIII)I" } : Jvm.MethodName)) ∈ lw_all := lw_g (lw_at lw_m8 161 rfl) rfl
theorem q1907 : (Jvm.Cond.methodLink "TileServerLaw" (233 : Nat) ({ cls := "TileServerModel", name := "crossesRight", desc := "(IIII)I" } : Jvm.MethodName)) ∈ lw_all := lw_g (lw_at lw_m8 166 rfl) rfl
theorem q1915 : (Jvm.Cond.methodLink "TileServerLaw" (236 : Nat) ({ cls := "TileServerModel", name := "crossesLeft", desc := "(IIII)I" } : Jvm.MethodName)) ∈ lw_all := lw_g (lw_at lw_m8 174 rfl) rfl
theorem q1919 : (Jvm.Cond.methodLink "TileServerLaw" (239 : Nat) ({ cls := "TileServerModel", name := "segmentsIn", desc := "(III)I" } : Jvm.MethodName)) ∈ lw_all := lw_g (lw_at lw_m8 178 rfl) rfl
theorem q1923 : (Jvm.Cond.methodLink "TileServerLaw" (242 : Nat) ({ cls := "TileServerModel", name := "placeOf", desc := "(II)C" } : Jvm.MethodName)) ∈ lw_all := lw_g (lw_at lw_m8 182 rfl) rfl
theorem q1947 : (Jvm.Cond.methodLink "TileServerLaw" (245 : Nat) ({ cls := "TileServerModel", name := "labelLeft", desc := "(II)I" } : Jvm.MethodName)) ∈ lw_all := lw_g (lw_at lw_m8 206 rfl) rfl
theorem q1955 : (Jvm.Cond.methodLink "TileServerLaw" (248 : Nat) ({ cls := "TileServerModel", name := "labelLow", desc := "(II)I" } : Jvm.MethodName)) ∈ lw_all := lw_g (lw_at lw_m8 214 rfl) rfl
theorem q1959 : (Jvm.Cond.methodLink "TileServerLaw" (251 : Nat) ({ cls := "TileServerModel", name := "shownLabels", desc := "(I)I" } : Jvm.MethodName)) ∈ lw_all := lw_g (lw_at lw_m8 218 rfl) rfl
theorem q1963 : (Jvm.Cond.methodLink "TileServerLaw" (256 : Nat) ({ cls := "TileServerModel", name := "drawn", desc := "()J" } : Jvm.MethodName)) ∈ lw_all := lw_g (lw_at lw_m8 222 rfl) rfl
theorem q1967 : (Jvm.Cond.methodLink "TileServerLaw" (260 : Nat) ({ cls := "TileServerModel", name := "meanKept", desc := "(I)D" } : Jvm.MethodName)) ∈ lw_all := lw_g (lw_at lw_m8 226 rfl) rfl
theorem q1971 : (Jvm.Cond.methodLink "TileServerLaw" (265 : Nat) ({ cls := "TileServerModel", name := "isFresh", desc := "()Z" } : Jvm.MethodName)) ∈ lw_all := lw_g (lw_at lw_m8 230 rfl) rfl
