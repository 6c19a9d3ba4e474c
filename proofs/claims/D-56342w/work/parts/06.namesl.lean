/-! PolygonBoardLaw -/
set_option maxRecDepth 100000
def RX0 : String := "PolygonBoardLaw"
abbrev cX0_fill : ByteArray := method_3_code
def yX0_fill : MethodName := ⟨RX0, "fill", "(LPolygonBoard;IIIII[J)I"⟩
def dkwX0_fill_1 : List UInt8 := [58, 7, 5, 172, 3, 172]
abbrev dktX0_fill_1 : List UInt8 := dkwX0_fill_1 ++ []
def dkwX0_fill_0 : List UInt8 := [25, 6, 3, 42, 27, 28, 29, 21, 4, 21, 5, 182, 0, 7, 133, 80, 167, 0, 11, 58, 7, 4, 172]
abbrev dktX0_fill_0 : List UInt8 := dkwX0_fill_0 ++ dktX0_fill_1
theorem dksX0_fill_0 : cX0_fill.data.toList.drop 0 = dktX0_fill_0 := by decide +kernel
theorem dksX0_fill_1 : cX0_fill.data.toList.drop 23 = dktX0_fill_1 := dk_seg dksX0_fill_0 23 rfl rfl
theorem dX0_fill_0 : decode cX0_fill 0 = .ok (.aload 6, 2) := dk_25 6 (dk_at dksX0_fill_0 0 rfl rfl)
theorem dX0_fill_2 : decode cX0_fill 2 = .ok (.iconst 0, 1) := dk_3 (dk_at dksX0_fill_0 2 rfl rfl)
theorem dX0_fill_3 : decode cX0_fill 3 = .ok (.aload_n 0, 1) := dk_42 (dk_at dksX0_fill_0 3 rfl rfl)
theorem dX0_fill_4 : decode cX0_fill 4 = .ok (.iload_n 1, 1) := dk_27 (dk_at dksX0_fill_0 4 rfl rfl)
theorem dX0_fill_5 : decode cX0_fill 5 = .ok (.iload_n 2, 1) := dk_28 (dk_at dksX0_fill_0 5 rfl rfl)
theorem dX0_fill_6 : decode cX0_fill 6 = .ok (.iload_n 3, 1) := dk_29 (dk_at dksX0_fill_0 6 rfl rfl)
theorem dX0_fill_7 : decode cX0_fill 7 = .ok (.iload 4, 2) := dk_21 4 (dk_at dksX0_fill_0 7 rfl rfl)
theorem dX0_fill_9 : decode cX0_fill 9 = .ok (.iload 5, 2) := dk_21 5 (dk_at dksX0_fill_0 9 rfl rfl)
theorem dX0_fill_11 : decode cX0_fill 11 = .ok (.invokevirtual 7, 3) := dk_182 0 7 (dk_at dksX0_fill_0 11 rfl rfl)
theorem dX0_fill_14 : decode cX0_fill 14 = .ok (.i2l, 1) := dk_133 (dk_at dksX0_fill_0 14 rfl rfl)
theorem dX0_fill_15 : decode cX0_fill 15 = .ok (.lastore, 1) := dk_80 (dk_at dksX0_fill_0 15 rfl rfl)
theorem dX0_fill_16 : decode cX0_fill 16 = .ok (.goto 11, 3) := dk_167 0 11 (dk_at dksX0_fill_0 16 rfl rfl)
theorem dX0_fill_19 : decode cX0_fill 19 = .ok (.astore 7, 2) := dk_58 7 (dk_at dksX0_fill_0 19 rfl rfl)
theorem dX0_fill_21 : decode cX0_fill 21 = .ok (.iconst 1, 1) := dk_4 (dk_at dksX0_fill_0 21 rfl rfl)
theorem dX0_fill_22 : decode cX0_fill 22 = .ok (.ireturn, 1) := dk_172 (dk_at dksX0_fill_0 22 rfl rfl)
theorem dX0_fill_23 : decode cX0_fill 23 = .ok (.astore 7, 2) := dk_58 7 (dk_at dksX0_fill_1 0 rfl rfl)
theorem dX0_fill_25 : decode cX0_fill 25 = .ok (.iconst 2, 1) := dk_5 (dk_at dksX0_fill_1 2 rfl rfl)
theorem dX0_fill_26 : decode cX0_fill 26 = .ok (.ireturn, 1) := dk_172 (dk_at dksX0_fill_1 3 rfl rfl)
theorem dX0_fill_27 : decode cX0_fill 27 = .ok (.iconst 0, 1) := dk_3 (dk_at dksX0_fill_1 4 rfl rfl)
theorem dX0_fill_28 : decode cX0_fill 28 = .ok (.ireturn, 1) := dk_172 (dk_at dksX0_fill_1 5 rfl rfl)
abbrev cX0_erase : ByteArray := method_4_code
def yX0_erase : MethodName := ⟨RX0, "erase", "(LPolygonBoard;IIIII[J)I"⟩
def dkwX0_erase_1 : List UInt8 := [58, 7, 5, 172, 3, 172]
abbrev dktX0_erase_1 : List UInt8 := dkwX0_erase_1 ++ []
def dkwX0_erase_0 : List UInt8 := [25, 6, 3, 42, 27, 28, 29, 21, 4, 21, 5, 182, 0, 17, 133, 80, 167, 0, 11, 58, 7, 4, 172]
abbrev dktX0_erase_0 : List UInt8 := dkwX0_erase_0 ++ dktX0_erase_1
theorem dksX0_erase_0 : cX0_erase.data.toList.drop 0 = dktX0_erase_0 := by decide +kernel
theorem dksX0_erase_1 : cX0_erase.data.toList.drop 23 = dktX0_erase_1 := dk_seg dksX0_erase_0 23 rfl rfl
theorem dX0_erase_0 : decode cX0_erase 0 = .ok (.aload 6, 2) := dk_25 6 (dk_at dksX0_erase_0 0 rfl rfl)
theorem dX0_erase_2 : decode cX0_erase 2 = .ok (.iconst 0, 1) := dk_3 (dk_at dksX0_erase_0 2 rfl rfl)
theorem dX0_erase_3 : decode cX0_erase 3 = .ok (.aload_n 0, 1) := dk_42 (dk_at dksX0_erase_0 3 rfl rfl)
theorem dX0_erase_4 : decode cX0_erase 4 = .ok (.iload_n 1, 1) := dk_27 (dk_at dksX0_erase_0 4 rfl rfl)
theorem dX0_erase_5 : decode cX0_erase 5 = .ok (.iload_n 2, 1) := dk_28 (dk_at dksX0_erase_0 5 rfl rfl)
theorem dX0_erase_6 : decode cX0_erase 6 = .ok (.iload_n 3, 1) := dk_29 (dk_at dksX0_erase_0 6 rfl rfl)
theorem dX0_erase_7 : decode cX0_erase 7 = .ok (.iload 4, 2) := dk_21 4 (dk_at dksX0_erase_0 7 rfl rfl)
theorem dX0_erase_9 : decode cX0_erase 9 = .ok (.iload 5, 2) := dk_21 5 (dk_at dksX0_erase_0 9 rfl rfl)
theorem dX0_erase_11 : decode cX0_erase 11 = .ok (.invokevirtual 17, 3) := dk_182 0 17 (dk_at dksX0_erase_0 11 rfl rfl)
theorem dX0_erase_14 : decode cX0_erase 14 = .ok (.i2l, 1) := dk_133 (dk_at dksX0_erase_0 14 rfl rfl)
theorem dX0_erase_15 : decode cX0_erase 15 = .ok (.lastore, 1) := dk_80 (dk_at dksX0_erase_0 15 rfl rfl)
theorem dX0_erase_16 : decode cX0_erase 16 = .ok (.goto 11, 3) := dk_167 0 11 (dk_at dksX0_erase_0 16 rfl rfl)
theorem dX0_erase_19 : decode cX0_erase 19 = .ok (.astore 7, 2) := dk_58 7 (dk_at dksX0_erase_0 19 rfl rfl)
theorem dX0_erase_21 : decode cX0_erase 21 = .ok (.iconst 1, 1) := dk_4 (dk_at dksX0_erase_0 21 rfl rfl)
theorem dX0_erase_22 : decode cX0_erase 22 = .ok (.ireturn, 1) := dk_172 (dk_at dksX0_erase_0 22 rfl rfl)
theorem dX0_erase_23 : decode cX0_erase 23 = .ok (.astore 7, 2) := dk_58 7 (dk_at dksX0_erase_1 0 rfl rfl)
theorem dX0_erase_25 : decode cX0_erase 25 = .ok (.iconst 2, 1) := dk_5 (dk_at dksX0_erase_1 2 rfl rfl)
theorem dX0_erase_26 : decode cX0_erase 26 = .ok (.ireturn, 1) := dk_172 (dk_at dksX0_erase_1 3 rfl rfl)
theorem dX0_erase_27 : decode cX0_erase 27 = .ok (.iconst 0, 1) := dk_3 (dk_at dksX0_erase_1 4 rfl rfl)
theorem dX0_erase_28 : decode cX0_erase 28 = .ok (.ireturn, 1) := dk_172 (dk_at dksX0_erase_1 5 rfl rfl)
abbrev cX0_clear : ByteArray := method_5_code
def yX0_clear : MethodName := ⟨RX0, "clear", "(LPolygonBoard;I[J)I"⟩
def dkwX0_clear_0 : List UInt8 := [44, 3, 42, 27, 182, 0, 20, 133, 80, 167, 0, 6, 78, 4, 172, 3, 172]
abbrev dktX0_clear_0 : List UInt8 := dkwX0_clear_0 ++ []
theorem dksX0_clear_0 : cX0_clear.data.toList.drop 0 = dktX0_clear_0 := by decide +kernel
theorem dX0_clear_0 : decode cX0_clear 0 = .ok (.aload_n 2, 1) := dk_44 (dk_at dksX0_clear_0 0 rfl rfl)
theorem dX0_clear_1 : decode cX0_clear 1 = .ok (.iconst 0, 1) := dk_3 (dk_at dksX0_clear_0 1 rfl rfl)
theorem dX0_clear_2 : decode cX0_clear 2 = .ok (.aload_n 0, 1) := dk_42 (dk_at dksX0_clear_0 2 rfl rfl)
theorem dX0_clear_3 : decode cX0_clear 3 = .ok (.iload_n 1, 1) := dk_27 (dk_at dksX0_clear_0 3 rfl rfl)
theorem dX0_clear_4 : decode cX0_clear 4 = .ok (.invokevirtual 20, 3) := dk_182 0 20 (dk_at dksX0_clear_0 4 rfl rfl)
theorem dX0_clear_7 : decode cX0_clear 7 = .ok (.i2l, 1) := dk_133 (dk_at dksX0_clear_0 7 rfl rfl)
theorem dX0_clear_8 : decode cX0_clear 8 = .ok (.lastore, 1) := dk_80 (dk_at dksX0_clear_0 8 rfl rfl)
theorem dX0_clear_9 : decode cX0_clear 9 = .ok (.goto 6, 3) := dk_167 0 6 (dk_at dksX0_clear_0 9 rfl rfl)
theorem dX0_clear_12 : decode cX0_clear 12 = .ok (.astore_n 3, 1) := dk_78 (dk_at dksX0_clear_0 12 rfl rfl)
theorem dX0_clear_13 : decode cX0_clear 13 = .ok (.iconst 1, 1) := dk_4 (dk_at dksX0_clear_0 13 rfl rfl)
theorem dX0_clear_14 : decode cX0_clear 14 = .ok (.ireturn, 1) := dk_172 (dk_at dksX0_clear_0 14 rfl rfl)
theorem dX0_clear_15 : decode cX0_clear 15 = .ok (.iconst 0, 1) := dk_3 (dk_at dksX0_clear_0 15 rfl rfl)
theorem dX0_clear_16 : decode cX0_clear 16 = .ok (.ireturn, 1) := dk_172 (dk_at dksX0_clear_0 16 rfl rfl)
abbrev cX0_moveTo : ByteArray := method_6_code
def yX0_moveTo : MethodName := ⟨RX0, "moveTo", "(LPolygonBoard;II[J)I"⟩
def dkwX0_moveTo_0 : List UInt8 := [45, 3, 42, 27, 28, 182, 0, 24, 133, 80, 167, 0, 7, 58, 4, 4, 172, 3, 172]
abbrev dktX0_moveTo_0 : List UInt8 := dkwX0_moveTo_0 ++ []
theorem dksX0_moveTo_0 : cX0_moveTo.data.toList.drop 0 = dktX0_moveTo_0 := by decide +kernel
theorem dX0_moveTo_0 : decode cX0_moveTo 0 = .ok (.aload_n 3, 1) := dk_45 (dk_at dksX0_moveTo_0 0 rfl rfl)
theorem dX0_moveTo_1 : decode cX0_moveTo 1 = .ok (.iconst 0, 1) := dk_3 (dk_at dksX0_moveTo_0 1 rfl rfl)
theorem dX0_moveTo_2 : decode cX0_moveTo 2 = .ok (.aload_n 0, 1) := dk_42 (dk_at dksX0_moveTo_0 2 rfl rfl)
theorem dX0_moveTo_3 : decode cX0_moveTo 3 = .ok (.iload_n 1, 1) := dk_27 (dk_at dksX0_moveTo_0 3 rfl rfl)
theorem dX0_moveTo_4 : decode cX0_moveTo 4 = .ok (.iload_n 2, 1) := dk_28 (dk_at dksX0_moveTo_0 4 rfl rfl)
theorem dX0_moveTo_5 : decode cX0_moveTo 5 = .ok (.invokevirtual 24, 3) := dk_182 0 24 (dk_at dksX0_moveTo_0 5 rfl rfl)
theorem dX0_moveTo_8 : decode cX0_moveTo 8 = .ok (.i2l, 1) := dk_133 (dk_at dksX0_moveTo_0 8 rfl rfl)
theorem dX0_moveTo_9 : decode cX0_moveTo 9 = .ok (.lastore, 1) := dk_80 (dk_at dksX0_moveTo_0 9 rfl rfl)
theorem dX0_moveTo_10 : decode cX0_moveTo 10 = .ok (.goto 7, 3) := dk_167 0 7 (dk_at dksX0_moveTo_0 10 rfl rfl)
theorem dX0_moveTo_13 : decode cX0_moveTo 13 = .ok (.astore 4, 2) := dk_58 4 (dk_at dksX0_moveTo_0 13 rfl rfl)
theorem dX0_moveTo_15 : decode cX0_moveTo 15 = .ok (.iconst 1, 1) := dk_4 (dk_at dksX0_moveTo_0 15 rfl rfl)
theorem dX0_moveTo_16 : decode cX0_moveTo 16 = .ok (.ireturn, 1) := dk_172 (dk_at dksX0_moveTo_0 16 rfl rfl)
theorem dX0_moveTo_17 : decode cX0_moveTo 17 = .ok (.iconst 0, 1) := dk_3 (dk_at dksX0_moveTo_0 17 rfl rfl)
theorem dX0_moveTo_18 : decode cX0_moveTo 18 = .ok (.ireturn, 1) := dk_172 (dk_at dksX0_moveTo_0 18 rfl rfl)
abbrev cX0_lineTo : ByteArray := method_7_code
def yX0_lineTo : MethodName := ⟨RX0, "lineTo", "(LPolygonBoard;II[J)I"⟩
def dkwX0_lineTo_0 : List UInt8 := [45, 3, 42, 27, 28, 182, 0, 28, 133, 80, 167, 0, 11, 58, 4, 4, 172, 58, 4, 5, 172, 3, 172]
abbrev dktX0_lineTo_0 : List UInt8 := dkwX0_lineTo_0 ++ []
theorem dksX0_lineTo_0 : cX0_lineTo.data.toList.drop 0 = dktX0_lineTo_0 := by decide +kernel
theorem dX0_lineTo_0 : decode cX0_lineTo 0 = .ok (.aload_n 3, 1) := dk_45 (dk_at dksX0_lineTo_0 0 rfl rfl)
theorem dX0_lineTo_1 : decode cX0_lineTo 1 = .ok (.iconst 0, 1) := dk_3 (dk_at dksX0_lineTo_0 1 rfl rfl)
theorem dX0_lineTo_2 : decode cX0_lineTo 2 = .ok (.aload_n 0, 1) := dk_42 (dk_at dksX0_lineTo_0 2 rfl rfl)
theorem dX0_lineTo_3 : decode cX0_lineTo 3 = .ok (.iload_n 1, 1) := dk_27 (dk_at dksX0_lineTo_0 3 rfl rfl)
theorem dX0_lineTo_4 : decode cX0_lineTo 4 = .ok (.iload_n 2, 1) := dk_28 (dk_at dksX0_lineTo_0 4 rfl rfl)
theorem dX0_lineTo_5 : decode cX0_lineTo 5 = .ok (.invokevirtual 28, 3) := dk_182 0 28 (dk_at dksX0_lineTo_0 5 rfl rfl)
theorem dX0_lineTo_8 : decode cX0_lineTo 8 = .ok (.i2l, 1) := dk_133 (dk_at dksX0_lineTo_0 8 rfl rfl)
theorem dX0_lineTo_9 : decode cX0_lineTo 9 = .ok (.lastore, 1) := dk_80 (dk_at dksX0_lineTo_0 9 rfl rfl)
theorem dX0_lineTo_10 : decode cX0_lineTo 10 = .ok (.goto 11, 3) := dk_167 0 11 (dk_at dksX0_lineTo_0 10 rfl rfl)
theorem dX0_lineTo_13 : decode cX0_lineTo 13 = .ok (.astore 4, 2) := dk_58 4 (dk_at dksX0_lineTo_0 13 rfl rfl)
theorem dX0_lineTo_15 : decode cX0_lineTo 15 = .ok (.iconst 1, 1) := dk_4 (dk_at dksX0_lineTo_0 15 rfl rfl)
theorem dX0_lineTo_16 : decode cX0_lineTo 16 = .ok (.ireturn, 1) := dk_172 (dk_at dksX0_lineTo_0 16 rfl rfl)
theorem dX0_lineTo_17 : decode cX0_lineTo 17 = .ok (.astore 4, 2) := dk_58 4 (dk_at dksX0_lineTo_0 17 rfl rfl)
theorem dX0_lineTo_19 : decode cX0_lineTo 19 = .ok (.iconst 2, 1) := dk_5 (dk_at dksX0_lineTo_0 19 rfl rfl)
theorem dX0_lineTo_20 : decode cX0_lineTo 20 = .ok (.ireturn, 1) := dk_172 (dk_at dksX0_lineTo_0 20 rfl rfl)
theorem dX0_lineTo_21 : decode cX0_lineTo 21 = .ok (.iconst 0, 1) := dk_3 (dk_at dksX0_lineTo_0 21 rfl rfl)
theorem dX0_lineTo_22 : decode cX0_lineTo 22 = .ok (.ireturn, 1) := dk_172 (dk_at dksX0_lineTo_0 22 rfl rfl)
abbrev cX0_closePath : ByteArray := method_8_code
def yX0_closePath : MethodName := ⟨RX0, "closePath", "(LPolygonBoard;IZ[J)I"⟩
def dkwX0_closePath_0 : List UInt8 := [45, 3, 42, 27, 28, 182, 0, 33, 133, 80, 167, 0, 11, 58, 4, 4, 172, 58, 4, 5, 172, 3, 172]
abbrev dktX0_closePath_0 : List UInt8 := dkwX0_closePath_0 ++ []
theorem dksX0_closePath_0 : cX0_closePath.data.toList.drop 0 = dktX0_closePath_0 := by decide +kernel
theorem dX0_closePath_0 : decode cX0_closePath 0 = .ok (.aload_n 3, 1) := dk_45 (dk_at dksX0_closePath_0 0 rfl rfl)
theorem dX0_closePath_1 : decode cX0_closePath 1 = .ok (.iconst 0, 1) := dk_3 (dk_at dksX0_closePath_0 1 rfl rfl)
theorem dX0_closePath_2 : decode cX0_closePath 2 = .ok (.aload_n 0, 1) := dk_42 (dk_at dksX0_closePath_0 2 rfl rfl)
theorem dX0_closePath_3 : decode cX0_closePath 3 = .ok (.iload_n 1, 1) := dk_27 (dk_at dksX0_closePath_0 3 rfl rfl)
theorem dX0_closePath_4 : decode cX0_closePath 4 = .ok (.iload_n 2, 1) := dk_28 (dk_at dksX0_closePath_0 4 rfl rfl)
theorem dX0_closePath_5 : decode cX0_closePath 5 = .ok (.invokevirtual 33, 3) := dk_182 0 33 (dk_at dksX0_closePath_0 5 rfl rfl)
theorem dX0_closePath_8 : decode cX0_closePath 8 = .ok (.i2l, 1) := dk_133 (dk_at dksX0_closePath_0 8 rfl rfl)
theorem dX0_closePath_9 : decode cX0_closePath 9 = .ok (.lastore, 1) := dk_80 (dk_at dksX0_closePath_0 9 rfl rfl)
theorem dX0_closePath_10 : decode cX0_closePath 10 = .ok (.goto 11, 3) := dk_167 0 11 (dk_at dksX0_closePath_0 10 rfl rfl)
theorem dX0_closePath_13 : decode cX0_closePath 13 = .ok (.astore 4, 2) := dk_58 4 (dk_at dksX0_closePath_0 13 rfl rfl)
theorem dX0_closePath_15 : decode cX0_closePath 15 = .ok (.iconst 1, 1) := dk_4 (dk_at dksX0_closePath_0 15 rfl rfl)
theorem dX0_closePath_16 : decode cX0_closePath 16 = .ok (.ireturn, 1) := dk_172 (dk_at dksX0_closePath_0 16 rfl rfl)
theorem dX0_closePath_17 : decode cX0_closePath 17 = .ok (.astore 4, 2) := dk_58 4 (dk_at dksX0_closePath_0 17 rfl rfl)
theorem dX0_closePath_19 : decode cX0_closePath 19 = .ok (.iconst 2, 1) := dk_5 (dk_at dksX0_closePath_0 19 rfl rfl)
theorem dX0_closePath_20 : decode cX0_closePath 20 = .ok (.ireturn, 1) := dk_172 (dk_at dksX0_closePath_0 20 rfl rfl)
theorem dX0_closePath_21 : decode cX0_closePath 21 = .ok (.iconst 0, 1) := dk_3 (dk_at dksX0_closePath_0 21 rfl rfl)
theorem dX0_closePath_22 : decode cX0_closePath 22 = .ok (.ireturn, 1) := dk_172 (dk_at dksX0_closePath_0 22 rfl rfl)
abbrev cX0_combine : ByteArray := method_9_code
def yX0_combine : MethodName := ⟨RX0, "combine", "(LPolygonBoard;CIII[J)I"⟩
def dkwX0_combine_1 : List UInt8 := [172, 3, 172]
abbrev dktX0_combine_1 : List UInt8 := dkwX0_combine_1 ++ []
def dkwX0_combine_0 : List UInt8 := [25, 5, 3, 42, 27, 28, 29, 21, 4, 182, 0, 37, 133, 80, 167, 0, 11, 58, 6, 4, 172, 58, 6, 5]
abbrev dktX0_combine_0 : List UInt8 := dkwX0_combine_0 ++ dktX0_combine_1
theorem dksX0_combine_0 : cX0_combine.data.toList.drop 0 = dktX0_combine_0 := by decide +kernel
theorem dksX0_combine_1 : cX0_combine.data.toList.drop 24 = dktX0_combine_1 := dk_seg dksX0_combine_0 24 rfl rfl
theorem dX0_combine_0 : decode cX0_combine 0 = .ok (.aload 5, 2) := dk_25 5 (dk_at dksX0_combine_0 0 rfl rfl)
theorem dX0_combine_2 : decode cX0_combine 2 = .ok (.iconst 0, 1) := dk_3 (dk_at dksX0_combine_0 2 rfl rfl)
theorem dX0_combine_3 : decode cX0_combine 3 = .ok (.aload_n 0, 1) := dk_42 (dk_at dksX0_combine_0 3 rfl rfl)
theorem dX0_combine_4 : decode cX0_combine 4 = .ok (.iload_n 1, 1) := dk_27 (dk_at dksX0_combine_0 4 rfl rfl)
theorem dX0_combine_5 : decode cX0_combine 5 = .ok (.iload_n 2, 1) := dk_28 (dk_at dksX0_combine_0 5 rfl rfl)
theorem dX0_combine_6 : decode cX0_combine 6 = .ok (.iload_n 3, 1) := dk_29 (dk_at dksX0_combine_0 6 rfl rfl)
theorem dX0_combine_7 : decode cX0_combine 7 = .ok (.iload 4, 2) := dk_21 4 (dk_at dksX0_combine_0 7 rfl rfl)
theorem dX0_combine_9 : decode cX0_combine 9 = .ok (.invokevirtual 37, 3) := dk_182 0 37 (dk_at dksX0_combine_0 9 rfl rfl)
theorem dX0_combine_12 : decode cX0_combine 12 = .ok (.i2l, 1) := dk_133 (dk_at dksX0_combine_0 12 rfl rfl)
theorem dX0_combine_13 : decode cX0_combine 13 = .ok (.lastore, 1) := dk_80 (dk_at dksX0_combine_0 13 rfl rfl)
theorem dX0_combine_14 : decode cX0_combine 14 = .ok (.goto 11, 3) := dk_167 0 11 (dk_at dksX0_combine_0 14 rfl rfl)
theorem dX0_combine_17 : decode cX0_combine 17 = .ok (.astore 6, 2) := dk_58 6 (dk_at dksX0_combine_0 17 rfl rfl)
theorem dX0_combine_19 : decode cX0_combine 19 = .ok (.iconst 1, 1) := dk_4 (dk_at dksX0_combine_0 19 rfl rfl)
theorem dX0_combine_20 : decode cX0_combine 20 = .ok (.ireturn, 1) := dk_172 (dk_at dksX0_combine_0 20 rfl rfl)
theorem dX0_combine_21 : decode cX0_combine 21 = .ok (.astore 6, 2) := dk_58 6 (dk_at dksX0_combine_0 21 rfl rfl)
theorem dX0_combine_23 : decode cX0_combine 23 = .ok (.iconst 2, 1) := dk_5 (dk_at dksX0_combine_0 23 rfl rfl)
theorem dX0_combine_24 : decode cX0_combine 24 = .ok (.ireturn, 1) := dk_172 (dk_at dksX0_combine_1 0 rfl rfl)
theorem dX0_combine_25 : decode cX0_combine 25 = .ok (.iconst 0, 1) := dk_3 (dk_at dksX0_combine_1 1 rfl rfl)
theorem dX0_combine_26 : decode cX0_combine 26 = .ok (.ireturn, 1) := dk_172 (dk_at dksX0_combine_1 2 rfl rfl)
abbrev cX0_grow : ByteArray := method_10_code
def yX0_grow : MethodName := ⟨RX0, "grow", "(LPolygonBoard;III[J)I"⟩
def dkwX0_grow_1 : List UInt8 := [172]
abbrev dktX0_grow_1 : List UInt8 := dkwX0_grow_1 ++ []
def dkwX0_grow_0 : List UInt8 := [25, 4, 3, 42, 27, 28, 29, 182, 0, 41, 133, 80, 167, 0, 11, 58, 5, 4, 172, 58, 5, 5, 172, 3]
abbrev dktX0_grow_0 : List UInt8 := dkwX0_grow_0 ++ dktX0_grow_1
theorem dksX0_grow_0 : cX0_grow.data.toList.drop 0 = dktX0_grow_0 := by decide +kernel
theorem dksX0_grow_1 : cX0_grow.data.toList.drop 24 = dktX0_grow_1 := dk_seg dksX0_grow_0 24 rfl rfl
theorem dX0_grow_0 : decode cX0_grow 0 = .ok (.aload 4, 2) := dk_25 4 (dk_at dksX0_grow_0 0 rfl rfl)
theorem dX0_grow_2 : decode cX0_grow 2 = .ok (.iconst 0, 1) := dk_3 (dk_at dksX0_grow_0 2 rfl rfl)
theorem dX0_grow_3 : decode cX0_grow 3 = .ok (.aload_n 0, 1) := dk_42 (dk_at dksX0_grow_0 3 rfl rfl)
theorem dX0_grow_4 : decode cX0_grow 4 = .ok (.iload_n 1, 1) := dk_27 (dk_at dksX0_grow_0 4 rfl rfl)
theorem dX0_grow_5 : decode cX0_grow 5 = .ok (.iload_n 2, 1) := dk_28 (dk_at dksX0_grow_0 5 rfl rfl)
theorem dX0_grow_6 : decode cX0_grow 6 = .ok (.iload_n 3, 1) := dk_29 (dk_at dksX0_grow_0 6 rfl rfl)
theorem dX0_grow_7 : decode cX0_grow 7 = .ok (.invokevirtual 41, 3) := dk_182 0 41 (dk_at dksX0_grow_0 7 rfl rfl)
theorem dX0_grow_10 : decode cX0_grow 10 = .ok (.i2l, 1) := dk_133 (dk_at dksX0_grow_0 10 rfl rfl)
theorem dX0_grow_11 : decode cX0_grow 11 = .ok (.lastore, 1) := dk_80 (dk_at dksX0_grow_0 11 rfl rfl)
theorem dX0_grow_12 : decode cX0_grow 12 = .ok (.goto 11, 3) := dk_167 0 11 (dk_at dksX0_grow_0 12 rfl rfl)
theorem dX0_grow_15 : decode cX0_grow 15 = .ok (.astore 5, 2) := dk_58 5 (dk_at dksX0_grow_0 15 rfl rfl)
theorem dX0_grow_17 : decode cX0_grow 17 = .ok (.iconst 1, 1) := dk_4 (dk_at dksX0_grow_0 17 rfl rfl)
theorem dX0_grow_18 : decode cX0_grow 18 = .ok (.ireturn, 1) := dk_172 (dk_at dksX0_grow_0 18 rfl rfl)
theorem dX0_grow_19 : decode cX0_grow 19 = .ok (.astore 5, 2) := dk_58 5 (dk_at dksX0_grow_0 19 rfl rfl)
theorem dX0_grow_21 : decode cX0_grow 21 = .ok (.iconst 2, 1) := dk_5 (dk_at dksX0_grow_0 21 rfl rfl)
theorem dX0_grow_22 : decode cX0_grow 22 = .ok (.ireturn, 1) := dk_172 (dk_at dksX0_grow_0 22 rfl rfl)
theorem dX0_grow_23 : decode cX0_grow 23 = .ok (.iconst 0, 1) := dk_3 (dk_at dksX0_grow_0 23 rfl rfl)
theorem dX0_grow_24 : decode cX0_grow 24 = .ok (.ireturn, 1) := dk_172 (dk_at dksX0_grow_1 0 rfl rfl)
abbrev cX0_shrink : ByteArray := method_11_code
def yX0_shrink : MethodName := ⟨RX0, "shrink", "(LPolygonBoard;III[J)I"⟩
def dkwX0_shrink_1 : List UInt8 := [172]
abbrev dktX0_shrink_1 : List UInt8 := dkwX0_shrink_1 ++ []
def dkwX0_shrink_0 : List UInt8 := [25, 4, 3, 42, 27, 28, 29, 182, 0, 45, 133, 80, 167, 0, 11, 58, 5, 4, 172, 58, 5, 5, 172, 3]
abbrev dktX0_shrink_0 : List UInt8 := dkwX0_shrink_0 ++ dktX0_shrink_1
theorem dksX0_shrink_0 : cX0_shrink.data.toList.drop 0 = dktX0_shrink_0 := by decide +kernel
theorem dksX0_shrink_1 : cX0_shrink.data.toList.drop 24 = dktX0_shrink_1 := dk_seg dksX0_shrink_0 24 rfl rfl
theorem dX0_shrink_0 : decode cX0_shrink 0 = .ok (.aload 4, 2) := dk_25 4 (dk_at dksX0_shrink_0 0 rfl rfl)
theorem dX0_shrink_2 : decode cX0_shrink 2 = .ok (.iconst 0, 1) := dk_3 (dk_at dksX0_shrink_0 2 rfl rfl)
theorem dX0_shrink_3 : decode cX0_shrink 3 = .ok (.aload_n 0, 1) := dk_42 (dk_at dksX0_shrink_0 3 rfl rfl)
theorem dX0_shrink_4 : decode cX0_shrink 4 = .ok (.iload_n 1, 1) := dk_27 (dk_at dksX0_shrink_0 4 rfl rfl)
theorem dX0_shrink_5 : decode cX0_shrink 5 = .ok (.iload_n 2, 1) := dk_28 (dk_at dksX0_shrink_0 5 rfl rfl)
theorem dX0_shrink_6 : decode cX0_shrink 6 = .ok (.iload_n 3, 1) := dk_29 (dk_at dksX0_shrink_0 6 rfl rfl)
theorem dX0_shrink_7 : decode cX0_shrink 7 = .ok (.invokevirtual 45, 3) := dk_182 0 45 (dk_at dksX0_shrink_0 7 rfl rfl)
theorem dX0_shrink_10 : decode cX0_shrink 10 = .ok (.i2l, 1) := dk_133 (dk_at dksX0_shrink_0 10 rfl rfl)
theorem dX0_shrink_11 : decode cX0_shrink 11 = .ok (.lastore, 1) := dk_80 (dk_at dksX0_shrink_0 11 rfl rfl)
theorem dX0_shrink_12 : decode cX0_shrink 12 = .ok (.goto 11, 3) := dk_167 0 11 (dk_at dksX0_shrink_0 12 rfl rfl)
theorem dX0_shrink_15 : decode cX0_shrink 15 = .ok (.astore 5, 2) := dk_58 5 (dk_at dksX0_shrink_0 15 rfl rfl)
theorem dX0_shrink_17 : decode cX0_shrink 17 = .ok (.iconst 1, 1) := dk_4 (dk_at dksX0_shrink_0 17 rfl rfl)
theorem dX0_shrink_18 : decode cX0_shrink 18 = .ok (.ireturn, 1) := dk_172 (dk_at dksX0_shrink_0 18 rfl rfl)
theorem dX0_shrink_19 : decode cX0_shrink 19 = .ok (.astore 5, 2) := dk_58 5 (dk_at dksX0_shrink_0 19 rfl rfl)
theorem dX0_shrink_21 : decode cX0_shrink 21 = .ok (.iconst 2, 1) := dk_5 (dk_at dksX0_shrink_0 21 rfl rfl)
theorem dX0_shrink_22 : decode cX0_shrink 22 = .ok (.ireturn, 1) := dk_172 (dk_at dksX0_shrink_0 22 rfl rfl)
theorem dX0_shrink_23 : decode cX0_shrink 23 = .ok (.iconst 0, 1) := dk_3 (dk_at dksX0_shrink_0 23 rfl rfl)
theorem dX0_shrink_24 : decode cX0_shrink 24 = .ok (.ireturn, 1) := dk_172 (dk_at dksX0_shrink_1 0 rfl rfl)
abbrev cX0_move : ByteArray := method_12_code
def yX0_move : MethodName := ⟨RX0, "move", "(LPolygonBoard;IIII[J)I"⟩
def dkwX0_move_1 : List UInt8 := [172, 3, 172]
abbrev dktX0_move_1 : List UInt8 := dkwX0_move_1 ++ []
def dkwX0_move_0 : List UInt8 := [25, 5, 3, 42, 27, 28, 29, 21, 4, 182, 0, 48, 133, 80, 167, 0, 11, 58, 6, 4, 172, 58, 6, 5]
abbrev dktX0_move_0 : List UInt8 := dkwX0_move_0 ++ dktX0_move_1
theorem dksX0_move_0 : cX0_move.data.toList.drop 0 = dktX0_move_0 := by decide +kernel
theorem dksX0_move_1 : cX0_move.data.toList.drop 24 = dktX0_move_1 := dk_seg dksX0_move_0 24 rfl rfl
theorem dX0_move_0 : decode cX0_move 0 = .ok (.aload 5, 2) := dk_25 5 (dk_at dksX0_move_0 0 rfl rfl)
theorem dX0_move_2 : decode cX0_move 2 = .ok (.iconst 0, 1) := dk_3 (dk_at dksX0_move_0 2 rfl rfl)
theorem dX0_move_3 : decode cX0_move 3 = .ok (.aload_n 0, 1) := dk_42 (dk_at dksX0_move_0 3 rfl rfl)
theorem dX0_move_4 : decode cX0_move 4 = .ok (.iload_n 1, 1) := dk_27 (dk_at dksX0_move_0 4 rfl rfl)
theorem dX0_move_5 : decode cX0_move 5 = .ok (.iload_n 2, 1) := dk_28 (dk_at dksX0_move_0 5 rfl rfl)
theorem dX0_move_6 : decode cX0_move 6 = .ok (.iload_n 3, 1) := dk_29 (dk_at dksX0_move_0 6 rfl rfl)
theorem dX0_move_7 : decode cX0_move 7 = .ok (.iload 4, 2) := dk_21 4 (dk_at dksX0_move_0 7 rfl rfl)
theorem dX0_move_9 : decode cX0_move 9 = .ok (.invokevirtual 48, 3) := dk_182 0 48 (dk_at dksX0_move_0 9 rfl rfl)
theorem dX0_move_12 : decode cX0_move 12 = .ok (.i2l, 1) := dk_133 (dk_at dksX0_move_0 12 rfl rfl)
theorem dX0_move_13 : decode cX0_move 13 = .ok (.lastore, 1) := dk_80 (dk_at dksX0_move_0 13 rfl rfl)
theorem dX0_move_14 : decode cX0_move 14 = .ok (.goto 11, 3) := dk_167 0 11 (dk_at dksX0_move_0 14 rfl rfl)
theorem dX0_move_17 : decode cX0_move 17 = .ok (.astore 6, 2) := dk_58 6 (dk_at dksX0_move_0 17 rfl rfl)
theorem dX0_move_19 : decode cX0_move 19 = .ok (.iconst 1, 1) := dk_4 (dk_at dksX0_move_0 19 rfl rfl)
theorem dX0_move_20 : decode cX0_move 20 = .ok (.ireturn, 1) := dk_172 (dk_at dksX0_move_0 20 rfl rfl)
theorem dX0_move_21 : decode cX0_move 21 = .ok (.astore 6, 2) := dk_58 6 (dk_at dksX0_move_0 21 rfl rfl)
theorem dX0_move_23 : decode cX0_move 23 = .ok (.iconst 2, 1) := dk_5 (dk_at dksX0_move_0 23 rfl rfl)
theorem dX0_move_24 : decode cX0_move 24 = .ok (.ireturn, 1) := dk_172 (dk_at dksX0_move_1 0 rfl rfl)
theorem dX0_move_25 : decode cX0_move 25 = .ok (.iconst 0, 1) := dk_3 (dk_at dksX0_move_1 1 rfl rfl)
theorem dX0_move_26 : decode cX0_move 26 = .ok (.ireturn, 1) := dk_172 (dk_at dksX0_move_1 2 rfl rfl)
abbrev cX0_turn : ByteArray := method_13_code
def yX0_turn : MethodName := ⟨RX0, "turn", "(LPolygonBoard;II[J)I"⟩
def dkwX0_turn_0 : List UInt8 := [45, 3, 42, 27, 28, 182, 0, 52, 133, 80, 167, 0, 7, 58, 4, 4, 172, 3, 172]
abbrev dktX0_turn_0 : List UInt8 := dkwX0_turn_0 ++ []
theorem dksX0_turn_0 : cX0_turn.data.toList.drop 0 = dktX0_turn_0 := by decide +kernel
theorem dX0_turn_0 : decode cX0_turn 0 = .ok (.aload_n 3, 1) := dk_45 (dk_at dksX0_turn_0 0 rfl rfl)
theorem dX0_turn_1 : decode cX0_turn 1 = .ok (.iconst 0, 1) := dk_3 (dk_at dksX0_turn_0 1 rfl rfl)
theorem dX0_turn_2 : decode cX0_turn 2 = .ok (.aload_n 0, 1) := dk_42 (dk_at dksX0_turn_0 2 rfl rfl)
theorem dX0_turn_3 : decode cX0_turn 3 = .ok (.iload_n 1, 1) := dk_27 (dk_at dksX0_turn_0 3 rfl rfl)
theorem dX0_turn_4 : decode cX0_turn 4 = .ok (.iload_n 2, 1) := dk_28 (dk_at dksX0_turn_0 4 rfl rfl)
theorem dX0_turn_5 : decode cX0_turn 5 = .ok (.invokevirtual 52, 3) := dk_182 0 52 (dk_at dksX0_turn_0 5 rfl rfl)
theorem dX0_turn_8 : decode cX0_turn 8 = .ok (.i2l, 1) := dk_133 (dk_at dksX0_turn_0 8 rfl rfl)
theorem dX0_turn_9 : decode cX0_turn 9 = .ok (.lastore, 1) := dk_80 (dk_at dksX0_turn_0 9 rfl rfl)
theorem dX0_turn_10 : decode cX0_turn 10 = .ok (.goto 7, 3) := dk_167 0 7 (dk_at dksX0_turn_0 10 rfl rfl)
theorem dX0_turn_13 : decode cX0_turn 13 = .ok (.astore 4, 2) := dk_58 4 (dk_at dksX0_turn_0 13 rfl rfl)
theorem dX0_turn_15 : decode cX0_turn 15 = .ok (.iconst 1, 1) := dk_4 (dk_at dksX0_turn_0 15 rfl rfl)
theorem dX0_turn_16 : decode cX0_turn 16 = .ok (.ireturn, 1) := dk_172 (dk_at dksX0_turn_0 16 rfl rfl)
theorem dX0_turn_17 : decode cX0_turn 17 = .ok (.iconst 0, 1) := dk_3 (dk_at dksX0_turn_0 17 rfl rfl)
theorem dX0_turn_18 : decode cX0_turn 18 = .ok (.ireturn, 1) := dk_172 (dk_at dksX0_turn_0 18 rfl rfl)
abbrev cX0_mirror : ByteArray := method_14_code
def yX0_mirror : MethodName := ⟨RX0, "mirror", "(LPolygonBoard;II[J)I"⟩
def dkwX0_mirror_0 : List UInt8 := [45, 3, 42, 27, 28, 182, 0, 55, 133, 80, 167, 0, 7, 58, 4, 4, 172, 3, 172]
abbrev dktX0_mirror_0 : List UInt8 := dkwX0_mirror_0 ++ []
theorem dksX0_mirror_0 : cX0_mirror.data.toList.drop 0 = dktX0_mirror_0 := by decide +kernel
theorem dX0_mirror_0 : decode cX0_mirror 0 = .ok (.aload_n 3, 1) := dk_45 (dk_at dksX0_mirror_0 0 rfl rfl)
theorem dX0_mirror_1 : decode cX0_mirror 1 = .ok (.iconst 0, 1) := dk_3 (dk_at dksX0_mirror_0 1 rfl rfl)
theorem dX0_mirror_2 : decode cX0_mirror 2 = .ok (.aload_n 0, 1) := dk_42 (dk_at dksX0_mirror_0 2 rfl rfl)
theorem dX0_mirror_3 : decode cX0_mirror 3 = .ok (.iload_n 1, 1) := dk_27 (dk_at dksX0_mirror_0 3 rfl rfl)
theorem dX0_mirror_4 : decode cX0_mirror 4 = .ok (.iload_n 2, 1) := dk_28 (dk_at dksX0_mirror_0 4 rfl rfl)
theorem dX0_mirror_5 : decode cX0_mirror 5 = .ok (.invokevirtual 55, 3) := dk_182 0 55 (dk_at dksX0_mirror_0 5 rfl rfl)
theorem dX0_mirror_8 : decode cX0_mirror 8 = .ok (.i2l, 1) := dk_133 (dk_at dksX0_mirror_0 8 rfl rfl)
theorem dX0_mirror_9 : decode cX0_mirror 9 = .ok (.lastore, 1) := dk_80 (dk_at dksX0_mirror_0 9 rfl rfl)
theorem dX0_mirror_10 : decode cX0_mirror 10 = .ok (.goto 7, 3) := dk_167 0 7 (dk_at dksX0_mirror_0 10 rfl rfl)
theorem dX0_mirror_13 : decode cX0_mirror 13 = .ok (.astore 4, 2) := dk_58 4 (dk_at dksX0_mirror_0 13 rfl rfl)
theorem dX0_mirror_15 : decode cX0_mirror 15 = .ok (.iconst 1, 1) := dk_4 (dk_at dksX0_mirror_0 15 rfl rfl)
theorem dX0_mirror_16 : decode cX0_mirror 16 = .ok (.ireturn, 1) := dk_172 (dk_at dksX0_mirror_0 16 rfl rfl)
theorem dX0_mirror_17 : decode cX0_mirror 17 = .ok (.iconst 0, 1) := dk_3 (dk_at dksX0_mirror_0 17 rfl rfl)
theorem dX0_mirror_18 : decode cX0_mirror 18 = .ok (.ireturn, 1) := dk_172 (dk_at dksX0_mirror_0 18 rfl rfl)
abbrev cX0_fillHoles : ByteArray := method_15_code
def yX0_fillHoles : MethodName := ⟨RX0, "fillHoles", "(LPolygonBoard;II[J)I"⟩
def dkwX0_fillHoles_0 : List UInt8 := [45, 3, 42, 27, 28, 182, 0, 58, 133, 80, 167, 0, 7, 58, 4, 4, 172, 3, 172]
abbrev dktX0_fillHoles_0 : List UInt8 := dkwX0_fillHoles_0 ++ []
theorem dksX0_fillHoles_0 : cX0_fillHoles.data.toList.drop 0 = dktX0_fillHoles_0 := by decide +kernel
theorem dX0_fillHoles_0 : decode cX0_fillHoles 0 = .ok (.aload_n 3, 1) := dk_45 (dk_at dksX0_fillHoles_0 0 rfl rfl)
theorem dX0_fillHoles_1 : decode cX0_fillHoles 1 = .ok (.iconst 0, 1) := dk_3 (dk_at dksX0_fillHoles_0 1 rfl rfl)
theorem dX0_fillHoles_2 : decode cX0_fillHoles 2 = .ok (.aload_n 0, 1) := dk_42 (dk_at dksX0_fillHoles_0 2 rfl rfl)
theorem dX0_fillHoles_3 : decode cX0_fillHoles 3 = .ok (.iload_n 1, 1) := dk_27 (dk_at dksX0_fillHoles_0 3 rfl rfl)
theorem dX0_fillHoles_4 : decode cX0_fillHoles 4 = .ok (.iload_n 2, 1) := dk_28 (dk_at dksX0_fillHoles_0 4 rfl rfl)
theorem dX0_fillHoles_5 : decode cX0_fillHoles 5 = .ok (.invokevirtual 58, 3) := dk_182 0 58 (dk_at dksX0_fillHoles_0 5 rfl rfl)
theorem dX0_fillHoles_8 : decode cX0_fillHoles 8 = .ok (.i2l, 1) := dk_133 (dk_at dksX0_fillHoles_0 8 rfl rfl)
theorem dX0_fillHoles_9 : decode cX0_fillHoles 9 = .ok (.lastore, 1) := dk_80 (dk_at dksX0_fillHoles_0 9 rfl rfl)
theorem dX0_fillHoles_10 : decode cX0_fillHoles 10 = .ok (.goto 7, 3) := dk_167 0 7 (dk_at dksX0_fillHoles_0 10 rfl rfl)
theorem dX0_fillHoles_13 : decode cX0_fillHoles 13 = .ok (.astore 4, 2) := dk_58 4 (dk_at dksX0_fillHoles_0 13 rfl rfl)
theorem dX0_fillHoles_15 : decode cX0_fillHoles 15 = .ok (.iconst 1, 1) := dk_4 (dk_at dksX0_fillHoles_0 15 rfl rfl)
theorem dX0_fillHoles_16 : decode cX0_fillHoles 16 = .ok (.ireturn, 1) := dk_172 (dk_at dksX0_fillHoles_0 16 rfl rfl)
theorem dX0_fillHoles_17 : decode cX0_fillHoles 17 = .ok (.iconst 0, 1) := dk_3 (dk_at dksX0_fillHoles_0 17 rfl rfl)
theorem dX0_fillHoles_18 : decode cX0_fillHoles 18 = .ok (.ireturn, 1) := dk_172 (dk_at dksX0_fillHoles_0 18 rfl rfl)
abbrev cX0_keepPart : ByteArray := method_16_code
def yX0_keepPart : MethodName := ⟨RX0, "keepPart", "(LPolygonBoard;IIII[J)I"⟩
def dkwX0_keepPart_1 : List UInt8 := [172, 58, 6, 6, 172, 3, 172]
abbrev dktX0_keepPart_1 : List UInt8 := dkwX0_keepPart_1 ++ []
def dkwX0_keepPart_0 : List UInt8 := [25, 5, 3, 42, 27, 28, 29, 21, 4, 182, 0, 61, 133, 80, 167, 0, 15, 58, 6, 4, 172, 58, 6, 5]
abbrev dktX0_keepPart_0 : List UInt8 := dkwX0_keepPart_0 ++ dktX0_keepPart_1
theorem dksX0_keepPart_0 : cX0_keepPart.data.toList.drop 0 = dktX0_keepPart_0 := by decide +kernel
theorem dksX0_keepPart_1 : cX0_keepPart.data.toList.drop 24 = dktX0_keepPart_1 := dk_seg dksX0_keepPart_0 24 rfl rfl
theorem dX0_keepPart_0 : decode cX0_keepPart 0 = .ok (.aload 5, 2) := dk_25 5 (dk_at dksX0_keepPart_0 0 rfl rfl)
theorem dX0_keepPart_2 : decode cX0_keepPart 2 = .ok (.iconst 0, 1) := dk_3 (dk_at dksX0_keepPart_0 2 rfl rfl)
theorem dX0_keepPart_3 : decode cX0_keepPart 3 = .ok (.aload_n 0, 1) := dk_42 (dk_at dksX0_keepPart_0 3 rfl rfl)
theorem dX0_keepPart_4 : decode cX0_keepPart 4 = .ok (.iload_n 1, 1) := dk_27 (dk_at dksX0_keepPart_0 4 rfl rfl)
theorem dX0_keepPart_5 : decode cX0_keepPart 5 = .ok (.iload_n 2, 1) := dk_28 (dk_at dksX0_keepPart_0 5 rfl rfl)
theorem dX0_keepPart_6 : decode cX0_keepPart 6 = .ok (.iload_n 3, 1) := dk_29 (dk_at dksX0_keepPart_0 6 rfl rfl)
theorem dX0_keepPart_7 : decode cX0_keepPart 7 = .ok (.iload 4, 2) := dk_21 4 (dk_at dksX0_keepPart_0 7 rfl rfl)
theorem dX0_keepPart_9 : decode cX0_keepPart 9 = .ok (.invokevirtual 61, 3) := dk_182 0 61 (dk_at dksX0_keepPart_0 9 rfl rfl)
theorem dX0_keepPart_12 : decode cX0_keepPart 12 = .ok (.i2l, 1) := dk_133 (dk_at dksX0_keepPart_0 12 rfl rfl)
theorem dX0_keepPart_13 : decode cX0_keepPart 13 = .ok (.lastore, 1) := dk_80 (dk_at dksX0_keepPart_0 13 rfl rfl)
theorem dX0_keepPart_14 : decode cX0_keepPart 14 = .ok (.goto 15, 3) := dk_167 0 15 (dk_at dksX0_keepPart_0 14 rfl rfl)
theorem dX0_keepPart_17 : decode cX0_keepPart 17 = .ok (.astore 6, 2) := dk_58 6 (dk_at dksX0_keepPart_0 17 rfl rfl)
theorem dX0_keepPart_19 : decode cX0_keepPart 19 = .ok (.iconst 1, 1) := dk_4 (dk_at dksX0_keepPart_0 19 rfl rfl)
theorem dX0_keepPart_20 : decode cX0_keepPart 20 = .ok (.ireturn, 1) := dk_172 (dk_at dksX0_keepPart_0 20 rfl rfl)
theorem dX0_keepPart_21 : decode cX0_keepPart 21 = .ok (.astore 6, 2) := dk_58 6 (dk_at dksX0_keepPart_0 21 rfl rfl)
theorem dX0_keepPart_23 : decode cX0_keepPart 23 = .ok (.iconst 2, 1) := dk_5 (dk_at dksX0_keepPart_0 23 rfl rfl)
theorem dX0_keepPart_24 : decode cX0_keepPart 24 = .ok (.ireturn, 1) := dk_172 (dk_at dksX0_keepPart_1 0 rfl rfl)
theorem dX0_keepPart_25 : decode cX0_keepPart 25 = .ok (.astore 6, 2) := dk_58 6 (dk_at dksX0_keepPart_1 1 rfl rfl)
theorem dX0_keepPart_27 : decode cX0_keepPart 27 = .ok (.iconst 3, 1) := dk_6 (dk_at dksX0_keepPart_1 3 rfl rfl)
theorem dX0_keepPart_28 : decode cX0_keepPart 28 = .ok (.ireturn, 1) := dk_172 (dk_at dksX0_keepPart_1 4 rfl rfl)
theorem dX0_keepPart_29 : decode cX0_keepPart 29 = .ok (.iconst 0, 1) := dk_3 (dk_at dksX0_keepPart_1 5 rfl rfl)
theorem dX0_keepPart_30 : decode cX0_keepPart 30 = .ok (.ireturn, 1) := dk_172 (dk_at dksX0_keepPart_1 6 rfl rfl)
abbrev cX0_contains : ByteArray := method_17_code
def yX0_contains : MethodName := ⟨RX0, "contains", "(LPolygonBoard;III[J)I"⟩
def dkwX0_contains_1 : List UInt8 := [4, 172, 58, 5, 5, 172, 3, 172]
abbrev dktX0_contains_1 : List UInt8 := dkwX0_contains_1 ++ []
def dkwX0_contains_0 : List UInt8 := [25, 4, 3, 42, 27, 28, 29, 182, 0, 66, 153, 0, 7, 10, 167, 0, 4, 9, 80, 167, 0, 11, 58, 5]
abbrev dktX0_contains_0 : List UInt8 := dkwX0_contains_0 ++ dktX0_contains_1
theorem dksX0_contains_0 : cX0_contains.data.toList.drop 0 = dktX0_contains_0 := by decide +kernel
theorem dksX0_contains_1 : cX0_contains.data.toList.drop 24 = dktX0_contains_1 := dk_seg dksX0_contains_0 24 rfl rfl
theorem dX0_contains_0 : decode cX0_contains 0 = .ok (.aload 4, 2) := dk_25 4 (dk_at dksX0_contains_0 0 rfl rfl)
theorem dX0_contains_2 : decode cX0_contains 2 = .ok (.iconst 0, 1) := dk_3 (dk_at dksX0_contains_0 2 rfl rfl)
theorem dX0_contains_3 : decode cX0_contains 3 = .ok (.aload_n 0, 1) := dk_42 (dk_at dksX0_contains_0 3 rfl rfl)
theorem dX0_contains_4 : decode cX0_contains 4 = .ok (.iload_n 1, 1) := dk_27 (dk_at dksX0_contains_0 4 rfl rfl)
theorem dX0_contains_5 : decode cX0_contains 5 = .ok (.iload_n 2, 1) := dk_28 (dk_at dksX0_contains_0 5 rfl rfl)
theorem dX0_contains_6 : decode cX0_contains 6 = .ok (.iload_n 3, 1) := dk_29 (dk_at dksX0_contains_0 6 rfl rfl)
theorem dX0_contains_7 : decode cX0_contains 7 = .ok (.invokevirtual 66, 3) := dk_182 0 66 (dk_at dksX0_contains_0 7 rfl rfl)
theorem dX0_contains_10 : decode cX0_contains 10 = .ok (.ifCond .eq 7, 3) := dk_153 0 7 (dk_at dksX0_contains_0 10 rfl rfl)
theorem dX0_contains_13 : decode cX0_contains 13 = .ok (.lconst 1, 1) := dk_10 (dk_at dksX0_contains_0 13 rfl rfl)
theorem dX0_contains_14 : decode cX0_contains 14 = .ok (.goto 4, 3) := dk_167 0 4 (dk_at dksX0_contains_0 14 rfl rfl)
theorem dX0_contains_17 : decode cX0_contains 17 = .ok (.lconst 0, 1) := dk_9 (dk_at dksX0_contains_0 17 rfl rfl)
theorem dX0_contains_18 : decode cX0_contains 18 = .ok (.lastore, 1) := dk_80 (dk_at dksX0_contains_0 18 rfl rfl)
theorem dX0_contains_19 : decode cX0_contains 19 = .ok (.goto 11, 3) := dk_167 0 11 (dk_at dksX0_contains_0 19 rfl rfl)
theorem dX0_contains_22 : decode cX0_contains 22 = .ok (.astore 5, 2) := dk_58 5 (dk_at dksX0_contains_0 22 rfl rfl)
theorem dX0_contains_24 : decode cX0_contains 24 = .ok (.iconst 1, 1) := dk_4 (dk_at dksX0_contains_1 0 rfl rfl)
theorem dX0_contains_25 : decode cX0_contains 25 = .ok (.ireturn, 1) := dk_172 (dk_at dksX0_contains_1 1 rfl rfl)
theorem dX0_contains_26 : decode cX0_contains 26 = .ok (.astore 5, 2) := dk_58 5 (dk_at dksX0_contains_1 2 rfl rfl)
theorem dX0_contains_28 : decode cX0_contains 28 = .ok (.iconst 2, 1) := dk_5 (dk_at dksX0_contains_1 4 rfl rfl)
theorem dX0_contains_29 : decode cX0_contains 29 = .ok (.ireturn, 1) := dk_172 (dk_at dksX0_contains_1 5 rfl rfl)
theorem dX0_contains_30 : decode cX0_contains 30 = .ok (.iconst 0, 1) := dk_3 (dk_at dksX0_contains_1 6 rfl rfl)
theorem dX0_contains_31 : decode cX0_contains 31 = .ok (.ireturn, 1) := dk_172 (dk_at dksX0_contains_1 7 rfl rfl)
abbrev cX0_area : ByteArray := method_18_code
def yX0_area : MethodName := ⟨RX0, "area", "(LPolygonBoard;I[J)I"⟩
def dkwX0_area_0 : List UInt8 := [44, 3, 42, 27, 182, 0, 70, 133, 80, 167, 0, 6, 78, 4, 172, 3, 172]
abbrev dktX0_area_0 : List UInt8 := dkwX0_area_0 ++ []
theorem dksX0_area_0 : cX0_area.data.toList.drop 0 = dktX0_area_0 := by decide +kernel
theorem dX0_area_0 : decode cX0_area 0 = .ok (.aload_n 2, 1) := dk_44 (dk_at dksX0_area_0 0 rfl rfl)
theorem dX0_area_1 : decode cX0_area 1 = .ok (.iconst 0, 1) := dk_3 (dk_at dksX0_area_0 1 rfl rfl)
theorem dX0_area_2 : decode cX0_area 2 = .ok (.aload_n 0, 1) := dk_42 (dk_at dksX0_area_0 2 rfl rfl)
theorem dX0_area_3 : decode cX0_area 3 = .ok (.iload_n 1, 1) := dk_27 (dk_at dksX0_area_0 3 rfl rfl)
theorem dX0_area_4 : decode cX0_area 4 = .ok (.invokevirtual 70, 3) := dk_182 0 70 (dk_at dksX0_area_0 4 rfl rfl)
theorem dX0_area_7 : decode cX0_area 7 = .ok (.i2l, 1) := dk_133 (dk_at dksX0_area_0 7 rfl rfl)
theorem dX0_area_8 : decode cX0_area 8 = .ok (.lastore, 1) := dk_80 (dk_at dksX0_area_0 8 rfl rfl)
theorem dX0_area_9 : decode cX0_area 9 = .ok (.goto 6, 3) := dk_167 0 6 (dk_at dksX0_area_0 9 rfl rfl)
theorem dX0_area_12 : decode cX0_area 12 = .ok (.astore_n 3, 1) := dk_78 (dk_at dksX0_area_0 12 rfl rfl)
theorem dX0_area_13 : decode cX0_area 13 = .ok (.iconst 1, 1) := dk_4 (dk_at dksX0_area_0 13 rfl rfl)
theorem dX0_area_14 : decode cX0_area 14 = .ok (.ireturn, 1) := dk_172 (dk_at dksX0_area_0 14 rfl rfl)
theorem dX0_area_15 : decode cX0_area 15 = .ok (.iconst 0, 1) := dk_3 (dk_at dksX0_area_0 15 rfl rfl)
theorem dX0_area_16 : decode cX0_area 16 = .ok (.ireturn, 1) := dk_172 (dk_at dksX0_area_0 16 rfl rfl)
abbrev cX0_areaByCells : ByteArray := method_19_code
def yX0_areaByCells : MethodName := ⟨RX0, "areaByCells", "(LPolygonBoard;I[J)I"⟩
def dkwX0_areaByCells_0 : List UInt8 := [44, 3, 42, 27, 182, 0, 73, 133, 80, 167, 0, 6, 78, 4, 172, 3, 172]
abbrev dktX0_areaByCells_0 : List UInt8 := dkwX0_areaByCells_0 ++ []
theorem dksX0_areaByCells_0 : cX0_areaByCells.data.toList.drop 0 = dktX0_areaByCells_0 := by decide +kernel
theorem dX0_areaByCells_0 : decode cX0_areaByCells 0 = .ok (.aload_n 2, 1) := dk_44 (dk_at dksX0_areaByCells_0 0 rfl rfl)
theorem dX0_areaByCells_1 : decode cX0_areaByCells 1 = .ok (.iconst 0, 1) := dk_3 (dk_at dksX0_areaByCells_0 1 rfl rfl)
theorem dX0_areaByCells_2 : decode cX0_areaByCells 2 = .ok (.aload_n 0, 1) := dk_42 (dk_at dksX0_areaByCells_0 2 rfl rfl)
theorem dX0_areaByCells_3 : decode cX0_areaByCells 3 = .ok (.iload_n 1, 1) := dk_27 (dk_at dksX0_areaByCells_0 3 rfl rfl)
theorem dX0_areaByCells_4 : decode cX0_areaByCells 4 = .ok (.invokevirtual 73, 3) := dk_182 0 73 (dk_at dksX0_areaByCells_0 4 rfl rfl)
theorem dX0_areaByCells_7 : decode cX0_areaByCells 7 = .ok (.i2l, 1) := dk_133 (dk_at dksX0_areaByCells_0 7 rfl rfl)
theorem dX0_areaByCells_8 : decode cX0_areaByCells 8 = .ok (.lastore, 1) := dk_80 (dk_at dksX0_areaByCells_0 8 rfl rfl)
theorem dX0_areaByCells_9 : decode cX0_areaByCells 9 = .ok (.goto 6, 3) := dk_167 0 6 (dk_at dksX0_areaByCells_0 9 rfl rfl)
theorem dX0_areaByCells_12 : decode cX0_areaByCells 12 = .ok (.astore_n 3, 1) := dk_78 (dk_at dksX0_areaByCells_0 12 rfl rfl)
theorem dX0_areaByCells_13 : decode cX0_areaByCells 13 = .ok (.iconst 1, 1) := dk_4 (dk_at dksX0_areaByCells_0 13 rfl rfl)
theorem dX0_areaByCells_14 : decode cX0_areaByCells 14 = .ok (.ireturn, 1) := dk_172 (dk_at dksX0_areaByCells_0 14 rfl rfl)
theorem dX0_areaByCells_15 : decode cX0_areaByCells 15 = .ok (.iconst 0, 1) := dk_3 (dk_at dksX0_areaByCells_0 15 rfl rfl)
theorem dX0_areaByCells_16 : decode cX0_areaByCells 16 = .ok (.ireturn, 1) := dk_172 (dk_at dksX0_areaByCells_0 16 rfl rfl)
abbrev cX0_perimeter : ByteArray := method_20_code
def yX0_perimeter : MethodName := ⟨RX0, "perimeter", "(LPolygonBoard;I[J)I"⟩
def dkwX0_perimeter_0 : List UInt8 := [44, 3, 42, 27, 182, 0, 76, 133, 80, 167, 0, 6, 78, 4, 172, 3, 172]
abbrev dktX0_perimeter_0 : List UInt8 := dkwX0_perimeter_0 ++ []
theorem dksX0_perimeter_0 : cX0_perimeter.data.toList.drop 0 = dktX0_perimeter_0 := by decide +kernel
theorem dX0_perimeter_0 : decode cX0_perimeter 0 = .ok (.aload_n 2, 1) := dk_44 (dk_at dksX0_perimeter_0 0 rfl rfl)
theorem dX0_perimeter_1 : decode cX0_perimeter 1 = .ok (.iconst 0, 1) := dk_3 (dk_at dksX0_perimeter_0 1 rfl rfl)
theorem dX0_perimeter_2 : decode cX0_perimeter 2 = .ok (.aload_n 0, 1) := dk_42 (dk_at dksX0_perimeter_0 2 rfl rfl)
theorem dX0_perimeter_3 : decode cX0_perimeter 3 = .ok (.iload_n 1, 1) := dk_27 (dk_at dksX0_perimeter_0 3 rfl rfl)
theorem dX0_perimeter_4 : decode cX0_perimeter 4 = .ok (.invokevirtual 76, 3) := dk_182 0 76 (dk_at dksX0_perimeter_0 4 rfl rfl)
theorem dX0_perimeter_7 : decode cX0_perimeter 7 = .ok (.i2l, 1) := dk_133 (dk_at dksX0_perimeter_0 7 rfl rfl)
theorem dX0_perimeter_8 : decode cX0_perimeter 8 = .ok (.lastore, 1) := dk_80 (dk_at dksX0_perimeter_0 8 rfl rfl)
theorem dX0_perimeter_9 : decode cX0_perimeter 9 = .ok (.goto 6, 3) := dk_167 0 6 (dk_at dksX0_perimeter_0 9 rfl rfl)
theorem dX0_perimeter_12 : decode cX0_perimeter 12 = .ok (.astore_n 3, 1) := dk_78 (dk_at dksX0_perimeter_0 12 rfl rfl)
theorem dX0_perimeter_13 : decode cX0_perimeter 13 = .ok (.iconst 1, 1) := dk_4 (dk_at dksX0_perimeter_0 13 rfl rfl)
theorem dX0_perimeter_14 : decode cX0_perimeter 14 = .ok (.ireturn, 1) := dk_172 (dk_at dksX0_perimeter_0 14 rfl rfl)
theorem dX0_perimeter_15 : decode cX0_perimeter 15 = .ok (.iconst 0, 1) := dk_3 (dk_at dksX0_perimeter_0 15 rfl rfl)
theorem dX0_perimeter_16 : decode cX0_perimeter 16 = .ok (.ireturn, 1) := dk_172 (dk_at dksX0_perimeter_0 16 rfl rfl)
abbrev cX0_perimeterByCells : ByteArray := method_21_code
def yX0_perimeterByCells : MethodName := ⟨RX0, "perimeterByCells", "(LPolygonBoard;I[J)I"⟩
def dkwX0_perimeterByCells_0 : List UInt8 := [44, 3, 42, 27, 182, 0, 79, 133, 80, 167, 0, 6, 78, 4, 172, 3, 172]
abbrev dktX0_perimeterByCells_0 : List UInt8 := dkwX0_perimeterByCells_0 ++ []
theorem dksX0_perimeterByCells_0 : cX0_perimeterByCells.data.toList.drop 0 = dktX0_perimeterByCells_0 := by decide +kernel
theorem dX0_perimeterByCells_0 : decode cX0_perimeterByCells 0 = .ok (.aload_n 2, 1) := dk_44 (dk_at dksX0_perimeterByCells_0 0 rfl rfl)
theorem dX0_perimeterByCells_1 : decode cX0_perimeterByCells 1 = .ok (.iconst 0, 1) := dk_3 (dk_at dksX0_perimeterByCells_0 1 rfl rfl)
theorem dX0_perimeterByCells_2 : decode cX0_perimeterByCells 2 = .ok (.aload_n 0, 1) := dk_42 (dk_at dksX0_perimeterByCells_0 2 rfl rfl)
theorem dX0_perimeterByCells_3 : decode cX0_perimeterByCells 3 = .ok (.iload_n 1, 1) := dk_27 (dk_at dksX0_perimeterByCells_0 3 rfl rfl)
theorem dX0_perimeterByCells_4 : decode cX0_perimeterByCells 4 = .ok (.invokevirtual 79, 3) := dk_182 0 79 (dk_at dksX0_perimeterByCells_0 4 rfl rfl)
theorem dX0_perimeterByCells_7 : decode cX0_perimeterByCells 7 = .ok (.i2l, 1) := dk_133 (dk_at dksX0_perimeterByCells_0 7 rfl rfl)
theorem dX0_perimeterByCells_8 : decode cX0_perimeterByCells 8 = .ok (.lastore, 1) := dk_80 (dk_at dksX0_perimeterByCells_0 8 rfl rfl)
theorem dX0_perimeterByCells_9 : decode cX0_perimeterByCells 9 = .ok (.goto 6, 3) := dk_167 0 6 (dk_at dksX0_perimeterByCells_0 9 rfl rfl)
theorem dX0_perimeterByCells_12 : decode cX0_perimeterByCells 12 = .ok (.astore_n 3, 1) := dk_78 (dk_at dksX0_perimeterByCells_0 12 rfl rfl)
theorem dX0_perimeterByCells_13 : decode cX0_perimeterByCells 13 = .ok (.iconst 1, 1) := dk_4 (dk_at dksX0_perimeterByCells_0 13 rfl rfl)
theorem dX0_perimeterByCells_14 : decode cX0_perimeterByCells 14 = .ok (.ireturn, 1) := dk_172 (dk_at dksX0_perimeterByCells_0 14 rfl rfl)
theorem dX0_perimeterByCells_15 : decode cX0_perimeterByCells 15 = .ok (.iconst 0, 1) := dk_3 (dk_at dksX0_perimeterByCells_0 15 rfl rfl)
theorem dX0_perimeterByCells_16 : decode cX0_perimeterByCells 16 = .ok (.ireturn, 1) := dk_172 (dk_at dksX0_perimeterByCells_0 16 rfl rfl)
abbrev cX0_bandCount : ByteArray := method_22_code
def yX0_bandCount : MethodName := ⟨RX0, "bandCount", "(LPolygonBoard;I[J)I"⟩
def dkwX0_bandCount_0 : List UInt8 := [44, 3, 42, 27, 182, 0, 82, 133, 80, 167, 0, 6, 78, 4, 172, 3, 172]
abbrev dktX0_bandCount_0 : List UInt8 := dkwX0_bandCount_0 ++ []
theorem dksX0_bandCount_0 : cX0_bandCount.data.toList.drop 0 = dktX0_bandCount_0 := by decide +kernel
theorem dX0_bandCount_0 : decode cX0_bandCount 0 = .ok (.aload_n 2, 1) := dk_44 (dk_at dksX0_bandCount_0 0 rfl rfl)
theorem dX0_bandCount_1 : decode cX0_bandCount 1 = .ok (.iconst 0, 1) := dk_3 (dk_at dksX0_bandCount_0 1 rfl rfl)
theorem dX0_bandCount_2 : decode cX0_bandCount 2 = .ok (.aload_n 0, 1) := dk_42 (dk_at dksX0_bandCount_0 2 rfl rfl)
theorem dX0_bandCount_3 : decode cX0_bandCount 3 = .ok (.iload_n 1, 1) := dk_27 (dk_at dksX0_bandCount_0 3 rfl rfl)
theorem dX0_bandCount_4 : decode cX0_bandCount 4 = .ok (.invokevirtual 82, 3) := dk_182 0 82 (dk_at dksX0_bandCount_0 4 rfl rfl)
theorem dX0_bandCount_7 : decode cX0_bandCount 7 = .ok (.i2l, 1) := dk_133 (dk_at dksX0_bandCount_0 7 rfl rfl)
theorem dX0_bandCount_8 : decode cX0_bandCount 8 = .ok (.lastore, 1) := dk_80 (dk_at dksX0_bandCount_0 8 rfl rfl)
theorem dX0_bandCount_9 : decode cX0_bandCount 9 = .ok (.goto 6, 3) := dk_167 0 6 (dk_at dksX0_bandCount_0 9 rfl rfl)
theorem dX0_bandCount_12 : decode cX0_bandCount 12 = .ok (.astore_n 3, 1) := dk_78 (dk_at dksX0_bandCount_0 12 rfl rfl)
theorem dX0_bandCount_13 : decode cX0_bandCount 13 = .ok (.iconst 1, 1) := dk_4 (dk_at dksX0_bandCount_0 13 rfl rfl)
theorem dX0_bandCount_14 : decode cX0_bandCount 14 = .ok (.ireturn, 1) := dk_172 (dk_at dksX0_bandCount_0 14 rfl rfl)
theorem dX0_bandCount_15 : decode cX0_bandCount 15 = .ok (.iconst 0, 1) := dk_3 (dk_at dksX0_bandCount_0 15 rfl rfl)
theorem dX0_bandCount_16 : decode cX0_bandCount 16 = .ok (.ireturn, 1) := dk_172 (dk_at dksX0_bandCount_0 16 rfl rfl)
abbrev cX0_rectangleCount : ByteArray := method_23_code
def yX0_rectangleCount : MethodName := ⟨RX0, "rectangleCount", "(LPolygonBoard;I[J)I"⟩
def dkwX0_rectangleCount_0 : List UInt8 := [44, 3, 42, 27, 182, 0, 85, 133, 80, 167, 0, 6, 78, 4, 172, 3, 172]
abbrev dktX0_rectangleCount_0 : List UInt8 := dkwX0_rectangleCount_0 ++ []
theorem dksX0_rectangleCount_0 : cX0_rectangleCount.data.toList.drop 0 = dktX0_rectangleCount_0 := by decide +kernel
theorem dX0_rectangleCount_0 : decode cX0_rectangleCount 0 = .ok (.aload_n 2, 1) := dk_44 (dk_at dksX0_rectangleCount_0 0 rfl rfl)
theorem dX0_rectangleCount_1 : decode cX0_rectangleCount 1 = .ok (.iconst 0, 1) := dk_3 (dk_at dksX0_rectangleCount_0 1 rfl rfl)
theorem dX0_rectangleCount_2 : decode cX0_rectangleCount 2 = .ok (.aload_n 0, 1) := dk_42 (dk_at dksX0_rectangleCount_0 2 rfl rfl)
theorem dX0_rectangleCount_3 : decode cX0_rectangleCount 3 = .ok (.iload_n 1, 1) := dk_27 (dk_at dksX0_rectangleCount_0 3 rfl rfl)
theorem dX0_rectangleCount_4 : decode cX0_rectangleCount 4 = .ok (.invokevirtual 85, 3) := dk_182 0 85 (dk_at dksX0_rectangleCount_0 4 rfl rfl)
theorem dX0_rectangleCount_7 : decode cX0_rectangleCount 7 = .ok (.i2l, 1) := dk_133 (dk_at dksX0_rectangleCount_0 7 rfl rfl)
theorem dX0_rectangleCount_8 : decode cX0_rectangleCount 8 = .ok (.lastore, 1) := dk_80 (dk_at dksX0_rectangleCount_0 8 rfl rfl)
theorem dX0_rectangleCount_9 : decode cX0_rectangleCount 9 = .ok (.goto 6, 3) := dk_167 0 6 (dk_at dksX0_rectangleCount_0 9 rfl rfl)
theorem dX0_rectangleCount_12 : decode cX0_rectangleCount 12 = .ok (.astore_n 3, 1) := dk_78 (dk_at dksX0_rectangleCount_0 12 rfl rfl)
theorem dX0_rectangleCount_13 : decode cX0_rectangleCount 13 = .ok (.iconst 1, 1) := dk_4 (dk_at dksX0_rectangleCount_0 13 rfl rfl)
theorem dX0_rectangleCount_14 : decode cX0_rectangleCount 14 = .ok (.ireturn, 1) := dk_172 (dk_at dksX0_rectangleCount_0 14 rfl rfl)
theorem dX0_rectangleCount_15 : decode cX0_rectangleCount 15 = .ok (.iconst 0, 1) := dk_3 (dk_at dksX0_rectangleCount_0 15 rfl rfl)
theorem dX0_rectangleCount_16 : decode cX0_rectangleCount 16 = .ok (.ireturn, 1) := dk_172 (dk_at dksX0_rectangleCount_0 16 rfl rfl)
abbrev cX0_partCount : ByteArray := method_24_code
def yX0_partCount : MethodName := ⟨RX0, "partCount", "(LPolygonBoard;I[J)I"⟩
def dkwX0_partCount_0 : List UInt8 := [44, 3, 42, 27, 182, 0, 88, 133, 80, 167, 0, 6, 78, 4, 172, 3, 172]
abbrev dktX0_partCount_0 : List UInt8 := dkwX0_partCount_0 ++ []
theorem dksX0_partCount_0 : cX0_partCount.data.toList.drop 0 = dktX0_partCount_0 := by decide +kernel
theorem dX0_partCount_0 : decode cX0_partCount 0 = .ok (.aload_n 2, 1) := dk_44 (dk_at dksX0_partCount_0 0 rfl rfl)
theorem dX0_partCount_1 : decode cX0_partCount 1 = .ok (.iconst 0, 1) := dk_3 (dk_at dksX0_partCount_0 1 rfl rfl)
theorem dX0_partCount_2 : decode cX0_partCount 2 = .ok (.aload_n 0, 1) := dk_42 (dk_at dksX0_partCount_0 2 rfl rfl)
theorem dX0_partCount_3 : decode cX0_partCount 3 = .ok (.iload_n 1, 1) := dk_27 (dk_at dksX0_partCount_0 3 rfl rfl)
theorem dX0_partCount_4 : decode cX0_partCount 4 = .ok (.invokevirtual 88, 3) := dk_182 0 88 (dk_at dksX0_partCount_0 4 rfl rfl)
theorem dX0_partCount_7 : decode cX0_partCount 7 = .ok (.i2l, 1) := dk_133 (dk_at dksX0_partCount_0 7 rfl rfl)
theorem dX0_partCount_8 : decode cX0_partCount 8 = .ok (.lastore, 1) := dk_80 (dk_at dksX0_partCount_0 8 rfl rfl)
theorem dX0_partCount_9 : decode cX0_partCount 9 = .ok (.goto 6, 3) := dk_167 0 6 (dk_at dksX0_partCount_0 9 rfl rfl)
theorem dX0_partCount_12 : decode cX0_partCount 12 = .ok (.astore_n 3, 1) := dk_78 (dk_at dksX0_partCount_0 12 rfl rfl)
theorem dX0_partCount_13 : decode cX0_partCount 13 = .ok (.iconst 1, 1) := dk_4 (dk_at dksX0_partCount_0 13 rfl rfl)
theorem dX0_partCount_14 : decode cX0_partCount 14 = .ok (.ireturn, 1) := dk_172 (dk_at dksX0_partCount_0 14 rfl rfl)
theorem dX0_partCount_15 : decode cX0_partCount 15 = .ok (.iconst 0, 1) := dk_3 (dk_at dksX0_partCount_0 15 rfl rfl)
theorem dX0_partCount_16 : decode cX0_partCount 16 = .ok (.ireturn, 1) := dk_172 (dk_at dksX0_partCount_0 16 rfl rfl)
abbrev cX0_partCountByCells : ByteArray := method_25_code
def yX0_partCountByCells : MethodName := ⟨RX0, "partCountByCells", "(LPolygonBoard;I[J)I"⟩
def dkwX0_partCountByCells_0 : List UInt8 := [44, 3, 42, 27, 182, 0, 91, 133, 80, 167, 0, 6, 78, 4, 172, 3, 172]
abbrev dktX0_partCountByCells_0 : List UInt8 := dkwX0_partCountByCells_0 ++ []
theorem dksX0_partCountByCells_0 : cX0_partCountByCells.data.toList.drop 0 = dktX0_partCountByCells_0 := by decide +kernel
theorem dX0_partCountByCells_0 : decode cX0_partCountByCells 0 = .ok (.aload_n 2, 1) := dk_44 (dk_at dksX0_partCountByCells_0 0 rfl rfl)
theorem dX0_partCountByCells_1 : decode cX0_partCountByCells 1 = .ok (.iconst 0, 1) := dk_3 (dk_at dksX0_partCountByCells_0 1 rfl rfl)
theorem dX0_partCountByCells_2 : decode cX0_partCountByCells 2 = .ok (.aload_n 0, 1) := dk_42 (dk_at dksX0_partCountByCells_0 2 rfl rfl)
theorem dX0_partCountByCells_3 : decode cX0_partCountByCells 3 = .ok (.iload_n 1, 1) := dk_27 (dk_at dksX0_partCountByCells_0 3 rfl rfl)
theorem dX0_partCountByCells_4 : decode cX0_partCountByCells 4 = .ok (.invokevirtual 91, 3) := dk_182 0 91 (dk_at dksX0_partCountByCells_0 4 rfl rfl)
theorem dX0_partCountByCells_7 : decode cX0_partCountByCells 7 = .ok (.i2l, 1) := dk_133 (dk_at dksX0_partCountByCells_0 7 rfl rfl)
theorem dX0_partCountByCells_8 : decode cX0_partCountByCells 8 = .ok (.lastore, 1) := dk_80 (dk_at dksX0_partCountByCells_0 8 rfl rfl)
theorem dX0_partCountByCells_9 : decode cX0_partCountByCells 9 = .ok (.goto 6, 3) := dk_167 0 6 (dk_at dksX0_partCountByCells_0 9 rfl rfl)
theorem dX0_partCountByCells_12 : decode cX0_partCountByCells 12 = .ok (.astore_n 3, 1) := dk_78 (dk_at dksX0_partCountByCells_0 12 rfl rfl)
theorem dX0_partCountByCells_13 : decode cX0_partCountByCells 13 = .ok (.iconst 1, 1) := dk_4 (dk_at dksX0_partCountByCells_0 13 rfl rfl)
theorem dX0_partCountByCells_14 : decode cX0_partCountByCells 14 = .ok (.ireturn, 1) := dk_172 (dk_at dksX0_partCountByCells_0 14 rfl rfl)
theorem dX0_partCountByCells_15 : decode cX0_partCountByCells 15 = .ok (.iconst 0, 1) := dk_3 (dk_at dksX0_partCountByCells_0 15 rfl rfl)
theorem dX0_partCountByCells_16 : decode cX0_partCountByCells 16 = .ok (.ireturn, 1) := dk_172 (dk_at dksX0_partCountByCells_0 16 rfl rfl)
abbrev cX0_holeCount : ByteArray := method_26_code
def yX0_holeCount : MethodName := ⟨RX0, "holeCount", "(LPolygonBoard;I[J)I"⟩
def dkwX0_holeCount_0 : List UInt8 := [44, 3, 42, 27, 182, 0, 94, 133, 80, 167, 0, 6, 78, 4, 172, 3, 172]
abbrev dktX0_holeCount_0 : List UInt8 := dkwX0_holeCount_0 ++ []
theorem dksX0_holeCount_0 : cX0_holeCount.data.toList.drop 0 = dktX0_holeCount_0 := by decide +kernel
theorem dX0_holeCount_0 : decode cX0_holeCount 0 = .ok (.aload_n 2, 1) := dk_44 (dk_at dksX0_holeCount_0 0 rfl rfl)
theorem dX0_holeCount_1 : decode cX0_holeCount 1 = .ok (.iconst 0, 1) := dk_3 (dk_at dksX0_holeCount_0 1 rfl rfl)
theorem dX0_holeCount_2 : decode cX0_holeCount 2 = .ok (.aload_n 0, 1) := dk_42 (dk_at dksX0_holeCount_0 2 rfl rfl)
theorem dX0_holeCount_3 : decode cX0_holeCount 3 = .ok (.iload_n 1, 1) := dk_27 (dk_at dksX0_holeCount_0 3 rfl rfl)
theorem dX0_holeCount_4 : decode cX0_holeCount 4 = .ok (.invokevirtual 94, 3) := dk_182 0 94 (dk_at dksX0_holeCount_0 4 rfl rfl)
theorem dX0_holeCount_7 : decode cX0_holeCount 7 = .ok (.i2l, 1) := dk_133 (dk_at dksX0_holeCount_0 7 rfl rfl)
theorem dX0_holeCount_8 : decode cX0_holeCount 8 = .ok (.lastore, 1) := dk_80 (dk_at dksX0_holeCount_0 8 rfl rfl)
theorem dX0_holeCount_9 : decode cX0_holeCount 9 = .ok (.goto 6, 3) := dk_167 0 6 (dk_at dksX0_holeCount_0 9 rfl rfl)
theorem dX0_holeCount_12 : decode cX0_holeCount 12 = .ok (.astore_n 3, 1) := dk_78 (dk_at dksX0_holeCount_0 12 rfl rfl)
theorem dX0_holeCount_13 : decode cX0_holeCount 13 = .ok (.iconst 1, 1) := dk_4 (dk_at dksX0_holeCount_0 13 rfl rfl)
theorem dX0_holeCount_14 : decode cX0_holeCount 14 = .ok (.ireturn, 1) := dk_172 (dk_at dksX0_holeCount_0 14 rfl rfl)
theorem dX0_holeCount_15 : decode cX0_holeCount 15 = .ok (.iconst 0, 1) := dk_3 (dk_at dksX0_holeCount_0 15 rfl rfl)
theorem dX0_holeCount_16 : decode cX0_holeCount 16 = .ok (.ireturn, 1) := dk_172 (dk_at dksX0_holeCount_0 16 rfl rfl)
abbrev cX0_holeCountByCells : ByteArray := method_27_code
def yX0_holeCountByCells : MethodName := ⟨RX0, "holeCountByCells", "(LPolygonBoard;I[J)I"⟩
def dkwX0_holeCountByCells_0 : List UInt8 := [44, 3, 42, 27, 182, 0, 97, 133, 80, 167, 0, 6, 78, 4, 172, 3, 172]
abbrev dktX0_holeCountByCells_0 : List UInt8 := dkwX0_holeCountByCells_0 ++ []
theorem dksX0_holeCountByCells_0 : cX0_holeCountByCells.data.toList.drop 0 = dktX0_holeCountByCells_0 := by decide +kernel
theorem dX0_holeCountByCells_0 : decode cX0_holeCountByCells 0 = .ok (.aload_n 2, 1) := dk_44 (dk_at dksX0_holeCountByCells_0 0 rfl rfl)
theorem dX0_holeCountByCells_1 : decode cX0_holeCountByCells 1 = .ok (.iconst 0, 1) := dk_3 (dk_at dksX0_holeCountByCells_0 1 rfl rfl)
theorem dX0_holeCountByCells_2 : decode cX0_holeCountByCells 2 = .ok (.aload_n 0, 1) := dk_42 (dk_at dksX0_holeCountByCells_0 2 rfl rfl)
theorem dX0_holeCountByCells_3 : decode cX0_holeCountByCells 3 = .ok (.iload_n 1, 1) := dk_27 (dk_at dksX0_holeCountByCells_0 3 rfl rfl)
theorem dX0_holeCountByCells_4 : decode cX0_holeCountByCells 4 = .ok (.invokevirtual 97, 3) := dk_182 0 97 (dk_at dksX0_holeCountByCells_0 4 rfl rfl)
theorem dX0_holeCountByCells_7 : decode cX0_holeCountByCells 7 = .ok (.i2l, 1) := dk_133 (dk_at dksX0_holeCountByCells_0 7 rfl rfl)
theorem dX0_holeCountByCells_8 : decode cX0_holeCountByCells 8 = .ok (.lastore, 1) := dk_80 (dk_at dksX0_holeCountByCells_0 8 rfl rfl)
theorem dX0_holeCountByCells_9 : decode cX0_holeCountByCells 9 = .ok (.goto 6, 3) := dk_167 0 6 (dk_at dksX0_holeCountByCells_0 9 rfl rfl)
theorem dX0_holeCountByCells_12 : decode cX0_holeCountByCells 12 = .ok (.astore_n 3, 1) := dk_78 (dk_at dksX0_holeCountByCells_0 12 rfl rfl)
theorem dX0_holeCountByCells_13 : decode cX0_holeCountByCells 13 = .ok (.iconst 1, 1) := dk_4 (dk_at dksX0_holeCountByCells_0 13 rfl rfl)
theorem dX0_holeCountByCells_14 : decode cX0_holeCountByCells 14 = .ok (.ireturn, 1) := dk_172 (dk_at dksX0_holeCountByCells_0 14 rfl rfl)
theorem dX0_holeCountByCells_15 : decode cX0_holeCountByCells 15 = .ok (.iconst 0, 1) := dk_3 (dk_at dksX0_holeCountByCells_0 15 rfl rfl)
theorem dX0_holeCountByCells_16 : decode cX0_holeCountByCells 16 = .ok (.ireturn, 1) := dk_172 (dk_at dksX0_holeCountByCells_0 16 rfl rfl)
abbrev cX0_isSame : ByteArray := method_28_code
def yX0_isSame : MethodName := ⟨RX0, "isSame", "(LPolygonBoard;II[J)I"⟩
def dkwX0_isSame_1 : List UInt8 := [3, 172]
abbrev dktX0_isSame_1 : List UInt8 := dkwX0_isSame_1 ++ []
def dkwX0_isSame_0 : List UInt8 := [45, 3, 42, 27, 28, 182, 0, 100, 153, 0, 7, 10, 167, 0, 4, 9, 80, 167, 0, 7, 58, 4, 4, 172]
abbrev dktX0_isSame_0 : List UInt8 := dkwX0_isSame_0 ++ dktX0_isSame_1
theorem dksX0_isSame_0 : cX0_isSame.data.toList.drop 0 = dktX0_isSame_0 := by decide +kernel
theorem dksX0_isSame_1 : cX0_isSame.data.toList.drop 24 = dktX0_isSame_1 := dk_seg dksX0_isSame_0 24 rfl rfl
theorem dX0_isSame_0 : decode cX0_isSame 0 = .ok (.aload_n 3, 1) := dk_45 (dk_at dksX0_isSame_0 0 rfl rfl)
theorem dX0_isSame_1 : decode cX0_isSame 1 = .ok (.iconst 0, 1) := dk_3 (dk_at dksX0_isSame_0 1 rfl rfl)
theorem dX0_isSame_2 : decode cX0_isSame 2 = .ok (.aload_n 0, 1) := dk_42 (dk_at dksX0_isSame_0 2 rfl rfl)
theorem dX0_isSame_3 : decode cX0_isSame 3 = .ok (.iload_n 1, 1) := dk_27 (dk_at dksX0_isSame_0 3 rfl rfl)
theorem dX0_isSame_4 : decode cX0_isSame 4 = .ok (.iload_n 2, 1) := dk_28 (dk_at dksX0_isSame_0 4 rfl rfl)
theorem dX0_isSame_5 : decode cX0_isSame 5 = .ok (.invokevirtual 100, 3) := dk_182 0 100 (dk_at dksX0_isSame_0 5 rfl rfl)
theorem dX0_isSame_8 : decode cX0_isSame 8 = .ok (.ifCond .eq 7, 3) := dk_153 0 7 (dk_at dksX0_isSame_0 8 rfl rfl)
theorem dX0_isSame_11 : decode cX0_isSame 11 = .ok (.lconst 1, 1) := dk_10 (dk_at dksX0_isSame_0 11 rfl rfl)
theorem dX0_isSame_12 : decode cX0_isSame 12 = .ok (.goto 4, 3) := dk_167 0 4 (dk_at dksX0_isSame_0 12 rfl rfl)
theorem dX0_isSame_15 : decode cX0_isSame 15 = .ok (.lconst 0, 1) := dk_9 (dk_at dksX0_isSame_0 15 rfl rfl)
theorem dX0_isSame_16 : decode cX0_isSame 16 = .ok (.lastore, 1) := dk_80 (dk_at dksX0_isSame_0 16 rfl rfl)
theorem dX0_isSame_17 : decode cX0_isSame 17 = .ok (.goto 7, 3) := dk_167 0 7 (dk_at dksX0_isSame_0 17 rfl rfl)
theorem dX0_isSame_20 : decode cX0_isSame 20 = .ok (.astore 4, 2) := dk_58 4 (dk_at dksX0_isSame_0 20 rfl rfl)
theorem dX0_isSame_22 : decode cX0_isSame 22 = .ok (.iconst 1, 1) := dk_4 (dk_at dksX0_isSame_0 22 rfl rfl)
theorem dX0_isSame_23 : decode cX0_isSame 23 = .ok (.ireturn, 1) := dk_172 (dk_at dksX0_isSame_0 23 rfl rfl)
theorem dX0_isSame_24 : decode cX0_isSame 24 = .ok (.iconst 0, 1) := dk_3 (dk_at dksX0_isSame_1 0 rfl rfl)
theorem dX0_isSame_25 : decode cX0_isSame 25 = .ok (.ireturn, 1) := dk_172 (dk_at dksX0_isSame_1 1 rfl rfl)
abbrev cX0_covers : ByteArray := method_29_code
def yX0_covers : MethodName := ⟨RX0, "covers", "(LPolygonBoard;II[J)I"⟩
def dkwX0_covers_1 : List UInt8 := [3, 172]
abbrev dktX0_covers_1 : List UInt8 := dkwX0_covers_1 ++ []
def dkwX0_covers_0 : List UInt8 := [45, 3, 42, 27, 28, 182, 0, 104, 153, 0, 7, 10, 167, 0, 4, 9, 80, 167, 0, 7, 58, 4, 4, 172]
abbrev dktX0_covers_0 : List UInt8 := dkwX0_covers_0 ++ dktX0_covers_1
theorem dksX0_covers_0 : cX0_covers.data.toList.drop 0 = dktX0_covers_0 := by decide +kernel
theorem dksX0_covers_1 : cX0_covers.data.toList.drop 24 = dktX0_covers_1 := dk_seg dksX0_covers_0 24 rfl rfl
theorem dX0_covers_0 : decode cX0_covers 0 = .ok (.aload_n 3, 1) := dk_45 (dk_at dksX0_covers_0 0 rfl rfl)
theorem dX0_covers_1 : decode cX0_covers 1 = .ok (.iconst 0, 1) := dk_3 (dk_at dksX0_covers_0 1 rfl rfl)
theorem dX0_covers_2 : decode cX0_covers 2 = .ok (.aload_n 0, 1) := dk_42 (dk_at dksX0_covers_0 2 rfl rfl)
theorem dX0_covers_3 : decode cX0_covers 3 = .ok (.iload_n 1, 1) := dk_27 (dk_at dksX0_covers_0 3 rfl rfl)
theorem dX0_covers_4 : decode cX0_covers 4 = .ok (.iload_n 2, 1) := dk_28 (dk_at dksX0_covers_0 4 rfl rfl)
theorem dX0_covers_5 : decode cX0_covers 5 = .ok (.invokevirtual 104, 3) := dk_182 0 104 (dk_at dksX0_covers_0 5 rfl rfl)
theorem dX0_covers_8 : decode cX0_covers 8 = .ok (.ifCond .eq 7, 3) := dk_153 0 7 (dk_at dksX0_covers_0 8 rfl rfl)
theorem dX0_covers_11 : decode cX0_covers 11 = .ok (.lconst 1, 1) := dk_10 (dk_at dksX0_covers_0 11 rfl rfl)
theorem dX0_covers_12 : decode cX0_covers 12 = .ok (.goto 4, 3) := dk_167 0 4 (dk_at dksX0_covers_0 12 rfl rfl)
theorem dX0_covers_15 : decode cX0_covers 15 = .ok (.lconst 0, 1) := dk_9 (dk_at dksX0_covers_0 15 rfl rfl)
theorem dX0_covers_16 : decode cX0_covers 16 = .ok (.lastore, 1) := dk_80 (dk_at dksX0_covers_0 16 rfl rfl)
theorem dX0_covers_17 : decode cX0_covers 17 = .ok (.goto 7, 3) := dk_167 0 7 (dk_at dksX0_covers_0 17 rfl rfl)
theorem dX0_covers_20 : decode cX0_covers 20 = .ok (.astore 4, 2) := dk_58 4 (dk_at dksX0_covers_0 20 rfl rfl)
theorem dX0_covers_22 : decode cX0_covers 22 = .ok (.iconst 1, 1) := dk_4 (dk_at dksX0_covers_0 22 rfl rfl)
theorem dX0_covers_23 : decode cX0_covers 23 = .ok (.ireturn, 1) := dk_172 (dk_at dksX0_covers_0 23 rfl rfl)
theorem dX0_covers_24 : decode cX0_covers 24 = .ok (.iconst 0, 1) := dk_3 (dk_at dksX0_covers_1 0 rfl rfl)
theorem dX0_covers_25 : decode cX0_covers 25 = .ok (.ireturn, 1) := dk_172 (dk_at dksX0_covers_1 1 rfl rfl)
abbrev cX0_left : ByteArray := method_30_code
def yX0_left : MethodName := ⟨RX0, "left", "(LPolygonBoard;I[J)I"⟩
def dkwX0_left_0 : List UInt8 := [44, 3, 42, 27, 182, 0, 107, 133, 80, 167, 0, 9, 78, 4, 172, 78, 5, 172, 3, 172]
abbrev dktX0_left_0 : List UInt8 := dkwX0_left_0 ++ []
theorem dksX0_left_0 : cX0_left.data.toList.drop 0 = dktX0_left_0 := by decide +kernel
theorem dX0_left_0 : decode cX0_left 0 = .ok (.aload_n 2, 1) := dk_44 (dk_at dksX0_left_0 0 rfl rfl)
theorem dX0_left_1 : decode cX0_left 1 = .ok (.iconst 0, 1) := dk_3 (dk_at dksX0_left_0 1 rfl rfl)
theorem dX0_left_2 : decode cX0_left 2 = .ok (.aload_n 0, 1) := dk_42 (dk_at dksX0_left_0 2 rfl rfl)
theorem dX0_left_3 : decode cX0_left 3 = .ok (.iload_n 1, 1) := dk_27 (dk_at dksX0_left_0 3 rfl rfl)
theorem dX0_left_4 : decode cX0_left 4 = .ok (.invokevirtual 107, 3) := dk_182 0 107 (dk_at dksX0_left_0 4 rfl rfl)
theorem dX0_left_7 : decode cX0_left 7 = .ok (.i2l, 1) := dk_133 (dk_at dksX0_left_0 7 rfl rfl)
theorem dX0_left_8 : decode cX0_left 8 = .ok (.lastore, 1) := dk_80 (dk_at dksX0_left_0 8 rfl rfl)
theorem dX0_left_9 : decode cX0_left 9 = .ok (.goto 9, 3) := dk_167 0 9 (dk_at dksX0_left_0 9 rfl rfl)
theorem dX0_left_12 : decode cX0_left 12 = .ok (.astore_n 3, 1) := dk_78 (dk_at dksX0_left_0 12 rfl rfl)
theorem dX0_left_13 : decode cX0_left 13 = .ok (.iconst 1, 1) := dk_4 (dk_at dksX0_left_0 13 rfl rfl)
theorem dX0_left_14 : decode cX0_left 14 = .ok (.ireturn, 1) := dk_172 (dk_at dksX0_left_0 14 rfl rfl)
theorem dX0_left_15 : decode cX0_left 15 = .ok (.astore_n 3, 1) := dk_78 (dk_at dksX0_left_0 15 rfl rfl)
theorem dX0_left_16 : decode cX0_left 16 = .ok (.iconst 2, 1) := dk_5 (dk_at dksX0_left_0 16 rfl rfl)
theorem dX0_left_17 : decode cX0_left 17 = .ok (.ireturn, 1) := dk_172 (dk_at dksX0_left_0 17 rfl rfl)
theorem dX0_left_18 : decode cX0_left 18 = .ok (.iconst 0, 1) := dk_3 (dk_at dksX0_left_0 18 rfl rfl)
theorem dX0_left_19 : decode cX0_left 19 = .ok (.ireturn, 1) := dk_172 (dk_at dksX0_left_0 19 rfl rfl)
abbrev cX0_right : ByteArray := method_31_code
def yX0_right : MethodName := ⟨RX0, "right", "(LPolygonBoard;I[J)I"⟩
def dkwX0_right_0 : List UInt8 := [44, 3, 42, 27, 182, 0, 110, 133, 80, 167, 0, 9, 78, 4, 172, 78, 5, 172, 3, 172]
abbrev dktX0_right_0 : List UInt8 := dkwX0_right_0 ++ []
theorem dksX0_right_0 : cX0_right.data.toList.drop 0 = dktX0_right_0 := by decide +kernel
theorem dX0_right_0 : decode cX0_right 0 = .ok (.aload_n 2, 1) := dk_44 (dk_at dksX0_right_0 0 rfl rfl)
theorem dX0_right_1 : decode cX0_right 1 = .ok (.iconst 0, 1) := dk_3 (dk_at dksX0_right_0 1 rfl rfl)
theorem dX0_right_2 : decode cX0_right 2 = .ok (.aload_n 0, 1) := dk_42 (dk_at dksX0_right_0 2 rfl rfl)
theorem dX0_right_3 : decode cX0_right 3 = .ok (.iload_n 1, 1) := dk_27 (dk_at dksX0_right_0 3 rfl rfl)
theorem dX0_right_4 : decode cX0_right 4 = .ok (.invokevirtual 110, 3) := dk_182 0 110 (dk_at dksX0_right_0 4 rfl rfl)
theorem dX0_right_7 : decode cX0_right 7 = .ok (.i2l, 1) := dk_133 (dk_at dksX0_right_0 7 rfl rfl)
theorem dX0_right_8 : decode cX0_right 8 = .ok (.lastore, 1) := dk_80 (dk_at dksX0_right_0 8 rfl rfl)
theorem dX0_right_9 : decode cX0_right 9 = .ok (.goto 9, 3) := dk_167 0 9 (dk_at dksX0_right_0 9 rfl rfl)
theorem dX0_right_12 : decode cX0_right 12 = .ok (.astore_n 3, 1) := dk_78 (dk_at dksX0_right_0 12 rfl rfl)
theorem dX0_right_13 : decode cX0_right 13 = .ok (.iconst 1, 1) := dk_4 (dk_at dksX0_right_0 13 rfl rfl)
theorem dX0_right_14 : decode cX0_right 14 = .ok (.ireturn, 1) := dk_172 (dk_at dksX0_right_0 14 rfl rfl)
theorem dX0_right_15 : decode cX0_right 15 = .ok (.astore_n 3, 1) := dk_78 (dk_at dksX0_right_0 15 rfl rfl)
theorem dX0_right_16 : decode cX0_right 16 = .ok (.iconst 2, 1) := dk_5 (dk_at dksX0_right_0 16 rfl rfl)
theorem dX0_right_17 : decode cX0_right 17 = .ok (.ireturn, 1) := dk_172 (dk_at dksX0_right_0 17 rfl rfl)
theorem dX0_right_18 : decode cX0_right 18 = .ok (.iconst 0, 1) := dk_3 (dk_at dksX0_right_0 18 rfl rfl)
theorem dX0_right_19 : decode cX0_right 19 = .ok (.ireturn, 1) := dk_172 (dk_at dksX0_right_0 19 rfl rfl)
abbrev cX0_bottom : ByteArray := method_32_code
def yX0_bottom : MethodName := ⟨RX0, "bottom", "(LPolygonBoard;I[J)I"⟩
def dkwX0_bottom_0 : List UInt8 := [44, 3, 42, 27, 182, 0, 113, 133, 80, 167, 0, 9, 78, 4, 172, 78, 5, 172, 3, 172]
abbrev dktX0_bottom_0 : List UInt8 := dkwX0_bottom_0 ++ []
theorem dksX0_bottom_0 : cX0_bottom.data.toList.drop 0 = dktX0_bottom_0 := by decide +kernel
theorem dX0_bottom_0 : decode cX0_bottom 0 = .ok (.aload_n 2, 1) := dk_44 (dk_at dksX0_bottom_0 0 rfl rfl)
theorem dX0_bottom_1 : decode cX0_bottom 1 = .ok (.iconst 0, 1) := dk_3 (dk_at dksX0_bottom_0 1 rfl rfl)
theorem dX0_bottom_2 : decode cX0_bottom 2 = .ok (.aload_n 0, 1) := dk_42 (dk_at dksX0_bottom_0 2 rfl rfl)
theorem dX0_bottom_3 : decode cX0_bottom 3 = .ok (.iload_n 1, 1) := dk_27 (dk_at dksX0_bottom_0 3 rfl rfl)
theorem dX0_bottom_4 : decode cX0_bottom 4 = .ok (.invokevirtual 113, 3) := dk_182 0 113 (dk_at dksX0_bottom_0 4 rfl rfl)
theorem dX0_bottom_7 : decode cX0_bottom 7 = .ok (.i2l, 1) := dk_133 (dk_at dksX0_bottom_0 7 rfl rfl)
theorem dX0_bottom_8 : decode cX0_bottom 8 = .ok (.lastore, 1) := dk_80 (dk_at dksX0_bottom_0 8 rfl rfl)
theorem dX0_bottom_9 : decode cX0_bottom 9 = .ok (.goto 9, 3) := dk_167 0 9 (dk_at dksX0_bottom_0 9 rfl rfl)
theorem dX0_bottom_12 : decode cX0_bottom 12 = .ok (.astore_n 3, 1) := dk_78 (dk_at dksX0_bottom_0 12 rfl rfl)
theorem dX0_bottom_13 : decode cX0_bottom 13 = .ok (.iconst 1, 1) := dk_4 (dk_at dksX0_bottom_0 13 rfl rfl)
theorem dX0_bottom_14 : decode cX0_bottom 14 = .ok (.ireturn, 1) := dk_172 (dk_at dksX0_bottom_0 14 rfl rfl)
theorem dX0_bottom_15 : decode cX0_bottom 15 = .ok (.astore_n 3, 1) := dk_78 (dk_at dksX0_bottom_0 15 rfl rfl)
theorem dX0_bottom_16 : decode cX0_bottom 16 = .ok (.iconst 2, 1) := dk_5 (dk_at dksX0_bottom_0 16 rfl rfl)
theorem dX0_bottom_17 : decode cX0_bottom 17 = .ok (.ireturn, 1) := dk_172 (dk_at dksX0_bottom_0 17 rfl rfl)
theorem dX0_bottom_18 : decode cX0_bottom 18 = .ok (.iconst 0, 1) := dk_3 (dk_at dksX0_bottom_0 18 rfl rfl)
theorem dX0_bottom_19 : decode cX0_bottom 19 = .ok (.ireturn, 1) := dk_172 (dk_at dksX0_bottom_0 19 rfl rfl)
abbrev cX0_top : ByteArray := method_33_code
def yX0_top : MethodName := ⟨RX0, "top", "(LPolygonBoard;I[J)I"⟩
def dkwX0_top_0 : List UInt8 := [44, 3, 42, 27, 182, 0, 116, 133, 80, 167, 0, 9, 78, 4, 172, 78, 5, 172, 3, 172]
abbrev dktX0_top_0 : List UInt8 := dkwX0_top_0 ++ []
theorem dksX0_top_0 : cX0_top.data.toList.drop 0 = dktX0_top_0 := by decide +kernel
theorem dX0_top_0 : decode cX0_top 0 = .ok (.aload_n 2, 1) := dk_44 (dk_at dksX0_top_0 0 rfl rfl)
theorem dX0_top_1 : decode cX0_top 1 = .ok (.iconst 0, 1) := dk_3 (dk_at dksX0_top_0 1 rfl rfl)
theorem dX0_top_2 : decode cX0_top 2 = .ok (.aload_n 0, 1) := dk_42 (dk_at dksX0_top_0 2 rfl rfl)
theorem dX0_top_3 : decode cX0_top 3 = .ok (.iload_n 1, 1) := dk_27 (dk_at dksX0_top_0 3 rfl rfl)
theorem dX0_top_4 : decode cX0_top 4 = .ok (.invokevirtual 116, 3) := dk_182 0 116 (dk_at dksX0_top_0 4 rfl rfl)
theorem dX0_top_7 : decode cX0_top 7 = .ok (.i2l, 1) := dk_133 (dk_at dksX0_top_0 7 rfl rfl)
theorem dX0_top_8 : decode cX0_top 8 = .ok (.lastore, 1) := dk_80 (dk_at dksX0_top_0 8 rfl rfl)
theorem dX0_top_9 : decode cX0_top 9 = .ok (.goto 9, 3) := dk_167 0 9 (dk_at dksX0_top_0 9 rfl rfl)
theorem dX0_top_12 : decode cX0_top 12 = .ok (.astore_n 3, 1) := dk_78 (dk_at dksX0_top_0 12 rfl rfl)
theorem dX0_top_13 : decode cX0_top 13 = .ok (.iconst 1, 1) := dk_4 (dk_at dksX0_top_0 13 rfl rfl)
theorem dX0_top_14 : decode cX0_top 14 = .ok (.ireturn, 1) := dk_172 (dk_at dksX0_top_0 14 rfl rfl)
theorem dX0_top_15 : decode cX0_top 15 = .ok (.astore_n 3, 1) := dk_78 (dk_at dksX0_top_0 15 rfl rfl)
theorem dX0_top_16 : decode cX0_top 16 = .ok (.iconst 2, 1) := dk_5 (dk_at dksX0_top_0 16 rfl rfl)
theorem dX0_top_17 : decode cX0_top 17 = .ok (.ireturn, 1) := dk_172 (dk_at dksX0_top_0 17 rfl rfl)
theorem dX0_top_18 : decode cX0_top 18 = .ok (.iconst 0, 1) := dk_3 (dk_at dksX0_top_0 18 rfl rfl)
theorem dX0_top_19 : decode cX0_top 19 = .ok (.ireturn, 1) := dk_172 (dk_at dksX0_top_0 19 rfl rfl)
abbrev cX0_largestRectangle : ByteArray := method_34_code
def yX0_largestRectangle : MethodName := ⟨RX0, "largestRectangle", "(LPolygonBoard;I[J)I"⟩
def dkwX0_largestRectangle_0 : List UInt8 := [44, 3, 42, 27, 182, 0, 119, 133, 80, 167, 0, 6, 78, 4, 172, 3, 172]
abbrev dktX0_largestRectangle_0 : List UInt8 := dkwX0_largestRectangle_0 ++ []
theorem dksX0_largestRectangle_0 : cX0_largestRectangle.data.toList.drop 0 = dktX0_largestRectangle_0 := by decide +kernel
theorem dX0_largestRectangle_0 : decode cX0_largestRectangle 0 = .ok (.aload_n 2, 1) := dk_44 (dk_at dksX0_largestRectangle_0 0 rfl rfl)
theorem dX0_largestRectangle_1 : decode cX0_largestRectangle 1 = .ok (.iconst 0, 1) := dk_3 (dk_at dksX0_largestRectangle_0 1 rfl rfl)
theorem dX0_largestRectangle_2 : decode cX0_largestRectangle 2 = .ok (.aload_n 0, 1) := dk_42 (dk_at dksX0_largestRectangle_0 2 rfl rfl)
theorem dX0_largestRectangle_3 : decode cX0_largestRectangle 3 = .ok (.iload_n 1, 1) := dk_27 (dk_at dksX0_largestRectangle_0 3 rfl rfl)
theorem dX0_largestRectangle_4 : decode cX0_largestRectangle 4 = .ok (.invokevirtual 119, 3) := dk_182 0 119 (dk_at dksX0_largestRectangle_0 4 rfl rfl)
theorem dX0_largestRectangle_7 : decode cX0_largestRectangle 7 = .ok (.i2l, 1) := dk_133 (dk_at dksX0_largestRectangle_0 7 rfl rfl)
theorem dX0_largestRectangle_8 : decode cX0_largestRectangle 8 = .ok (.lastore, 1) := dk_80 (dk_at dksX0_largestRectangle_0 8 rfl rfl)
theorem dX0_largestRectangle_9 : decode cX0_largestRectangle 9 = .ok (.goto 6, 3) := dk_167 0 6 (dk_at dksX0_largestRectangle_0 9 rfl rfl)
theorem dX0_largestRectangle_12 : decode cX0_largestRectangle 12 = .ok (.astore_n 3, 1) := dk_78 (dk_at dksX0_largestRectangle_0 12 rfl rfl)
theorem dX0_largestRectangle_13 : decode cX0_largestRectangle 13 = .ok (.iconst 1, 1) := dk_4 (dk_at dksX0_largestRectangle_0 13 rfl rfl)
theorem dX0_largestRectangle_14 : decode cX0_largestRectangle 14 = .ok (.ireturn, 1) := dk_172 (dk_at dksX0_largestRectangle_0 14 rfl rfl)
theorem dX0_largestRectangle_15 : decode cX0_largestRectangle 15 = .ok (.iconst 0, 1) := dk_3 (dk_at dksX0_largestRectangle_0 15 rfl rfl)
theorem dX0_largestRectangle_16 : decode cX0_largestRectangle 16 = .ok (.ireturn, 1) := dk_172 (dk_at dksX0_largestRectangle_0 16 rfl rfl)
abbrev cX0_largestRectangleByCells : ByteArray := method_35_code
def yX0_largestRectangleByCells : MethodName := ⟨RX0, "largestRectangleByCells", "(LPolygonBoard;I[J)I"⟩
def dkwX0_largestRectangleByCells_0 : List UInt8 := [44, 3, 42, 27, 182, 0, 122, 133, 80, 167, 0, 6, 78, 4, 172, 3, 172]
abbrev dktX0_largestRectangleByCells_0 : List UInt8 := dkwX0_largestRectangleByCells_0 ++ []
theorem dksX0_largestRectangleByCells_0 : cX0_largestRectangleByCells.data.toList.drop 0 = dktX0_largestRectangleByCells_0 := by decide +kernel
theorem dX0_largestRectangleByCells_0 : decode cX0_largestRectangleByCells 0 = .ok (.aload_n 2, 1) := dk_44 (dk_at dksX0_largestRectangleByCells_0 0 rfl rfl)
theorem dX0_largestRectangleByCells_1 : decode cX0_largestRectangleByCells 1 = .ok (.iconst 0, 1) := dk_3 (dk_at dksX0_largestRectangleByCells_0 1 rfl rfl)
theorem dX0_largestRectangleByCells_2 : decode cX0_largestRectangleByCells 2 = .ok (.aload_n 0, 1) := dk_42 (dk_at dksX0_largestRectangleByCells_0 2 rfl rfl)
theorem dX0_largestRectangleByCells_3 : decode cX0_largestRectangleByCells 3 = .ok (.iload_n 1, 1) := dk_27 (dk_at dksX0_largestRectangleByCells_0 3 rfl rfl)
theorem dX0_largestRectangleByCells_4 : decode cX0_largestRectangleByCells 4 = .ok (.invokevirtual 122, 3) := dk_182 0 122 (dk_at dksX0_largestRectangleByCells_0 4 rfl rfl)
theorem dX0_largestRectangleByCells_7 : decode cX0_largestRectangleByCells 7 = .ok (.i2l, 1) := dk_133 (dk_at dksX0_largestRectangleByCells_0 7 rfl rfl)
theorem dX0_largestRectangleByCells_8 : decode cX0_largestRectangleByCells 8 = .ok (.lastore, 1) := dk_80 (dk_at dksX0_largestRectangleByCells_0 8 rfl rfl)
theorem dX0_largestRectangleByCells_9 : decode cX0_largestRectangleByCells 9 = .ok (.goto 6, 3) := dk_167 0 6 (dk_at dksX0_largestRectangleByCells_0 9 rfl rfl)
theorem dX0_largestRectangleByCells_12 : decode cX0_largestRectangleByCells 12 = .ok (.astore_n 3, 1) := dk_78 (dk_at dksX0_largestRectangleByCells_0 12 rfl rfl)
theorem dX0_largestRectangleByCells_13 : decode cX0_largestRectangleByCells 13 = .ok (.iconst 1, 1) := dk_4 (dk_at dksX0_largestRectangleByCells_0 13 rfl rfl)
theorem dX0_largestRectangleByCells_14 : decode cX0_largestRectangleByCells 14 = .ok (.ireturn, 1) := dk_172 (dk_at dksX0_largestRectangleByCells_0 14 rfl rfl)
theorem dX0_largestRectangleByCells_15 : decode cX0_largestRectangleByCells 15 = .ok (.iconst 0, 1) := dk_3 (dk_at dksX0_largestRectangleByCells_0 15 rfl rfl)
theorem dX0_largestRectangleByCells_16 : decode cX0_largestRectangleByCells 16 = .ok (.ireturn, 1) := dk_172 (dk_at dksX0_largestRectangleByCells_0 16 rfl rfl)
abbrev cX0_largestSquare : ByteArray := method_36_code
def yX0_largestSquare : MethodName := ⟨RX0, "largestSquare", "(LPolygonBoard;I[J)I"⟩
def dkwX0_largestSquare_0 : List UInt8 := [44, 3, 42, 27, 182, 0, 125, 133, 80, 167, 0, 6, 78, 4, 172, 3, 172]
abbrev dktX0_largestSquare_0 : List UInt8 := dkwX0_largestSquare_0 ++ []
theorem dksX0_largestSquare_0 : cX0_largestSquare.data.toList.drop 0 = dktX0_largestSquare_0 := by decide +kernel
theorem dX0_largestSquare_0 : decode cX0_largestSquare 0 = .ok (.aload_n 2, 1) := dk_44 (dk_at dksX0_largestSquare_0 0 rfl rfl)
theorem dX0_largestSquare_1 : decode cX0_largestSquare 1 = .ok (.iconst 0, 1) := dk_3 (dk_at dksX0_largestSquare_0 1 rfl rfl)
theorem dX0_largestSquare_2 : decode cX0_largestSquare 2 = .ok (.aload_n 0, 1) := dk_42 (dk_at dksX0_largestSquare_0 2 rfl rfl)
theorem dX0_largestSquare_3 : decode cX0_largestSquare 3 = .ok (.iload_n 1, 1) := dk_27 (dk_at dksX0_largestSquare_0 3 rfl rfl)
theorem dX0_largestSquare_4 : decode cX0_largestSquare 4 = .ok (.invokevirtual 125, 3) := dk_182 0 125 (dk_at dksX0_largestSquare_0 4 rfl rfl)
theorem dX0_largestSquare_7 : decode cX0_largestSquare 7 = .ok (.i2l, 1) := dk_133 (dk_at dksX0_largestSquare_0 7 rfl rfl)
theorem dX0_largestSquare_8 : decode cX0_largestSquare 8 = .ok (.lastore, 1) := dk_80 (dk_at dksX0_largestSquare_0 8 rfl rfl)
theorem dX0_largestSquare_9 : decode cX0_largestSquare 9 = .ok (.goto 6, 3) := dk_167 0 6 (dk_at dksX0_largestSquare_0 9 rfl rfl)
theorem dX0_largestSquare_12 : decode cX0_largestSquare 12 = .ok (.astore_n 3, 1) := dk_78 (dk_at dksX0_largestSquare_0 12 rfl rfl)
theorem dX0_largestSquare_13 : decode cX0_largestSquare 13 = .ok (.iconst 1, 1) := dk_4 (dk_at dksX0_largestSquare_0 13 rfl rfl)
theorem dX0_largestSquare_14 : decode cX0_largestSquare 14 = .ok (.ireturn, 1) := dk_172 (dk_at dksX0_largestSquare_0 14 rfl rfl)
theorem dX0_largestSquare_15 : decode cX0_largestSquare 15 = .ok (.iconst 0, 1) := dk_3 (dk_at dksX0_largestSquare_0 15 rfl rfl)
theorem dX0_largestSquare_16 : decode cX0_largestSquare 16 = .ok (.ireturn, 1) := dk_172 (dk_at dksX0_largestSquare_0 16 rfl rfl)
abbrev cX0_largestSquareByCells : ByteArray := method_37_code
def yX0_largestSquareByCells : MethodName := ⟨RX0, "largestSquareByCells", "(LPolygonBoard;I[J)I"⟩
def dkwX0_largestSquareByCells_0 : List UInt8 := [44, 3, 42, 27, 182, 0, 128, 133, 80, 167, 0, 6, 78, 4, 172, 3, 172]
abbrev dktX0_largestSquareByCells_0 : List UInt8 := dkwX0_largestSquareByCells_0 ++ []
theorem dksX0_largestSquareByCells_0 : cX0_largestSquareByCells.data.toList.drop 0 = dktX0_largestSquareByCells_0 := by decide +kernel
theorem dX0_largestSquareByCells_0 : decode cX0_largestSquareByCells 0 = .ok (.aload_n 2, 1) := dk_44 (dk_at dksX0_largestSquareByCells_0 0 rfl rfl)
theorem dX0_largestSquareByCells_1 : decode cX0_largestSquareByCells 1 = .ok (.iconst 0, 1) := dk_3 (dk_at dksX0_largestSquareByCells_0 1 rfl rfl)
theorem dX0_largestSquareByCells_2 : decode cX0_largestSquareByCells 2 = .ok (.aload_n 0, 1) := dk_42 (dk_at dksX0_largestSquareByCells_0 2 rfl rfl)
theorem dX0_largestSquareByCells_3 : decode cX0_largestSquareByCells 3 = .ok (.iload_n 1, 1) := dk_27 (dk_at dksX0_largestSquareByCells_0 3 rfl rfl)
theorem dX0_largestSquareByCells_4 : decode cX0_largestSquareByCells 4 = .ok (.invokevirtual 128, 3) := dk_182 0 128 (dk_at dksX0_largestSquareByCells_0 4 rfl rfl)
theorem dX0_largestSquareByCells_7 : decode cX0_largestSquareByCells 7 = .ok (.i2l, 1) := dk_133 (dk_at dksX0_largestSquareByCells_0 7 rfl rfl)
theorem dX0_largestSquareByCells_8 : decode cX0_largestSquareByCells 8 = .ok (.lastore, 1) := dk_80 (dk_at dksX0_largestSquareByCells_0 8 rfl rfl)
theorem dX0_largestSquareByCells_9 : decode cX0_largestSquareByCells 9 = .ok (.goto 6, 3) := dk_167 0 6 (dk_at dksX0_largestSquareByCells_0 9 rfl rfl)
theorem dX0_largestSquareByCells_12 : decode cX0_largestSquareByCells 12 = .ok (.astore_n 3, 1) := dk_78 (dk_at dksX0_largestSquareByCells_0 12 rfl rfl)
theorem dX0_largestSquareByCells_13 : decode cX0_largestSquareByCells 13 = .ok (.iconst 1, 1) := dk_4 (dk_at dksX0_largestSquareByCells_0 13 rfl rfl)
theorem dX0_largestSquareByCells_14 : decode cX0_largestSquareByCells 14 = .ok (.ireturn, 1) := dk_172 (dk_at dksX0_largestSquareByCells_0 14 rfl rfl)
theorem dX0_largestSquareByCells_15 : decode cX0_largestSquareByCells 15 = .ok (.iconst 0, 1) := dk_3 (dk_at dksX0_largestSquareByCells_0 15 rfl rfl)
theorem dX0_largestSquareByCells_16 : decode cX0_largestSquareByCells 16 = .ok (.ireturn, 1) := dk_172 (dk_at dksX0_largestSquareByCells_0 16 rfl rfl)
abbrev cX0_steps : ByteArray := method_38_code
def yX0_steps : MethodName := ⟨RX0, "steps", "(LPolygonBoard;IIIII[J)I"⟩
def dkwX0_steps_1 : List UInt8 := [58, 7, 5, 172, 58, 7, 6, 172, 3, 172]
abbrev dktX0_steps_1 : List UInt8 := dkwX0_steps_1 ++ []
def dkwX0_steps_0 : List UInt8 := [25, 6, 3, 42, 27, 28, 29, 21, 4, 21, 5, 182, 0, 131, 133, 80, 167, 0, 15, 58, 7, 4, 172]
abbrev dktX0_steps_0 : List UInt8 := dkwX0_steps_0 ++ dktX0_steps_1
theorem dksX0_steps_0 : cX0_steps.data.toList.drop 0 = dktX0_steps_0 := by decide +kernel
theorem dksX0_steps_1 : cX0_steps.data.toList.drop 23 = dktX0_steps_1 := dk_seg dksX0_steps_0 23 rfl rfl
theorem dX0_steps_0 : decode cX0_steps 0 = .ok (.aload 6, 2) := dk_25 6 (dk_at dksX0_steps_0 0 rfl rfl)
theorem dX0_steps_2 : decode cX0_steps 2 = .ok (.iconst 0, 1) := dk_3 (dk_at dksX0_steps_0 2 rfl rfl)
theorem dX0_steps_3 : decode cX0_steps 3 = .ok (.aload_n 0, 1) := dk_42 (dk_at dksX0_steps_0 3 rfl rfl)
theorem dX0_steps_4 : decode cX0_steps 4 = .ok (.iload_n 1, 1) := dk_27 (dk_at dksX0_steps_0 4 rfl rfl)
theorem dX0_steps_5 : decode cX0_steps 5 = .ok (.iload_n 2, 1) := dk_28 (dk_at dksX0_steps_0 5 rfl rfl)
theorem dX0_steps_6 : decode cX0_steps 6 = .ok (.iload_n 3, 1) := dk_29 (dk_at dksX0_steps_0 6 rfl rfl)
theorem dX0_steps_7 : decode cX0_steps 7 = .ok (.iload 4, 2) := dk_21 4 (dk_at dksX0_steps_0 7 rfl rfl)
theorem dX0_steps_9 : decode cX0_steps 9 = .ok (.iload 5, 2) := dk_21 5 (dk_at dksX0_steps_0 9 rfl rfl)
theorem dX0_steps_11 : decode cX0_steps 11 = .ok (.invokevirtual 131, 3) := dk_182 0 131 (dk_at dksX0_steps_0 11 rfl rfl)
theorem dX0_steps_14 : decode cX0_steps 14 = .ok (.i2l, 1) := dk_133 (dk_at dksX0_steps_0 14 rfl rfl)
theorem dX0_steps_15 : decode cX0_steps 15 = .ok (.lastore, 1) := dk_80 (dk_at dksX0_steps_0 15 rfl rfl)
theorem dX0_steps_16 : decode cX0_steps 16 = .ok (.goto 15, 3) := dk_167 0 15 (dk_at dksX0_steps_0 16 rfl rfl)
theorem dX0_steps_19 : decode cX0_steps 19 = .ok (.astore 7, 2) := dk_58 7 (dk_at dksX0_steps_0 19 rfl rfl)
theorem dX0_steps_21 : decode cX0_steps 21 = .ok (.iconst 1, 1) := dk_4 (dk_at dksX0_steps_0 21 rfl rfl)
theorem dX0_steps_22 : decode cX0_steps 22 = .ok (.ireturn, 1) := dk_172 (dk_at dksX0_steps_0 22 rfl rfl)
theorem dX0_steps_23 : decode cX0_steps 23 = .ok (.astore 7, 2) := dk_58 7 (dk_at dksX0_steps_1 0 rfl rfl)
theorem dX0_steps_25 : decode cX0_steps 25 = .ok (.iconst 2, 1) := dk_5 (dk_at dksX0_steps_1 2 rfl rfl)
theorem dX0_steps_26 : decode cX0_steps 26 = .ok (.ireturn, 1) := dk_172 (dk_at dksX0_steps_1 3 rfl rfl)
theorem dX0_steps_27 : decode cX0_steps 27 = .ok (.astore 7, 2) := dk_58 7 (dk_at dksX0_steps_1 4 rfl rfl)
theorem dX0_steps_29 : decode cX0_steps 29 = .ok (.iconst 3, 1) := dk_6 (dk_at dksX0_steps_1 6 rfl rfl)
theorem dX0_steps_30 : decode cX0_steps 30 = .ok (.ireturn, 1) := dk_172 (dk_at dksX0_steps_1 7 rfl rfl)
theorem dX0_steps_31 : decode cX0_steps 31 = .ok (.iconst 0, 1) := dk_3 (dk_at dksX0_steps_1 8 rfl rfl)
theorem dX0_steps_32 : decode cX0_steps 32 = .ok (.ireturn, 1) := dk_172 (dk_at dksX0_steps_1 9 rfl rfl)
abbrev cX0_stepsByRows : ByteArray := method_39_code
def yX0_stepsByRows : MethodName := ⟨RX0, "stepsByRows", "(LPolygonBoard;IIIII[J)I"⟩
def dkwX0_stepsByRows_1 : List UInt8 := [58, 7, 5, 172, 58, 7, 6, 172, 3, 172]
abbrev dktX0_stepsByRows_1 : List UInt8 := dkwX0_stepsByRows_1 ++ []
def dkwX0_stepsByRows_0 : List UInt8 := [25, 6, 3, 42, 27, 28, 29, 21, 4, 21, 5, 182, 0, 134, 133, 80, 167, 0, 15, 58, 7, 4, 172]
abbrev dktX0_stepsByRows_0 : List UInt8 := dkwX0_stepsByRows_0 ++ dktX0_stepsByRows_1
theorem dksX0_stepsByRows_0 : cX0_stepsByRows.data.toList.drop 0 = dktX0_stepsByRows_0 := by decide +kernel
theorem dksX0_stepsByRows_1 : cX0_stepsByRows.data.toList.drop 23 = dktX0_stepsByRows_1 := dk_seg dksX0_stepsByRows_0 23 rfl rfl
theorem dX0_stepsByRows_0 : decode cX0_stepsByRows 0 = .ok (.aload 6, 2) := dk_25 6 (dk_at dksX0_stepsByRows_0 0 rfl rfl)
theorem dX0_stepsByRows_2 : decode cX0_stepsByRows 2 = .ok (.iconst 0, 1) := dk_3 (dk_at dksX0_stepsByRows_0 2 rfl rfl)
theorem dX0_stepsByRows_3 : decode cX0_stepsByRows 3 = .ok (.aload_n 0, 1) := dk_42 (dk_at dksX0_stepsByRows_0 3 rfl rfl)
theorem dX0_stepsByRows_4 : decode cX0_stepsByRows 4 = .ok (.iload_n 1, 1) := dk_27 (dk_at dksX0_stepsByRows_0 4 rfl rfl)
theorem dX0_stepsByRows_5 : decode cX0_stepsByRows 5 = .ok (.iload_n 2, 1) := dk_28 (dk_at dksX0_stepsByRows_0 5 rfl rfl)
theorem dX0_stepsByRows_6 : decode cX0_stepsByRows 6 = .ok (.iload_n 3, 1) := dk_29 (dk_at dksX0_stepsByRows_0 6 rfl rfl)
theorem dX0_stepsByRows_7 : decode cX0_stepsByRows 7 = .ok (.iload 4, 2) := dk_21 4 (dk_at dksX0_stepsByRows_0 7 rfl rfl)
theorem dX0_stepsByRows_9 : decode cX0_stepsByRows 9 = .ok (.iload 5, 2) := dk_21 5 (dk_at dksX0_stepsByRows_0 9 rfl rfl)
theorem dX0_stepsByRows_11 : decode cX0_stepsByRows 11 = .ok (.invokevirtual 134, 3) := dk_182 0 134 (dk_at dksX0_stepsByRows_0 11 rfl rfl)
theorem dX0_stepsByRows_14 : decode cX0_stepsByRows 14 = .ok (.i2l, 1) := dk_133 (dk_at dksX0_stepsByRows_0 14 rfl rfl)
theorem dX0_stepsByRows_15 : decode cX0_stepsByRows 15 = .ok (.lastore, 1) := dk_80 (dk_at dksX0_stepsByRows_0 15 rfl rfl)
theorem dX0_stepsByRows_16 : decode cX0_stepsByRows 16 = .ok (.goto 15, 3) := dk_167 0 15 (dk_at dksX0_stepsByRows_0 16 rfl rfl)
theorem dX0_stepsByRows_19 : decode cX0_stepsByRows 19 = .ok (.astore 7, 2) := dk_58 7 (dk_at dksX0_stepsByRows_0 19 rfl rfl)
theorem dX0_stepsByRows_21 : decode cX0_stepsByRows 21 = .ok (.iconst 1, 1) := dk_4 (dk_at dksX0_stepsByRows_0 21 rfl rfl)
theorem dX0_stepsByRows_22 : decode cX0_stepsByRows 22 = .ok (.ireturn, 1) := dk_172 (dk_at dksX0_stepsByRows_0 22 rfl rfl)
theorem dX0_stepsByRows_23 : decode cX0_stepsByRows 23 = .ok (.astore 7, 2) := dk_58 7 (dk_at dksX0_stepsByRows_1 0 rfl rfl)
theorem dX0_stepsByRows_25 : decode cX0_stepsByRows 25 = .ok (.iconst 2, 1) := dk_5 (dk_at dksX0_stepsByRows_1 2 rfl rfl)
theorem dX0_stepsByRows_26 : decode cX0_stepsByRows 26 = .ok (.ireturn, 1) := dk_172 (dk_at dksX0_stepsByRows_1 3 rfl rfl)
theorem dX0_stepsByRows_27 : decode cX0_stepsByRows 27 = .ok (.astore 7, 2) := dk_58 7 (dk_at dksX0_stepsByRows_1 4 rfl rfl)
theorem dX0_stepsByRows_29 : decode cX0_stepsByRows 29 = .ok (.iconst 3, 1) := dk_6 (dk_at dksX0_stepsByRows_1 6 rfl rfl)
theorem dX0_stepsByRows_30 : decode cX0_stepsByRows 30 = .ok (.ireturn, 1) := dk_172 (dk_at dksX0_stepsByRows_1 7 rfl rfl)
theorem dX0_stepsByRows_31 : decode cX0_stepsByRows 31 = .ok (.iconst 0, 1) := dk_3 (dk_at dksX0_stepsByRows_1 8 rfl rfl)
theorem dX0_stepsByRows_32 : decode cX0_stepsByRows 32 = .ok (.ireturn, 1) := dk_172 (dk_at dksX0_stepsByRows_1 9 rfl rfl)
abbrev cX0_outlineCount : ByteArray := method_40_code
def yX0_outlineCount : MethodName := ⟨RX0, "outlineCount", "(LPolygonBoard;I[J)I"⟩
def dkwX0_outlineCount_0 : List UInt8 := [44, 3, 42, 27, 182, 0, 137, 133, 80, 167, 0, 6, 78, 4, 172, 3, 172]
abbrev dktX0_outlineCount_0 : List UInt8 := dkwX0_outlineCount_0 ++ []
theorem dksX0_outlineCount_0 : cX0_outlineCount.data.toList.drop 0 = dktX0_outlineCount_0 := by decide +kernel
theorem dX0_outlineCount_0 : decode cX0_outlineCount 0 = .ok (.aload_n 2, 1) := dk_44 (dk_at dksX0_outlineCount_0 0 rfl rfl)
theorem dX0_outlineCount_1 : decode cX0_outlineCount 1 = .ok (.iconst 0, 1) := dk_3 (dk_at dksX0_outlineCount_0 1 rfl rfl)
theorem dX0_outlineCount_2 : decode cX0_outlineCount 2 = .ok (.aload_n 0, 1) := dk_42 (dk_at dksX0_outlineCount_0 2 rfl rfl)
theorem dX0_outlineCount_3 : decode cX0_outlineCount 3 = .ok (.iload_n 1, 1) := dk_27 (dk_at dksX0_outlineCount_0 3 rfl rfl)
theorem dX0_outlineCount_4 : decode cX0_outlineCount 4 = .ok (.invokevirtual 137, 3) := dk_182 0 137 (dk_at dksX0_outlineCount_0 4 rfl rfl)
theorem dX0_outlineCount_7 : decode cX0_outlineCount 7 = .ok (.i2l, 1) := dk_133 (dk_at dksX0_outlineCount_0 7 rfl rfl)
theorem dX0_outlineCount_8 : decode cX0_outlineCount 8 = .ok (.lastore, 1) := dk_80 (dk_at dksX0_outlineCount_0 8 rfl rfl)
theorem dX0_outlineCount_9 : decode cX0_outlineCount 9 = .ok (.goto 6, 3) := dk_167 0 6 (dk_at dksX0_outlineCount_0 9 rfl rfl)
theorem dX0_outlineCount_12 : decode cX0_outlineCount 12 = .ok (.astore_n 3, 1) := dk_78 (dk_at dksX0_outlineCount_0 12 rfl rfl)
theorem dX0_outlineCount_13 : decode cX0_outlineCount 13 = .ok (.iconst 1, 1) := dk_4 (dk_at dksX0_outlineCount_0 13 rfl rfl)
theorem dX0_outlineCount_14 : decode cX0_outlineCount 14 = .ok (.ireturn, 1) := dk_172 (dk_at dksX0_outlineCount_0 14 rfl rfl)
theorem dX0_outlineCount_15 : decode cX0_outlineCount 15 = .ok (.iconst 0, 1) := dk_3 (dk_at dksX0_outlineCount_0 15 rfl rfl)
theorem dX0_outlineCount_16 : decode cX0_outlineCount 16 = .ok (.ireturn, 1) := dk_172 (dk_at dksX0_outlineCount_0 16 rfl rfl)
abbrev cX0_cornerCount : ByteArray := method_41_code
def yX0_cornerCount : MethodName := ⟨RX0, "cornerCount", "(LPolygonBoard;II[J)I"⟩
def dkwX0_cornerCount_0 : List UInt8 := [45, 3, 42, 27, 28, 182, 0, 140, 133, 80, 167, 0, 11, 58, 4, 4, 172, 58, 4, 5, 172, 3, 172]
abbrev dktX0_cornerCount_0 : List UInt8 := dkwX0_cornerCount_0 ++ []
theorem dksX0_cornerCount_0 : cX0_cornerCount.data.toList.drop 0 = dktX0_cornerCount_0 := by decide +kernel
theorem dX0_cornerCount_0 : decode cX0_cornerCount 0 = .ok (.aload_n 3, 1) := dk_45 (dk_at dksX0_cornerCount_0 0 rfl rfl)
theorem dX0_cornerCount_1 : decode cX0_cornerCount 1 = .ok (.iconst 0, 1) := dk_3 (dk_at dksX0_cornerCount_0 1 rfl rfl)
theorem dX0_cornerCount_2 : decode cX0_cornerCount 2 = .ok (.aload_n 0, 1) := dk_42 (dk_at dksX0_cornerCount_0 2 rfl rfl)
theorem dX0_cornerCount_3 : decode cX0_cornerCount 3 = .ok (.iload_n 1, 1) := dk_27 (dk_at dksX0_cornerCount_0 3 rfl rfl)
theorem dX0_cornerCount_4 : decode cX0_cornerCount 4 = .ok (.iload_n 2, 1) := dk_28 (dk_at dksX0_cornerCount_0 4 rfl rfl)
theorem dX0_cornerCount_5 : decode cX0_cornerCount 5 = .ok (.invokevirtual 140, 3) := dk_182 0 140 (dk_at dksX0_cornerCount_0 5 rfl rfl)
theorem dX0_cornerCount_8 : decode cX0_cornerCount 8 = .ok (.i2l, 1) := dk_133 (dk_at dksX0_cornerCount_0 8 rfl rfl)
theorem dX0_cornerCount_9 : decode cX0_cornerCount 9 = .ok (.lastore, 1) := dk_80 (dk_at dksX0_cornerCount_0 9 rfl rfl)
theorem dX0_cornerCount_10 : decode cX0_cornerCount 10 = .ok (.goto 11, 3) := dk_167 0 11 (dk_at dksX0_cornerCount_0 10 rfl rfl)
theorem dX0_cornerCount_13 : decode cX0_cornerCount 13 = .ok (.astore 4, 2) := dk_58 4 (dk_at dksX0_cornerCount_0 13 rfl rfl)
theorem dX0_cornerCount_15 : decode cX0_cornerCount 15 = .ok (.iconst 1, 1) := dk_4 (dk_at dksX0_cornerCount_0 15 rfl rfl)
theorem dX0_cornerCount_16 : decode cX0_cornerCount 16 = .ok (.ireturn, 1) := dk_172 (dk_at dksX0_cornerCount_0 16 rfl rfl)
theorem dX0_cornerCount_17 : decode cX0_cornerCount 17 = .ok (.astore 4, 2) := dk_58 4 (dk_at dksX0_cornerCount_0 17 rfl rfl)
theorem dX0_cornerCount_19 : decode cX0_cornerCount 19 = .ok (.iconst 2, 1) := dk_5 (dk_at dksX0_cornerCount_0 19 rfl rfl)
theorem dX0_cornerCount_20 : decode cX0_cornerCount 20 = .ok (.ireturn, 1) := dk_172 (dk_at dksX0_cornerCount_0 20 rfl rfl)
theorem dX0_cornerCount_21 : decode cX0_cornerCount 21 = .ok (.iconst 0, 1) := dk_3 (dk_at dksX0_cornerCount_0 21 rfl rfl)
theorem dX0_cornerCount_22 : decode cX0_cornerCount 22 = .ok (.ireturn, 1) := dk_172 (dk_at dksX0_cornerCount_0 22 rfl rfl)
abbrev cX0_cornerX : ByteArray := method_42_code
def yX0_cornerX : MethodName := ⟨RX0, "cornerX", "(LPolygonBoard;III[J)I"⟩
def dkwX0_cornerX_1 : List UInt8 := [172]
abbrev dktX0_cornerX_1 : List UInt8 := dkwX0_cornerX_1 ++ []
def dkwX0_cornerX_0 : List UInt8 := [25, 4, 3, 42, 27, 28, 29, 182, 0, 143, 133, 80, 167, 0, 11, 58, 5, 4, 172, 58, 5, 5, 172, 3]
abbrev dktX0_cornerX_0 : List UInt8 := dkwX0_cornerX_0 ++ dktX0_cornerX_1
theorem dksX0_cornerX_0 : cX0_cornerX.data.toList.drop 0 = dktX0_cornerX_0 := by decide +kernel
theorem dksX0_cornerX_1 : cX0_cornerX.data.toList.drop 24 = dktX0_cornerX_1 := dk_seg dksX0_cornerX_0 24 rfl rfl
theorem dX0_cornerX_0 : decode cX0_cornerX 0 = .ok (.aload 4, 2) := dk_25 4 (dk_at dksX0_cornerX_0 0 rfl rfl)
theorem dX0_cornerX_2 : decode cX0_cornerX 2 = .ok (.iconst 0, 1) := dk_3 (dk_at dksX0_cornerX_0 2 rfl rfl)
theorem dX0_cornerX_3 : decode cX0_cornerX 3 = .ok (.aload_n 0, 1) := dk_42 (dk_at dksX0_cornerX_0 3 rfl rfl)
theorem dX0_cornerX_4 : decode cX0_cornerX 4 = .ok (.iload_n 1, 1) := dk_27 (dk_at dksX0_cornerX_0 4 rfl rfl)
theorem dX0_cornerX_5 : decode cX0_cornerX 5 = .ok (.iload_n 2, 1) := dk_28 (dk_at dksX0_cornerX_0 5 rfl rfl)
theorem dX0_cornerX_6 : decode cX0_cornerX 6 = .ok (.iload_n 3, 1) := dk_29 (dk_at dksX0_cornerX_0 6 rfl rfl)
theorem dX0_cornerX_7 : decode cX0_cornerX 7 = .ok (.invokevirtual 143, 3) := dk_182 0 143 (dk_at dksX0_cornerX_0 7 rfl rfl)
theorem dX0_cornerX_10 : decode cX0_cornerX 10 = .ok (.i2l, 1) := dk_133 (dk_at dksX0_cornerX_0 10 rfl rfl)
theorem dX0_cornerX_11 : decode cX0_cornerX 11 = .ok (.lastore, 1) := dk_80 (dk_at dksX0_cornerX_0 11 rfl rfl)
theorem dX0_cornerX_12 : decode cX0_cornerX 12 = .ok (.goto 11, 3) := dk_167 0 11 (dk_at dksX0_cornerX_0 12 rfl rfl)
theorem dX0_cornerX_15 : decode cX0_cornerX 15 = .ok (.astore 5, 2) := dk_58 5 (dk_at dksX0_cornerX_0 15 rfl rfl)
theorem dX0_cornerX_17 : decode cX0_cornerX 17 = .ok (.iconst 1, 1) := dk_4 (dk_at dksX0_cornerX_0 17 rfl rfl)
theorem dX0_cornerX_18 : decode cX0_cornerX 18 = .ok (.ireturn, 1) := dk_172 (dk_at dksX0_cornerX_0 18 rfl rfl)
theorem dX0_cornerX_19 : decode cX0_cornerX 19 = .ok (.astore 5, 2) := dk_58 5 (dk_at dksX0_cornerX_0 19 rfl rfl)
theorem dX0_cornerX_21 : decode cX0_cornerX 21 = .ok (.iconst 2, 1) := dk_5 (dk_at dksX0_cornerX_0 21 rfl rfl)
theorem dX0_cornerX_22 : decode cX0_cornerX 22 = .ok (.ireturn, 1) := dk_172 (dk_at dksX0_cornerX_0 22 rfl rfl)
theorem dX0_cornerX_23 : decode cX0_cornerX 23 = .ok (.iconst 0, 1) := dk_3 (dk_at dksX0_cornerX_0 23 rfl rfl)
theorem dX0_cornerX_24 : decode cX0_cornerX 24 = .ok (.ireturn, 1) := dk_172 (dk_at dksX0_cornerX_1 0 rfl rfl)
abbrev cX0_cornerY : ByteArray := method_43_code
def yX0_cornerY : MethodName := ⟨RX0, "cornerY", "(LPolygonBoard;III[J)I"⟩
def dkwX0_cornerY_1 : List UInt8 := [172]
abbrev dktX0_cornerY_1 : List UInt8 := dkwX0_cornerY_1 ++ []
def dkwX0_cornerY_0 : List UInt8 := [25, 4, 3, 42, 27, 28, 29, 182, 0, 146, 133, 80, 167, 0, 11, 58, 5, 4, 172, 58, 5, 5, 172, 3]
abbrev dktX0_cornerY_0 : List UInt8 := dkwX0_cornerY_0 ++ dktX0_cornerY_1
theorem dksX0_cornerY_0 : cX0_cornerY.data.toList.drop 0 = dktX0_cornerY_0 := by decide +kernel
theorem dksX0_cornerY_1 : cX0_cornerY.data.toList.drop 24 = dktX0_cornerY_1 := dk_seg dksX0_cornerY_0 24 rfl rfl
theorem dX0_cornerY_0 : decode cX0_cornerY 0 = .ok (.aload 4, 2) := dk_25 4 (dk_at dksX0_cornerY_0 0 rfl rfl)
theorem dX0_cornerY_2 : decode cX0_cornerY 2 = .ok (.iconst 0, 1) := dk_3 (dk_at dksX0_cornerY_0 2 rfl rfl)
theorem dX0_cornerY_3 : decode cX0_cornerY 3 = .ok (.aload_n 0, 1) := dk_42 (dk_at dksX0_cornerY_0 3 rfl rfl)
theorem dX0_cornerY_4 : decode cX0_cornerY 4 = .ok (.iload_n 1, 1) := dk_27 (dk_at dksX0_cornerY_0 4 rfl rfl)
theorem dX0_cornerY_5 : decode cX0_cornerY 5 = .ok (.iload_n 2, 1) := dk_28 (dk_at dksX0_cornerY_0 5 rfl rfl)
theorem dX0_cornerY_6 : decode cX0_cornerY 6 = .ok (.iload_n 3, 1) := dk_29 (dk_at dksX0_cornerY_0 6 rfl rfl)
theorem dX0_cornerY_7 : decode cX0_cornerY 7 = .ok (.invokevirtual 146, 3) := dk_182 0 146 (dk_at dksX0_cornerY_0 7 rfl rfl)
theorem dX0_cornerY_10 : decode cX0_cornerY 10 = .ok (.i2l, 1) := dk_133 (dk_at dksX0_cornerY_0 10 rfl rfl)
theorem dX0_cornerY_11 : decode cX0_cornerY 11 = .ok (.lastore, 1) := dk_80 (dk_at dksX0_cornerY_0 11 rfl rfl)
theorem dX0_cornerY_12 : decode cX0_cornerY 12 = .ok (.goto 11, 3) := dk_167 0 11 (dk_at dksX0_cornerY_0 12 rfl rfl)
theorem dX0_cornerY_15 : decode cX0_cornerY 15 = .ok (.astore 5, 2) := dk_58 5 (dk_at dksX0_cornerY_0 15 rfl rfl)
theorem dX0_cornerY_17 : decode cX0_cornerY 17 = .ok (.iconst 1, 1) := dk_4 (dk_at dksX0_cornerY_0 17 rfl rfl)
theorem dX0_cornerY_18 : decode cX0_cornerY 18 = .ok (.ireturn, 1) := dk_172 (dk_at dksX0_cornerY_0 18 rfl rfl)
theorem dX0_cornerY_19 : decode cX0_cornerY 19 = .ok (.astore 5, 2) := dk_58 5 (dk_at dksX0_cornerY_0 19 rfl rfl)
theorem dX0_cornerY_21 : decode cX0_cornerY 21 = .ok (.iconst 2, 1) := dk_5 (dk_at dksX0_cornerY_0 21 rfl rfl)
theorem dX0_cornerY_22 : decode cX0_cornerY 22 = .ok (.ireturn, 1) := dk_172 (dk_at dksX0_cornerY_0 22 rfl rfl)
theorem dX0_cornerY_23 : decode cX0_cornerY 23 = .ok (.iconst 0, 1) := dk_3 (dk_at dksX0_cornerY_0 23 rfl rfl)
theorem dX0_cornerY_24 : decode cX0_cornerY 24 = .ok (.ireturn, 1) := dk_172 (dk_at dksX0_cornerY_1 0 rfl rfl)
abbrev cX0_signedArea : ByteArray := method_44_code
def yX0_signedArea : MethodName := ⟨RX0, "signedArea", "(LPolygonBoard;II[J)I"⟩
def dkwX0_signedArea_0 : List UInt8 := [45, 3, 42, 27, 28, 182, 0, 149, 133, 80, 167, 0, 11, 58, 4, 4, 172, 58, 4, 5, 172, 3, 172]
abbrev dktX0_signedArea_0 : List UInt8 := dkwX0_signedArea_0 ++ []
theorem dksX0_signedArea_0 : cX0_signedArea.data.toList.drop 0 = dktX0_signedArea_0 := by decide +kernel
theorem dX0_signedArea_0 : decode cX0_signedArea 0 = .ok (.aload_n 3, 1) := dk_45 (dk_at dksX0_signedArea_0 0 rfl rfl)
theorem dX0_signedArea_1 : decode cX0_signedArea 1 = .ok (.iconst 0, 1) := dk_3 (dk_at dksX0_signedArea_0 1 rfl rfl)
theorem dX0_signedArea_2 : decode cX0_signedArea 2 = .ok (.aload_n 0, 1) := dk_42 (dk_at dksX0_signedArea_0 2 rfl rfl)
theorem dX0_signedArea_3 : decode cX0_signedArea 3 = .ok (.iload_n 1, 1) := dk_27 (dk_at dksX0_signedArea_0 3 rfl rfl)
theorem dX0_signedArea_4 : decode cX0_signedArea 4 = .ok (.iload_n 2, 1) := dk_28 (dk_at dksX0_signedArea_0 4 rfl rfl)
theorem dX0_signedArea_5 : decode cX0_signedArea 5 = .ok (.invokevirtual 149, 3) := dk_182 0 149 (dk_at dksX0_signedArea_0 5 rfl rfl)
theorem dX0_signedArea_8 : decode cX0_signedArea 8 = .ok (.i2l, 1) := dk_133 (dk_at dksX0_signedArea_0 8 rfl rfl)
theorem dX0_signedArea_9 : decode cX0_signedArea 9 = .ok (.lastore, 1) := dk_80 (dk_at dksX0_signedArea_0 9 rfl rfl)
theorem dX0_signedArea_10 : decode cX0_signedArea 10 = .ok (.goto 11, 3) := dk_167 0 11 (dk_at dksX0_signedArea_0 10 rfl rfl)
theorem dX0_signedArea_13 : decode cX0_signedArea 13 = .ok (.astore 4, 2) := dk_58 4 (dk_at dksX0_signedArea_0 13 rfl rfl)
theorem dX0_signedArea_15 : decode cX0_signedArea 15 = .ok (.iconst 1, 1) := dk_4 (dk_at dksX0_signedArea_0 15 rfl rfl)
theorem dX0_signedArea_16 : decode cX0_signedArea 16 = .ok (.ireturn, 1) := dk_172 (dk_at dksX0_signedArea_0 16 rfl rfl)
theorem dX0_signedArea_17 : decode cX0_signedArea 17 = .ok (.astore 4, 2) := dk_58 4 (dk_at dksX0_signedArea_0 17 rfl rfl)
theorem dX0_signedArea_19 : decode cX0_signedArea 19 = .ok (.iconst 2, 1) := dk_5 (dk_at dksX0_signedArea_0 19 rfl rfl)
theorem dX0_signedArea_20 : decode cX0_signedArea 20 = .ok (.ireturn, 1) := dk_172 (dk_at dksX0_signedArea_0 20 rfl rfl)
theorem dX0_signedArea_21 : decode cX0_signedArea 21 = .ok (.iconst 0, 1) := dk_3 (dk_at dksX0_signedArea_0 21 rfl rfl)
theorem dX0_signedArea_22 : decode cX0_signedArea 22 = .ok (.ireturn, 1) := dk_172 (dk_at dksX0_signedArea_0 22 rfl rfl)
abbrev cX0_moment : ByteArray := method_45_code
def yX0_moment : MethodName := ⟨RX0, "moment", "(LPolygonBoard;I[J)I"⟩
def dkwX0_moment_0 : List UInt8 := [44, 3, 42, 27, 182, 0, 152, 80, 167, 0, 6, 78, 4, 172, 3, 172]
abbrev dktX0_moment_0 : List UInt8 := dkwX0_moment_0 ++ []
theorem dksX0_moment_0 : cX0_moment.data.toList.drop 0 = dktX0_moment_0 := by decide +kernel
theorem dX0_moment_0 : decode cX0_moment 0 = .ok (.aload_n 2, 1) := dk_44 (dk_at dksX0_moment_0 0 rfl rfl)
theorem dX0_moment_1 : decode cX0_moment 1 = .ok (.iconst 0, 1) := dk_3 (dk_at dksX0_moment_0 1 rfl rfl)
theorem dX0_moment_2 : decode cX0_moment 2 = .ok (.aload_n 0, 1) := dk_42 (dk_at dksX0_moment_0 2 rfl rfl)
theorem dX0_moment_3 : decode cX0_moment 3 = .ok (.iload_n 1, 1) := dk_27 (dk_at dksX0_moment_0 3 rfl rfl)
theorem dX0_moment_4 : decode cX0_moment 4 = .ok (.invokevirtual 152, 3) := dk_182 0 152 (dk_at dksX0_moment_0 4 rfl rfl)
theorem dX0_moment_7 : decode cX0_moment 7 = .ok (.lastore, 1) := dk_80 (dk_at dksX0_moment_0 7 rfl rfl)
theorem dX0_moment_8 : decode cX0_moment 8 = .ok (.goto 6, 3) := dk_167 0 6 (dk_at dksX0_moment_0 8 rfl rfl)
theorem dX0_moment_11 : decode cX0_moment 11 = .ok (.astore_n 3, 1) := dk_78 (dk_at dksX0_moment_0 11 rfl rfl)
theorem dX0_moment_12 : decode cX0_moment 12 = .ok (.iconst 1, 1) := dk_4 (dk_at dksX0_moment_0 12 rfl rfl)
theorem dX0_moment_13 : decode cX0_moment 13 = .ok (.ireturn, 1) := dk_172 (dk_at dksX0_moment_0 13 rfl rfl)
theorem dX0_moment_14 : decode cX0_moment 14 = .ok (.iconst 0, 1) := dk_3 (dk_at dksX0_moment_0 14 rfl rfl)
theorem dX0_moment_15 : decode cX0_moment 15 = .ok (.ireturn, 1) := dk_172 (dk_at dksX0_moment_0 15 rfl rfl)
abbrev cX0_momentByCells : ByteArray := method_46_code
def yX0_momentByCells : MethodName := ⟨RX0, "momentByCells", "(LPolygonBoard;I[J)I"⟩
def dkwX0_momentByCells_0 : List UInt8 := [44, 3, 42, 27, 182, 0, 156, 80, 167, 0, 6, 78, 4, 172, 3, 172]
abbrev dktX0_momentByCells_0 : List UInt8 := dkwX0_momentByCells_0 ++ []
theorem dksX0_momentByCells_0 : cX0_momentByCells.data.toList.drop 0 = dktX0_momentByCells_0 := by decide +kernel
theorem dX0_momentByCells_0 : decode cX0_momentByCells 0 = .ok (.aload_n 2, 1) := dk_44 (dk_at dksX0_momentByCells_0 0 rfl rfl)
theorem dX0_momentByCells_1 : decode cX0_momentByCells 1 = .ok (.iconst 0, 1) := dk_3 (dk_at dksX0_momentByCells_0 1 rfl rfl)
theorem dX0_momentByCells_2 : decode cX0_momentByCells 2 = .ok (.aload_n 0, 1) := dk_42 (dk_at dksX0_momentByCells_0 2 rfl rfl)
theorem dX0_momentByCells_3 : decode cX0_momentByCells 3 = .ok (.iload_n 1, 1) := dk_27 (dk_at dksX0_momentByCells_0 3 rfl rfl)
theorem dX0_momentByCells_4 : decode cX0_momentByCells 4 = .ok (.invokevirtual 156, 3) := dk_182 0 156 (dk_at dksX0_momentByCells_0 4 rfl rfl)
theorem dX0_momentByCells_7 : decode cX0_momentByCells 7 = .ok (.lastore, 1) := dk_80 (dk_at dksX0_momentByCells_0 7 rfl rfl)
theorem dX0_momentByCells_8 : decode cX0_momentByCells 8 = .ok (.goto 6, 3) := dk_167 0 6 (dk_at dksX0_momentByCells_0 8 rfl rfl)
theorem dX0_momentByCells_11 : decode cX0_momentByCells 11 = .ok (.astore_n 3, 1) := dk_78 (dk_at dksX0_momentByCells_0 11 rfl rfl)
theorem dX0_momentByCells_12 : decode cX0_momentByCells 12 = .ok (.iconst 1, 1) := dk_4 (dk_at dksX0_momentByCells_0 12 rfl rfl)
theorem dX0_momentByCells_13 : decode cX0_momentByCells 13 = .ok (.ireturn, 1) := dk_172 (dk_at dksX0_momentByCells_0 13 rfl rfl)
theorem dX0_momentByCells_14 : decode cX0_momentByCells 14 = .ok (.iconst 0, 1) := dk_3 (dk_at dksX0_momentByCells_0 14 rfl rfl)
theorem dX0_momentByCells_15 : decode cX0_momentByCells 15 = .ok (.ireturn, 1) := dk_172 (dk_at dksX0_momentByCells_0 15 rfl rfl)
abbrev cX0_middleX : ByteArray := method_47_code
def yX0_middleX : MethodName := ⟨RX0, "middleX", "(LPolygonBoard;I[D)I"⟩
def dkwX0_middleX_0 : List UInt8 := [44, 3, 42, 27, 182, 0, 159, 82, 167, 0, 9, 78, 4, 172, 78, 5, 172, 3, 172]
abbrev dktX0_middleX_0 : List UInt8 := dkwX0_middleX_0 ++ []
theorem dksX0_middleX_0 : cX0_middleX.data.toList.drop 0 = dktX0_middleX_0 := by decide +kernel
theorem dX0_middleX_0 : decode cX0_middleX 0 = .ok (.aload_n 2, 1) := dk_44 (dk_at dksX0_middleX_0 0 rfl rfl)
theorem dX0_middleX_1 : decode cX0_middleX 1 = .ok (.iconst 0, 1) := dk_3 (dk_at dksX0_middleX_0 1 rfl rfl)
theorem dX0_middleX_2 : decode cX0_middleX 2 = .ok (.aload_n 0, 1) := dk_42 (dk_at dksX0_middleX_0 2 rfl rfl)
theorem dX0_middleX_3 : decode cX0_middleX 3 = .ok (.iload_n 1, 1) := dk_27 (dk_at dksX0_middleX_0 3 rfl rfl)
theorem dX0_middleX_4 : decode cX0_middleX 4 = .ok (.invokevirtual 159, 3) := dk_182 0 159 (dk_at dksX0_middleX_0 4 rfl rfl)
theorem dX0_middleX_7 : decode cX0_middleX 7 = .ok (.dastore, 1) := dk_82 (dk_at dksX0_middleX_0 7 rfl rfl)
theorem dX0_middleX_8 : decode cX0_middleX 8 = .ok (.goto 9, 3) := dk_167 0 9 (dk_at dksX0_middleX_0 8 rfl rfl)
theorem dX0_middleX_11 : decode cX0_middleX 11 = .ok (.astore_n 3, 1) := dk_78 (dk_at dksX0_middleX_0 11 rfl rfl)
theorem dX0_middleX_12 : decode cX0_middleX 12 = .ok (.iconst 1, 1) := dk_4 (dk_at dksX0_middleX_0 12 rfl rfl)
theorem dX0_middleX_13 : decode cX0_middleX 13 = .ok (.ireturn, 1) := dk_172 (dk_at dksX0_middleX_0 13 rfl rfl)
theorem dX0_middleX_14 : decode cX0_middleX 14 = .ok (.astore_n 3, 1) := dk_78 (dk_at dksX0_middleX_0 14 rfl rfl)
theorem dX0_middleX_15 : decode cX0_middleX 15 = .ok (.iconst 2, 1) := dk_5 (dk_at dksX0_middleX_0 15 rfl rfl)
theorem dX0_middleX_16 : decode cX0_middleX 16 = .ok (.ireturn, 1) := dk_172 (dk_at dksX0_middleX_0 16 rfl rfl)
theorem dX0_middleX_17 : decode cX0_middleX 17 = .ok (.iconst 0, 1) := dk_3 (dk_at dksX0_middleX_0 17 rfl rfl)
theorem dX0_middleX_18 : decode cX0_middleX 18 = .ok (.ireturn, 1) := dk_172 (dk_at dksX0_middleX_0 18 rfl rfl)
abbrev cX0_middleY : ByteArray := method_48_code
def yX0_middleY : MethodName := ⟨RX0, "middleY", "(LPolygonBoard;I[D)I"⟩
def dkwX0_middleY_0 : List UInt8 := [44, 3, 42, 27, 182, 0, 165, 82, 167, 0, 9, 78, 4, 172, 78, 5, 172, 3, 172]
abbrev dktX0_middleY_0 : List UInt8 := dkwX0_middleY_0 ++ []
theorem dksX0_middleY_0 : cX0_middleY.data.toList.drop 0 = dktX0_middleY_0 := by decide +kernel
theorem dX0_middleY_0 : decode cX0_middleY 0 = .ok (.aload_n 2, 1) := dk_44 (dk_at dksX0_middleY_0 0 rfl rfl)
theorem dX0_middleY_1 : decode cX0_middleY 1 = .ok (.iconst 0, 1) := dk_3 (dk_at dksX0_middleY_0 1 rfl rfl)
theorem dX0_middleY_2 : decode cX0_middleY 2 = .ok (.aload_n 0, 1) := dk_42 (dk_at dksX0_middleY_0 2 rfl rfl)
theorem dX0_middleY_3 : decode cX0_middleY 3 = .ok (.iload_n 1, 1) := dk_27 (dk_at dksX0_middleY_0 3 rfl rfl)
theorem dX0_middleY_4 : decode cX0_middleY 4 = .ok (.invokevirtual 165, 3) := dk_182 0 165 (dk_at dksX0_middleY_0 4 rfl rfl)
theorem dX0_middleY_7 : decode cX0_middleY 7 = .ok (.dastore, 1) := dk_82 (dk_at dksX0_middleY_0 7 rfl rfl)
theorem dX0_middleY_8 : decode cX0_middleY 8 = .ok (.goto 9, 3) := dk_167 0 9 (dk_at dksX0_middleY_0 8 rfl rfl)
theorem dX0_middleY_11 : decode cX0_middleY 11 = .ok (.astore_n 3, 1) := dk_78 (dk_at dksX0_middleY_0 11 rfl rfl)
theorem dX0_middleY_12 : decode cX0_middleY 12 = .ok (.iconst 1, 1) := dk_4 (dk_at dksX0_middleY_0 12 rfl rfl)
theorem dX0_middleY_13 : decode cX0_middleY 13 = .ok (.ireturn, 1) := dk_172 (dk_at dksX0_middleY_0 13 rfl rfl)
theorem dX0_middleY_14 : decode cX0_middleY 14 = .ok (.astore_n 3, 1) := dk_78 (dk_at dksX0_middleY_0 14 rfl rfl)
theorem dX0_middleY_15 : decode cX0_middleY 15 = .ok (.iconst 2, 1) := dk_5 (dk_at dksX0_middleY_0 15 rfl rfl)
theorem dX0_middleY_16 : decode cX0_middleY 16 = .ok (.ireturn, 1) := dk_172 (dk_at dksX0_middleY_0 16 rfl rfl)
theorem dX0_middleY_17 : decode cX0_middleY 17 = .ok (.iconst 0, 1) := dk_3 (dk_at dksX0_middleY_0 17 rfl rfl)
theorem dX0_middleY_18 : decode cX0_middleY 18 = .ok (.ireturn, 1) := dk_172 (dk_at dksX0_middleY_0 18 rfl rfl)
abbrev cX0_fullness : ByteArray := method_49_code
def yX0_fullness : MethodName := ⟨RX0, "fullness", "(LPolygonBoard;I[D)I"⟩
def dkwX0_fullness_0 : List UInt8 := [44, 3, 42, 27, 182, 0, 168, 141, 82, 167, 0, 9, 78, 4, 172, 78, 5, 172, 3, 172]
abbrev dktX0_fullness_0 : List UInt8 := dkwX0_fullness_0 ++ []
theorem dksX0_fullness_0 : cX0_fullness.data.toList.drop 0 = dktX0_fullness_0 := by decide +kernel
theorem dX0_fullness_0 : decode cX0_fullness 0 = .ok (.aload_n 2, 1) := dk_44 (dk_at dksX0_fullness_0 0 rfl rfl)
theorem dX0_fullness_1 : decode cX0_fullness 1 = .ok (.iconst 0, 1) := dk_3 (dk_at dksX0_fullness_0 1 rfl rfl)
theorem dX0_fullness_2 : decode cX0_fullness 2 = .ok (.aload_n 0, 1) := dk_42 (dk_at dksX0_fullness_0 2 rfl rfl)
theorem dX0_fullness_3 : decode cX0_fullness 3 = .ok (.iload_n 1, 1) := dk_27 (dk_at dksX0_fullness_0 3 rfl rfl)
theorem dX0_fullness_4 : decode cX0_fullness 4 = .ok (.invokevirtual 168, 3) := dk_182 0 168 (dk_at dksX0_fullness_0 4 rfl rfl)
theorem dX0_fullness_7 : decode cX0_fullness 7 = .ok (.f2d, 1) := dk_141 (dk_at dksX0_fullness_0 7 rfl rfl)
theorem dX0_fullness_8 : decode cX0_fullness 8 = .ok (.dastore, 1) := dk_82 (dk_at dksX0_fullness_0 8 rfl rfl)
theorem dX0_fullness_9 : decode cX0_fullness 9 = .ok (.goto 9, 3) := dk_167 0 9 (dk_at dksX0_fullness_0 9 rfl rfl)
theorem dX0_fullness_12 : decode cX0_fullness 12 = .ok (.astore_n 3, 1) := dk_78 (dk_at dksX0_fullness_0 12 rfl rfl)
theorem dX0_fullness_13 : decode cX0_fullness 13 = .ok (.iconst 1, 1) := dk_4 (dk_at dksX0_fullness_0 13 rfl rfl)
theorem dX0_fullness_14 : decode cX0_fullness 14 = .ok (.ireturn, 1) := dk_172 (dk_at dksX0_fullness_0 14 rfl rfl)
theorem dX0_fullness_15 : decode cX0_fullness 15 = .ok (.astore_n 3, 1) := dk_78 (dk_at dksX0_fullness_0 15 rfl rfl)
theorem dX0_fullness_16 : decode cX0_fullness 16 = .ok (.iconst 2, 1) := dk_5 (dk_at dksX0_fullness_0 16 rfl rfl)
theorem dX0_fullness_17 : decode cX0_fullness 17 = .ok (.ireturn, 1) := dk_172 (dk_at dksX0_fullness_0 17 rfl rfl)
theorem dX0_fullness_18 : decode cX0_fullness 18 = .ok (.iconst 0, 1) := dk_3 (dk_at dksX0_fullness_0 18 rfl rfl)
theorem dX0_fullness_19 : decode cX0_fullness 19 = .ok (.ireturn, 1) := dk_172 (dk_at dksX0_fullness_0 19 rfl rfl)
theorem q50 : (Jvm.Cond.initialized "PolygonBoardLaw") ∈ lw_all := lw_g (lw_at lw_m1 0 rfl) rfl
theorem q93 : (Jvm.Cond.classLink "PolygonBoardLaw" (8 : Nat) "PolygonBoard") ∈ lw_all := lw_g (lw_at lw_m1 43 rfl) rfl
theorem q95 : (Jvm.Cond.methodLink "PolygonBoardLaw" (172 : Nat) ({ cls := "PolygonBoard", name := "<init>", desc := "()V" } : Jvm.MethodName)) ∈ lw_all := lw_g (lw_at lw_m1 45 rfl) rfl
theorem q234 : (Jvm.Cond.methodLink "PolygonBoardLaw" (231 : Nat) ({ cls := "PolygonBoard", name := "pointCount", desc := "()I" } : Jvm.MethodName)) ∈ lw_all := lw_g (lw_at lw_m1 184 rfl) rfl
theorem q238 : (Jvm.Cond.methodLink "PolygonBoardLaw" (176 : Nat) ({ cls := "PolygonBoardLaw", name := "fill", desc := "(LPolygonBoard;IIIII[J)I" } : Jvm.MethodName)) ∈ lw_all := lw_g (lw_at lw_m1 188 rfl) rfl
theorem q239 : (Jvm.Cond.static ({ cls := "PolygonBoardLaw", name := "fill", desc := "(LPolygonBoard;IIIII[J)I" } : Jvm.MethodName)) ∈ lw_all := lw_g (lw_at lw_m1 189 rfl) rfl
theorem q240 : (Jvm.Cond.codeWith ({ cls := "PolygonBoardLaw", name := "fill", desc := "(LPolygonBoard;IIIII[J)I" } : Jvm.MethodName) method_3_code (8 : Nat) (Option.some Jvm.ClassFile.FieldType.int) [((0 : Nat), (16 : Nat), (19 : Nat), (13 : Nat)), ((0 : Nat), (16 : Nat), (23 : Nat), (15 : Nat))]) ∈ lw_all := lw_g (lw_at lw_m1 190 rfl) rfl
theorem q241 : (Jvm.Cond.classLink "PolygonBoardLaw" (13 : Nat) "java/lang/IndexOutOfBoundsException") ∈ lw_all := lw_g (lw_at lw_m1 191 rfl) rfl
theorem q320 : (Jvm.Cond.classLink "PolygonBoardLaw" (15 : Nat) "java/lang/IllegalArgumentException") ∈ lw_all := lw_g (lw_at lw_m2 30 rfl) rfl
theorem q321 : (Jvm.Cond.methodLink "PolygonBoardLaw" (7 : Nat) ({ cls := "PolygonBoard", name := "fill", desc := "(IIIII)I" } : Jvm.MethodName)) ∈ lw_all := lw_g (lw_at lw_m2 31 rfl) rfl
theorem q729 : (Jvm.Cond.methodLink "PolygonBoardLaw" (186 : Nat) ({ cls := "PolygonBoardLaw", name := "erase", desc := "(LPolygonBoard;IIIII[J)I" } : Jvm.MethodName)) ∈ lw_all := lw_g (lw_at lw_m3 199 rfl) rfl
theorem q730 : (Jvm.Cond.static ({ cls := "PolygonBoardLaw", name := "erase", desc := "(LPolygonBoard;IIIII[J)I" } : Jvm.MethodName)) ∈ lw_all := lw_g (lw_at lw_m3 200 rfl) rfl
theorem q731 : (Jvm.Cond.codeWith ({ cls := "PolygonBoardLaw", name := "erase", desc := "(LPolygonBoard;IIIII[J)I" } : Jvm.MethodName) method_4_code (8 : Nat) (Option.some Jvm.ClassFile.FieldType.int) [((0 : Nat), (16 : Nat), (19 : Nat), (13 : Nat)), ((0 : Nat), (16 : Nat), (23 : Nat), (15 : Nat))]) ∈ lw_all := lw_g (lw_at lw_m3 201 rfl) rfl
theorem q732 : (Jvm.Cond.methodLink "PolygonBoardLaw" (17 : Nat) ({ cls := "PolygonBoard", name := "erase", desc := "(IIIII)I" } : Jvm.MethodName)) ∈ lw_all := lw_g (lw_at lw_m3 202 rfl) rfl
theorem q738 : (Jvm.Cond.methodLink "PolygonBoardLaw" (189 : Nat) ({ cls := "PolygonBoardLaw", name := "clear", desc := "(LPolygonBoard;I[J)I" } : Jvm.MethodName)) ∈ lw_all := lw_g (lw_at lw_m3 208 rfl) rfl
theorem q739 : (Jvm.Cond.static ({ cls := "PolygonBoardLaw", name := "clear", desc := "(LPolygonBoard;I[J)I" } : Jvm.MethodName)) ∈ lw_all := lw_g (lw_at lw_m3 209 rfl) rfl
theorem q740 : (Jvm.Cond.codeWith ({ cls := "PolygonBoardLaw", name := "clear", desc := "(LPolygonBoard;I[J)I" } : Jvm.MethodName) method_5_code (4 : Nat) (Option.some Jvm.ClassFile.FieldType.int) [((0 : Nat), (9 : Nat), (12 : Nat), (13 : Nat))]) ∈ lw_all := lw_g (lw_at lw_m3 210 rfl) rfl
theorem q741 : (Jvm.Cond.methodLink "PolygonBoardLaw" (20 : Nat) ({ cls := "PolygonBoard", name := "clear", desc := "(I)I" } : Jvm.MethodName)) ∈ lw_all := lw_g (lw_at lw_m3 211 rfl) rfl
theorem q745 : (Jvm.Cond.methodLink "PolygonBoardLaw" (193 : Nat) ({ cls := "PolygonBoardLaw", name := "moveTo", desc := "(LPolygonBoard;II[J)I" } : Jvm.MethodName)) ∈ lw_all := lw_g (lw_at lw_m3 215 rfl) rfl
theorem q746 : (Jvm.Cond.static ({ cls := "PolygonBoardLaw", name := "moveTo", desc := "(LPolygonBoard;II[J)I" } : Jvm.MethodName)) ∈ lw_all := lw_g (lw_at lw_m3 216 rfl) rfl
theorem q747 : (Jvm.Cond.codeWith ({ cls := "PolygonBoardLaw", name := "moveTo", desc := "(LPolygonBoard;II[J)I" } : Jvm.MethodName) method_6_code (5 : Nat) (Option.some Jvm.ClassFile.FieldType.int) [((0 : Nat), (10 : Nat), (13 : Nat), (15 : Nat))]) ∈ lw_all := lw_g (lw_at lw_m3 217 rfl) rfl
theorem q748 : (Jvm.Cond.methodLink "PolygonBoardLaw" (24 : Nat) ({ cls := "PolygonBoard", name := "moveTo", desc := "(II)I" } : Jvm.MethodName)) ∈ lw_all := lw_g (lw_at lw_m3 218 rfl) rfl
theorem q773 : (Jvm.Cond.methodLink "PolygonBoardLaw" (197 : Nat) ({ cls := "PolygonBoardLaw", name := "lineTo", desc := "(LPolygonBoard;II[J)I" } : Jvm.MethodName)) ∈ lw_all := lw_g (lw_at lw_m4 3 rfl) rfl
theorem q774 : (Jvm.Cond.static ({ cls := "PolygonBoardLaw", name := "lineTo", desc := "(LPolygonBoard;II[J)I" } : Jvm.MethodName)) ∈ lw_all := lw_g (lw_at lw_m4 4 rfl) rfl
theorem q775 : (Jvm.Cond.codeWith ({ cls := "PolygonBoardLaw", name := "lineTo", desc := "(LPolygonBoard;II[J)I" } : Jvm.MethodName) method_7_code (5 : Nat) (Option.some Jvm.ClassFile.FieldType.int) [((0 : Nat), (10 : Nat), (13 : Nat), (31 : Nat)), ((0 : Nat), (10 : Nat), (17 : Nat), (15 : Nat))]) ∈ lw_all := lw_g (lw_at lw_m4 5 rfl) rfl
theorem q776 : (Jvm.Cond.classLink "PolygonBoardLaw" (31 : Nat) "java/lang/IllegalStateException") ∈ lw_all := lw_g (lw_at lw_m4 6 rfl) rfl
theorem q777 : (Jvm.Cond.methodLink "PolygonBoardLaw" (28 : Nat) ({ cls := "PolygonBoard", name := "lineTo", desc := "(II)I" } : Jvm.MethodName)) ∈ lw_all := lw_g (lw_at lw_m4 7 rfl) rfl
theorem q805 : (Jvm.Cond.methodLink "PolygonBoardLaw" (200 : Nat) ({ cls := "PolygonBoardLaw", name := "closePath", desc := "(LPolygonBoard;IZ[J)I" } : Jvm.MethodName)) ∈ lw_all := lw_g (lw_at lw_m4 35 rfl) rfl
theorem q806 : (Jvm.Cond.static ({ cls := "PolygonBoardLaw", name := "closePath", desc := "(LPolygonBoard;IZ[J)I" } : Jvm.MethodName)) ∈ lw_all := lw_g (lw_at lw_m4 36 rfl) rfl
theorem q807 : (Jvm.Cond.codeWith ({ cls := "PolygonBoardLaw", name := "closePath", desc := "(LPolygonBoard;IZ[J)I" } : Jvm.MethodName) method_8_code (5 : Nat) (Option.some Jvm.ClassFile.FieldType.int) [((0 : Nat), (10 : Nat), (13 : Nat), (13 : Nat)), ((0 : Nat), (10 : Nat), (17 : Nat), (31 : Nat))]) ∈ lw_all := lw_g (lw_at lw_m4 37 rfl) rfl
theorem q808 : (Jvm.Cond.methodLink "PolygonBoardLaw" (33 : Nat) ({ cls := "PolygonBoard", name := "closePath", desc := "(IZ)I" } : Jvm.MethodName)) ∈ lw_all := lw_g (lw_at lw_m4 38 rfl) rfl
theorem q835 : (Jvm.Cond.methodLink "PolygonBoardLaw" (204 : Nat) ({ cls := "PolygonBoardLaw", name := "combine", desc := "(LPolygonBoard;CIII[J)I" } : Jvm.MethodName)) ∈ lw_all := lw_g (lw_at lw_m4 65 rfl) rfl
theorem q836 : (Jvm.Cond.static ({ cls := "PolygonBoardLaw", name := "combine", desc := "(LPolygonBoard;CIII[J)I" } : Jvm.MethodName)) ∈ lw_all := lw_g (lw_at lw_m4 66 rfl) rfl
theorem q837 : (Jvm.Cond.codeWith ({ cls := "PolygonBoardLaw", name := "combine", desc := "(LPolygonBoard;CIII[J)I" } : Jvm.MethodName) method_9_code (7 : Nat) (Option.some Jvm.ClassFile.FieldType.int) [((0 : Nat), (14 : Nat), (17 : Nat), (13 : Nat)), ((0 : Nat), (14 : Nat), (21 : Nat), (15 : Nat))]) ∈ lw_all := lw_g (lw_at lw_m4 67 rfl) rfl
theorem q838 : (Jvm.Cond.methodLink "PolygonBoardLaw" (37 : Nat) ({ cls := "PolygonBoard", name := "combine", desc := "(CIII)I" } : Jvm.MethodName)) ∈ lw_all := lw_g (lw_at lw_m4 68 rfl) rfl
theorem q858 : (Jvm.Cond.methodLink "PolygonBoardLaw" (208 : Nat) ({ cls := "PolygonBoardLaw", name := "grow", desc := "(LPolygonBoard;III[J)I" } : Jvm.MethodName)) ∈ lw_all := lw_g (lw_at lw_m4 88 rfl) rfl
theorem q859 : (Jvm.Cond.static ({ cls := "PolygonBoardLaw", name := "grow", desc := "(LPolygonBoard;III[J)I" } : Jvm.MethodName)) ∈ lw_all := lw_g (lw_at lw_m4 89 rfl) rfl
theorem q860 : (Jvm.Cond.codeWith ({ cls := "PolygonBoardLaw", name := "grow", desc := "(LPolygonBoard;III[J)I" } : Jvm.MethodName) method_10_code (6 : Nat) (Option.some Jvm.ClassFile.FieldType.int) [((0 : Nat), (12 : Nat), (15 : Nat), (13 : Nat)), ((0 : Nat), (12 : Nat), (19 : Nat), (15 : Nat))]) ∈ lw_all := lw_g (lw_at lw_m4 90 rfl) rfl
theorem q861 : (Jvm.Cond.methodLink "PolygonBoardLaw" (41 : Nat) ({ cls := "PolygonBoard", name := "grow", desc := "(III)I" } : Jvm.MethodName)) ∈ lw_all := lw_g (lw_at lw_m4 91 rfl) rfl
theorem q904 : (Jvm.Cond.methodLink "PolygonBoardLaw" (212 : Nat) ({ cls := "PolygonBoardLaw", name := "shrink", desc := "(LPolygonBoard;III[J)I" } : Jvm.MethodName)) ∈ lw_all := lw_g (lw_at lw_m4 134 rfl) rfl
theorem q905 : (Jvm.Cond.static ({ cls := "PolygonBoardLaw", name := "shrink", desc := "(LPolygonBoard;III[J)I" } : Jvm.MethodName)) ∈ lw_all := lw_g (lw_at lw_m4 135 rfl) rfl
theorem q906 : (Jvm.Cond.codeWith ({ cls := "PolygonBoardLaw", name := "shrink", desc := "(LPolygonBoard;III[J)I" } : Jvm.MethodName) method_11_code (6 : Nat) (Option.some Jvm.ClassFile.FieldType.int) [((0 : Nat), (12 : Nat), (15 : Nat), (13 : Nat)), ((0 : Nat), (12 : Nat), (19 : Nat), (15 : Nat))]) ∈ lw_all := lw_g (lw_at lw_m4 136 rfl) rfl
theorem q907 : (Jvm.Cond.methodLink "PolygonBoardLaw" (45 : Nat) ({ cls := "PolygonBoard", name := "shrink", desc := "(III)I" } : Jvm.MethodName)) ∈ lw_all := lw_g (lw_at lw_m4 137 rfl) rfl
theorem q917 : (Jvm.Cond.methodLink "PolygonBoardLaw" (215 : Nat) ({ cls := "PolygonBoardLaw", name := "move", desc := "(LPolygonBoard;IIII[J)I" } : Jvm.MethodName)) ∈ lw_all := lw_g (lw_at lw_m4 147 rfl) rfl
theorem q918 : (Jvm.Cond.static ({ cls := "PolygonBoardLaw", name := "move", desc := "(LPolygonBoard;IIII[J)I" } : Jvm.MethodName)) ∈ lw_all := lw_g (lw_at lw_m4 148 rfl) rfl
theorem q919 : (Jvm.Cond.codeWith ({ cls := "PolygonBoardLaw", name := "move", desc := "(LPolygonBoard;IIII[J)I" } : Jvm.MethodName) method_12_code (7 : Nat) (Option.some Jvm.ClassFile.FieldType.int) [((0 : Nat), (14 : Nat), (17 : Nat), (13 : Nat)), ((0 : Nat), (14 : Nat), (21 : Nat), (15 : Nat))]) ∈ lw_all := lw_g (lw_at lw_m4 149 rfl) rfl
theorem q920 : (Jvm.Cond.methodLink "PolygonBoardLaw" (48 : Nat) ({ cls := "PolygonBoard", name := "move", desc := "(IIII)I" } : Jvm.MethodName)) ∈ lw_all := lw_g (lw_at lw_m4 150 rfl) rfl
theorem q933 : (Jvm.Cond.methodLink "PolygonBoardLaw" (219 : Nat) ({ cls := "PolygonBoardLaw", name := "turn", desc := "(LPolygonBoard;II[J)I" } : Jvm.MethodName)) ∈ lw_all := lw_g (lw_at lw_m4 163 rfl) rfl
theorem q934 : (Jvm.Cond.static ({ cls := "PolygonBoardLaw", name := "turn", desc := "(LPolygonBoard;II[J)I" } : Jvm.MethodName)) ∈ lw_all := lw_g (lw_at lw_m4 164 rfl) rfl
theorem q935 : (Jvm.Cond.codeWith ({ cls := "PolygonBoardLaw", name := "turn", desc := "(LPolygonBoard;II[J)I" } : Jvm.MethodName) method_13_code (5 : Nat) (Option.some Jvm.ClassFile.FieldType.int) [((0 : Nat), (10 : Nat), (13 : Nat), (13 : Nat))]) ∈ lw_all := lw_g (lw_at lw_m4 165 rfl) rfl
theorem q936 : (Jvm.Cond.methodLink "PolygonBoardLaw" (52 : Nat) ({ cls := "PolygonBoard", name := "turn", desc := "(II)I" } : Jvm.MethodName)) ∈ lw_all := lw_g (lw_at lw_m4 166 rfl) rfl
theorem q949 : (Jvm.Cond.methodLink "PolygonBoardLaw" (222 : Nat) ({ cls := "PolygonBoardLaw", name := "mirror", desc := "(LPolygonBoard;II[J)I" } : Jvm.MethodName)) ∈ lw_all := lw_g (lw_at lw_m4 179 rfl) rfl
theorem q950 : (Jvm.Cond.static ({ cls := "PolygonBoardLaw", name := "mirror", desc := "(LPolygonBoard;II[J)I" } : Jvm.MethodName)) ∈ lw_all := lw_g (lw_at lw_m4 180 rfl) rfl
theorem q951 : (Jvm.Cond.codeWith ({ cls := "PolygonBoardLaw", name := "mirror", desc := "(LPolygonBoard;II[J)I" } : Jvm.MethodName) method_14_code (5 : Nat) (Option.some Jvm.ClassFile.FieldType.int) [((0 : Nat), (10 : Nat), (13 : Nat), (13 : Nat))]) ∈ lw_all := lw_g (lw_at lw_m4 181 rfl) rfl
theorem q952 : (Jvm.Cond.methodLink "PolygonBoardLaw" (55 : Nat) ({ cls := "PolygonBoard", name := "mirror", desc := "(II)I" } : Jvm.MethodName)) ∈ lw_all := lw_g (lw_at lw_m4 182 rfl) rfl
theorem q964 : (Jvm.Cond.methodLink "PolygonBoardLaw" (225 : Nat) ({ cls := "PolygonBoardLaw", name := "fillHoles", desc := "(LPolygonBoard;II[J)I" } : Jvm.MethodName)) ∈ lw_all := lw_g (lw_at lw_m4 194 rfl) rfl
theorem q965 : (Jvm.Cond.static ({ cls := "PolygonBoardLaw", name := "fillHoles", desc := "(LPolygonBoard;II[J)I" } : Jvm.MethodName)) ∈ lw_all := lw_g (lw_at lw_m4 195 rfl) rfl
theorem q966 : (Jvm.Cond.codeWith ({ cls := "PolygonBoardLaw", name := "fillHoles", desc := "(LPolygonBoard;II[J)I" } : Jvm.MethodName) method_15_code (5 : Nat) (Option.some Jvm.ClassFile.FieldType.int) [((0 : Nat), (10 : Nat), (13 : Nat), (13 : Nat))]) ∈ lw_all := lw_g (lw_at lw_m4 196 rfl) rfl
theorem q967 : (Jvm.Cond.methodLink "PolygonBoardLaw" (58 : Nat) ({ cls := "PolygonBoard", name := "fillHoles", desc := "(II)I" } : Jvm.MethodName)) ∈ lw_all := lw_g (lw_at lw_m4 197 rfl) rfl
theorem q1042 : (Jvm.Cond.methodLink "PolygonBoardLaw" (228 : Nat) ({ cls := "PolygonBoardLaw", name := "keepPart", desc := "(LPolygonBoard;IIII[J)I" } : Jvm.MethodName)) ∈ lw_all := lw_g (lw_at lw_m5 32 rfl) rfl
theorem q1043 : (Jvm.Cond.static ({ cls := "PolygonBoardLaw", name := "keepPart", desc := "(LPolygonBoard;IIII[J)I" } : Jvm.MethodName)) ∈ lw_all := lw_g (lw_at lw_m5 33 rfl) rfl
theorem q1044 : (Jvm.Cond.codeWith ({ cls := "PolygonBoardLaw", name := "keepPart", desc := "(LPolygonBoard;IIII[J)I" } : Jvm.MethodName) method_16_code (7 : Nat) (Option.some Jvm.ClassFile.FieldType.int) [((0 : Nat), (14 : Nat), (17 : Nat), (13 : Nat)), ((0 : Nat), (14 : Nat), (21 : Nat), (15 : Nat)), ((0 : Nat), (14 : Nat), (25 : Nat), (64 : Nat))]) ∈ lw_all := lw_g (lw_at lw_m5 34 rfl) rfl
theorem q1045 : (Jvm.Cond.classLink "PolygonBoardLaw" (64 : Nat) "java/util/NoSuchElementException") ∈ lw_all := lw_g (lw_at lw_m5 35 rfl) rfl
theorem q1046 : (Jvm.Cond.methodLink "PolygonBoardLaw" (61 : Nat) ({ cls := "PolygonBoard", name := "keepPart", desc := "(IIII)I" } : Jvm.MethodName)) ∈ lw_all := lw_g (lw_at lw_m5 36 rfl) rfl
theorem q1101 : (Jvm.Cond.methodLink "PolygonBoardLaw" (235 : Nat) ({ cls := "PolygonBoardLaw", name := "contains", desc := "(LPolygonBoard;III[J)I" } : Jvm.MethodName)) ∈ lw_all := lw_g (lw_at lw_m5 91 rfl) rfl
theorem q1102 : (Jvm.Cond.static ({ cls := "PolygonBoardLaw", name := "contains", desc := "(LPolygonBoard;III[J)I" } : Jvm.MethodName)) ∈ lw_all := lw_g (lw_at lw_m5 92 rfl) rfl
theorem q1103 : (Jvm.Cond.codeWith ({ cls := "PolygonBoardLaw", name := "contains", desc := "(LPolygonBoard;III[J)I" } : Jvm.MethodName) method_17_code (6 : Nat) (Option.some Jvm.ClassFile.FieldType.int) [((0 : Nat), (19 : Nat), (22 : Nat), (13 : Nat)), ((0 : Nat), (19 : Nat), (26 : Nat), (15 : Nat))]) ∈ lw_all := lw_g (lw_at lw_m5 93 rfl) rfl
theorem q1104 : (Jvm.Cond.methodLink "PolygonBoardLaw" (66 : Nat) ({ cls := "PolygonBoard", name := "contains", desc := "(III)Z" } : Jvm.MethodName)) ∈ lw_all := lw_g (lw_at lw_m5 94 rfl) rfl
theorem q1112 : (Jvm.Cond.methodLink "PolygonBoardLaw" (238 : Nat) ({ cls := "PolygonBoardLaw", name := "area", desc := "(LPolygonBoard;I[J)I" } : Jvm.MethodName)) ∈ lw_all := lw_g (lw_at lw_m5 102 rfl) rfl
theorem q1113 : (Jvm.Cond.static ({ cls := "PolygonBoardLaw", name := "area", desc := "(LPolygonBoard;I[J)I" } : Jvm.MethodName)) ∈ lw_all := lw_g (lw_at lw_m5 103 rfl) rfl
theorem q1114 : (Jvm.Cond.codeWith ({ cls := "PolygonBoardLaw", name := "area", desc := "(LPolygonBoard;I[J)I" } : Jvm.MethodName) method_18_code (4 : Nat) (Option.some Jvm.ClassFile.FieldType.int) [((0 : Nat), (9 : Nat), (12 : Nat), (13 : Nat))]) ∈ lw_all := lw_g (lw_at lw_m5 104 rfl) rfl
theorem q1115 : (Jvm.Cond.methodLink "PolygonBoardLaw" (70 : Nat) ({ cls := "PolygonBoard", name := "area", desc := "(I)I" } : Jvm.MethodName)) ∈ lw_all := lw_g (lw_at lw_m5 105 rfl) rfl
theorem q1119 : (Jvm.Cond.methodLink "PolygonBoardLaw" (241 : Nat) ({ cls := "PolygonBoardLaw", name := "areaByCells", desc := "(LPolygonBoard;I[J)I" } : Jvm.MethodName)) ∈ lw_all := lw_g (lw_at lw_m5 109 rfl) rfl
theorem q1120 : (Jvm.Cond.static ({ cls := "PolygonBoardLaw", name := "areaByCells", desc := "(LPolygonBoard;I[J)I" } : Jvm.MethodName)) ∈ lw_all := lw_g (lw_at lw_m5 110 rfl) rfl
theorem q1121 : (Jvm.Cond.codeWith ({ cls := "PolygonBoardLaw", name := "areaByCells", desc := "(LPolygonBoard;I[J)I" } : Jvm.MethodName) method_19_code (4 : Nat) (Option.some Jvm.ClassFile.FieldType.int) [((0 : Nat), (9 : Nat), (12 : Nat), (13 : Nat))]) ∈ lw_all := lw_g (lw_at lw_m5 111 rfl) rfl
theorem q1122 : (Jvm.Cond.methodLink "PolygonBoardLaw" (73 : Nat) ({ cls := "PolygonBoard", name := "areaByCells", desc := "(I)I" } : Jvm.MethodName)) ∈ lw_all := lw_g (lw_at lw_m5 112 rfl) rfl
theorem q1136 : (Jvm.Cond.methodLink "PolygonBoardLaw" (244 : Nat) ({ cls := "PolygonBoardLaw", name := "perimeter", desc := "(LPolygonBoard;I[J)I" } : Jvm.MethodName)) ∈ lw_all := lw_g (lw_at lw_m5 126 rfl) rfl
theorem q1137 : (Jvm.Cond.static ({ cls := "PolygonBoardLaw", name := "perimeter", desc := "(LPolygonBoard;I[J)I" } : Jvm.MethodName)) ∈ lw_all := lw_g (lw_at lw_m5 127 rfl) rfl
theorem q1138 : (Jvm.Cond.codeWith ({ cls := "PolygonBoardLaw", name := "perimeter", desc := "(LPolygonBoard;I[J)I" } : Jvm.MethodName) method_20_code (4 : Nat) (Option.some Jvm.ClassFile.FieldType.int) [((0 : Nat), (9 : Nat), (12 : Nat), (13 : Nat))]) ∈ lw_all := lw_g (lw_at lw_m5 128 rfl) rfl
theorem q1139 : (Jvm.Cond.methodLink "PolygonBoardLaw" (76 : Nat) ({ cls := "PolygonBoard", name := "perimeter", desc := "(I)I" } : Jvm.MethodName)) ∈ lw_all := lw_g (lw_at lw_m5 129 rfl) rfl
theorem q1164 : (Jvm.Cond.methodLink "PolygonBoardLaw" (247 : Nat) ({ cls := "PolygonBoardLaw", name := "perimeterByCells", desc := "(LPolygonBoard;I[J)I" } : Jvm.MethodName)) ∈ lw_all := lw_g (lw_at lw_m5 154 rfl) rfl
theorem q1165 : (Jvm.Cond.static ({ cls := "PolygonBoardLaw", name := "perimeterByCells", desc := "(LPolygonBoard;I[J)I" } : Jvm.MethodName)) ∈ lw_all := lw_g (lw_at lw_m5 155 rfl) rfl
theorem q1166 : (Jvm.Cond.codeWith ({ cls := "PolygonBoardLaw", name := "perimeterByCells", desc := "(LPolygonBoard;I[J)I" } : Jvm.MethodName) method_21_code (4 : Nat) (Option.some Jvm.ClassFile.FieldType.int) [((0 : Nat), (9 : Nat), (12 : Nat), (13 : Nat))]) ∈ lw_all := lw_g (lw_at lw_m5 156 rfl) rfl
theorem q1167 : (Jvm.Cond.methodLink "PolygonBoardLaw" (79 : Nat) ({ cls := "PolygonBoard", name := "perimeterByCells", desc := "(I)I" } : Jvm.MethodName)) ∈ lw_all := lw_g (lw_at lw_m5 157 rfl) rfl
theorem q1180 : (Jvm.Cond.methodLink "PolygonBoardLaw" (250 : Nat) ({ cls := "PolygonBoardLaw", name := "bandCount", desc := "(LPolygonBoard;I[J)I" } : Jvm.MethodName)) ∈ lw_all := lw_g (lw_at lw_m5 170 rfl) rfl
theorem q1181 : (Jvm.Cond.static ({ cls := "PolygonBoardLaw", name := "bandCount", desc := "(LPolygonBoard;I[J)I" } : Jvm.MethodName)) ∈ lw_all := lw_g (lw_at lw_m5 171 rfl) rfl
theorem q1182 : (Jvm.Cond.codeWith ({ cls := "PolygonBoardLaw", name := "bandCount", desc := "(LPolygonBoard;I[J)I" } : Jvm.MethodName) method_22_code (4 : Nat) (Option.some Jvm.ClassFile.FieldType.int) [((0 : Nat), (9 : Nat), (12 : Nat), (13 : Nat))]) ∈ lw_all := lw_g (lw_at lw_m5 172 rfl) rfl
theorem q1183 : (Jvm.Cond.methodLink "PolygonBoardLaw" (82 : Nat) ({ cls := "PolygonBoard", name := "bandCount", desc := "(I)I" } : Jvm.MethodName)) ∈ lw_all := lw_g (lw_at lw_m5 173 rfl) rfl
theorem q1189 : (Jvm.Cond.methodLink "PolygonBoardLaw" (253 : Nat) ({ cls := "PolygonBoardLaw", name := "rectangleCount", desc := "(LPolygonBoard;I[J)I" } : Jvm.MethodName)) ∈ lw_all := lw_g (lw_at lw_m5 179 rfl) rfl
theorem q1190 : (Jvm.Cond.static ({ cls := "PolygonBoardLaw", name := "rectangleCount", desc := "(LPolygonBoard;I[J)I" } : Jvm.MethodName)) ∈ lw_all := lw_g (lw_at lw_m5 180 rfl) rfl
theorem q1191 : (Jvm.Cond.codeWith ({ cls := "PolygonBoardLaw", name := "rectangleCount", desc := "(LPolygonBoard;I[J)I" } : Jvm.MethodName) method_23_code (4 : Nat) (Option.some Jvm.ClassFile.FieldType.int) [((0 : Nat), (9 : Nat), (12 : Nat), (13 : Nat))]) ∈ lw_all := lw_g (lw_at lw_m5 181 rfl) rfl
theorem q1192 : (Jvm.Cond.methodLink "PolygonBoardLaw" (85 : Nat) ({ cls := "PolygonBoard", name := "rectangleCount", desc := "(I)I" } : Jvm.MethodName)) ∈ lw_all := lw_g (lw_at lw_m5 182 rfl) rfl
theorem q1199 : (Jvm.Cond.methodLink "PolygonBoardLaw" (256 : Nat) ({ cls := "PolygonBoardLaw", name := "partCount", desc := "(LPolygonBoard;I[J)I" } : Jvm.MethodName)) ∈ lw_all := lw_g (lw_at lw_m5 189 rfl) rfl
theorem q1200 : (Jvm.Cond.static ({ cls := "PolygonBoardLaw", name := "partCount", desc := "(LPolygonBoard;I[J)I" } : Jvm.MethodName)) ∈ lw_all := lw_g (lw_at lw_m5 190 rfl) rfl
theorem q1201 : (Jvm.Cond.codeWith ({ cls := "PolygonBoardLaw", name := "partCount", desc := "(LPolygonBoard;I[J)I" } : Jvm.MethodName) method_24_code (4 : Nat) (Option.some Jvm.ClassFile.FieldType.int) [((0 : Nat), (9 : Nat), (12 : Nat), (13 : Nat))]) ∈ lw_all := lw_g (lw_at lw_m5 191 rfl) rfl
theorem q1202 : (Jvm.Cond.methodLink "PolygonBoardLaw" (88 : Nat) ({ cls := "PolygonBoard", name := "partCount", desc := "(I)I" } : Jvm.MethodName)) ∈ lw_all := lw_g (lw_at lw_m5 192 rfl) rfl
theorem q1206 : (Jvm.Cond.methodLink "PolygonBoardLaw" (259 : Nat) ({ cls := "PolygonBoardLaw", name := "partCountByCells", desc := "(LPolygonBoard;I[J)I" } : Jvm.MethodName)) ∈ lw_all := lw_g (lw_at lw_m5 196 rfl) rfl
theorem q1207 : (Jvm.Cond.static ({ cls := "PolygonBoardLaw", name := "partCountByCells", desc := "(LPolygonBoard;I[J)I" } : Jvm.MethodName)) ∈ lw_all := lw_g (lw_at lw_m5 197 rfl) rfl
theorem q1208 : (Jvm.Cond.codeWith ({ cls := "PolygonBoardLaw", name := "partCountByCells", desc := "(LPolygonBoard;I[J)I" } : Jvm.MethodName) method_25_code (4 : Nat) (Option.some Jvm.ClassFile.FieldType.int) [((0 : Nat), (9 : Nat), (12 : Nat), (13 : Nat))]) ∈ lw_all := lw_g (lw_at lw_m5 198 rfl) rfl
theorem q1209 : (Jvm.Cond.methodLink "PolygonBoardLaw" (91 : Nat) ({ cls := "PolygonBoard", name := "partCountByCells", desc := "(I)I" } : Jvm.MethodName)) ∈ lw_all := lw_g (lw_at lw_m5 199 rfl) rfl
theorem q1217 : (Jvm.Cond.methodLink "PolygonBoardLaw" (262 : Nat) ({ cls := "PolygonBoardLaw", name := "holeCount", desc := "(LPolygonBoard;I[J)I" } : Jvm.MethodName)) ∈ lw_all := lw_g (lw_at lw_m5 207 rfl) rfl
theorem q1218 : (Jvm.Cond.static ({ cls := "PolygonBoardLaw", name := "holeCount", desc := "(LPolygonBoard;I[J)I" } : Jvm.MethodName)) ∈ lw_all := lw_g (lw_at lw_m5 208 rfl) rfl
theorem q1219 : (Jvm.Cond.codeWith ({ cls := "PolygonBoardLaw", name := "holeCount", desc := "(LPolygonBoard;I[J)I" } : Jvm.MethodName) method_26_code (4 : Nat) (Option.some Jvm.ClassFile.FieldType.int) [((0 : Nat), (9 : Nat), (12 : Nat), (13 : Nat))]) ∈ lw_all := lw_g (lw_at lw_m5 209 rfl) rfl
theorem q1220 : (Jvm.Cond.methodLink "PolygonBoardLaw" (94 : Nat) ({ cls := "PolygonBoard", name := "holeCount", desc := "(I)I" } : Jvm.MethodName)) ∈ lw_all := lw_g (lw_at lw_m5 210 rfl) rfl
theorem q1323 : (Jvm.Cond.methodLink "PolygonBoardLaw" (265 : Nat) ({ cls := "PolygonBoardLaw", name := "holeCountByCells", desc := "(LPolygonBoard;I[J)I" } : Jvm.MethodName)) ∈ lw_all := lw_g (lw_at lw_m6 73 rfl) rfl
theorem q1324 : (Jvm.Cond.static ({ cls := "PolygonBoardLaw", name := "holeCountByCells", desc := "(LPolygonBoard;I[J)I" } : Jvm.MethodName)) ∈ lw_all := lw_g (lw_at lw_m6 74 rfl) rfl
theorem q1325 : (Jvm.Cond.codeWith ({ cls := "PolygonBoardLaw", name := "holeCountByCells", desc := "(LPolygonBoard;I[J)I" } : Jvm.MethodName) method_27_code (4 : Nat) (Option.some Jvm.ClassFile.FieldType.int) [((0 : Nat), (9 : Nat), (12 : Nat), (13 : Nat))]) ∈ lw_all := lw_g (lw_at lw_m6 75 rfl) rfl
theorem q1326 : (Jvm.Cond.methodLink "PolygonBoardLaw" (97 : Nat) ({ cls := "PolygonBoard", name := "holeCountByCells", desc := "(I)I" } : Jvm.MethodName)) ∈ lw_all := lw_g (lw_at lw_m6 76 rfl) rfl
theorem q1330 : (Jvm.Cond.methodLink "PolygonBoardLaw" (268 : Nat) ({ cls := "PolygonBoardLaw", name := "isSame", desc := "(LPolygonBoard;II[J)I" } : Jvm.MethodName)) ∈ lw_all := lw_g (lw_at lw_m6 80 rfl) rfl
theorem q1331 : (Jvm.Cond.static ({ cls := "PolygonBoardLaw", name := "isSame", desc := "(LPolygonBoard;II[J)I" } : Jvm.MethodName)) ∈ lw_all := lw_g (lw_at lw_m6 81 rfl) rfl
theorem q1332 : (Jvm.Cond.codeWith ({ cls := "PolygonBoardLaw", name := "isSame", desc := "(LPolygonBoard;II[J)I" } : Jvm.MethodName) method_28_code (5 : Nat) (Option.some Jvm.ClassFile.FieldType.int) [((0 : Nat), (17 : Nat), (20 : Nat), (13 : Nat))]) ∈ lw_all := lw_g (lw_at lw_m6 82 rfl) rfl
theorem q1333 : (Jvm.Cond.methodLink "PolygonBoardLaw" (100 : Nat) ({ cls := "PolygonBoard", name := "isSame", desc := "(II)Z" } : Jvm.MethodName)) ∈ lw_all := lw_g (lw_at lw_m6 83 rfl) rfl
theorem q1339 : (Jvm.Cond.methodLink "PolygonBoardLaw" (271 : Nat) ({ cls := "PolygonBoardLaw", name := "covers", desc := "(LPolygonBoard;II[J)I" } : Jvm.MethodName)) ∈ lw_all := lw_g (lw_at lw_m6 89 rfl) rfl
theorem q1340 : (Jvm.Cond.static ({ cls := "PolygonBoardLaw", name := "covers", desc := "(LPolygonBoard;II[J)I" } : Jvm.MethodName)) ∈ lw_all := lw_g (lw_at lw_m6 90 rfl) rfl
theorem q1341 : (Jvm.Cond.codeWith ({ cls := "PolygonBoardLaw", name := "covers", desc := "(LPolygonBoard;II[J)I" } : Jvm.MethodName) method_29_code (5 : Nat) (Option.some Jvm.ClassFile.FieldType.int) [((0 : Nat), (17 : Nat), (20 : Nat), (13 : Nat))]) ∈ lw_all := lw_g (lw_at lw_m6 91 rfl) rfl
theorem q1342 : (Jvm.Cond.methodLink "PolygonBoardLaw" (104 : Nat) ({ cls := "PolygonBoard", name := "covers", desc := "(II)Z" } : Jvm.MethodName)) ∈ lw_all := lw_g (lw_at lw_m6 92 rfl) rfl
theorem q1346 : (Jvm.Cond.methodLink "PolygonBoardLaw" (274 : Nat) ({ cls := "PolygonBoardLaw", name := "left", desc := "(LPolygonBoard;I[J)I" } : Jvm.MethodName)) ∈ lw_all := lw_g (lw_at lw_m6 96 rfl) rfl
theorem q1347 : (Jvm.Cond.static ({ cls := "PolygonBoardLaw", name := "left", desc := "(LPolygonBoard;I[J)I" } : Jvm.MethodName)) ∈ lw_all := lw_g (lw_at lw_m6 97 rfl) rfl
theorem q1348 : (Jvm.Cond.codeWith ({ cls := "PolygonBoardLaw", name := "left", desc := "(LPolygonBoard;I[J)I" } : Jvm.MethodName) method_30_code (4 : Nat) (Option.some Jvm.ClassFile.FieldType.int) [((0 : Nat), (9 : Nat), (12 : Nat), (13 : Nat)), ((0 : Nat), (9 : Nat), (15 : Nat), (64 : Nat))]) ∈ lw_all := lw_g (lw_at lw_m6 98 rfl) rfl
theorem q1349 : (Jvm.Cond.methodLink "PolygonBoardLaw" (107 : Nat) ({ cls := "PolygonBoard", name := "left", desc := "(I)I" } : Jvm.MethodName)) ∈ lw_all := lw_g (lw_at lw_m6 99 rfl) rfl
theorem q1362 : (Jvm.Cond.methodLink "PolygonBoardLaw" (277 : Nat) ({ cls := "PolygonBoardLaw", name := "right", desc := "(LPolygonBoard;I[J)I" } : Jvm.MethodName)) ∈ lw_all := lw_g (lw_at lw_m6 112 rfl) rfl
theorem q1363 : (Jvm.Cond.static ({ cls := "PolygonBoardLaw", name := "right", desc := "(LPolygonBoard;I[J)I" } : Jvm.MethodName)) ∈ lw_all := lw_g (lw_at lw_m6 113 rfl) rfl
theorem q1364 : (Jvm.Cond.codeWith ({ cls := "PolygonBoardLaw", name := "right", desc := "(LPolygonBoard;I[J)I" } : Jvm.MethodName) method_31_code (4 : Nat) (Option.some Jvm.ClassFile.FieldType.int) [((0 : Nat), (9 : Nat), (12 : Nat), (13 : Nat)), ((0 : Nat), (9 : Nat), (15 : Nat), (64 : Nat))]) ∈ lw_all := lw_g (lw_at lw_m6 114 rfl) rfl
theorem q1365 : (Jvm.Cond.methodLink "PolygonBoardLaw" (110 : Nat) ({ cls := "PolygonBoard", name := "right", desc := "(I)I" } : Jvm.MethodName)) ∈ lw_all := lw_g (lw_at lw_m6 115 rfl) rfl
theorem q1374 : (Jvm.Cond.methodLink "PolygonBoardLaw" (280 : Nat) ({ cls := "PolygonBoardLaw", name := "bottom", desc := "(LPolygonBoard;I[J)I" } : Jvm.MethodName)) ∈ lw_all := lw_g (lw_at lw_m6 124 rfl) rfl
theorem q1375 : (Jvm.Cond.static ({ cls := "PolygonBoardLaw", name := "bottom", desc := "(LPolygonBoard;I[J)I" } : Jvm.MethodName)) ∈ lw_all := lw_g (lw_at lw_m6 125 rfl) rfl
theorem q1376 : (Jvm.Cond.codeWith ({ cls := "PolygonBoardLaw", name := "bottom", desc := "(LPolygonBoard;I[J)I" } : Jvm.MethodName) method_32_code (4 : Nat) (Option.some Jvm.ClassFile.FieldType.int) [((0 : Nat), (9 : Nat), (12 : Nat), (13 : Nat)), ((0 : Nat), (9 : Nat), (15 : Nat), (64 : Nat))]) ∈ lw_all := lw_g (lw_at lw_m6 126 rfl) rfl
theorem q1377 : (Jvm.Cond.methodLink "PolygonBoardLaw" (113 : Nat) ({ cls := "PolygonBoard", name := "bottom", desc := "(I)I" } : Jvm.MethodName)) ∈ lw_all := lw_g (lw_at lw_m6 127 rfl) rfl
theorem q1385 : (Jvm.Cond.methodLink "PolygonBoardLaw" (283 : Nat) ({ cls := "PolygonBoardLaw", name := "top", desc := "(LPolygonBoard;I[J)I" } : Jvm.MethodName)) ∈ lw_all := lw_g (lw_at lw_m6 135 rfl) rfl
theorem q1386 : (Jvm.Cond.static ({ cls := "PolygonBoardLaw", name := "top", desc := "(LPolygonBoard;I[J)I" } : Jvm.MethodName)) ∈ lw_all := lw_g (lw_at lw_m6 136 rfl) rfl
theorem q1387 : (Jvm.Cond.codeWith ({ cls := "PolygonBoardLaw", name := "top", desc := "(LPolygonBoard;I[J)I" } : Jvm.MethodName) method_33_code (4 : Nat) (Option.some Jvm.ClassFile.FieldType.int) [((0 : Nat), (9 : Nat), (12 : Nat), (13 : Nat)), ((0 : Nat), (9 : Nat), (15 : Nat), (64 : Nat))]) ∈ lw_all := lw_g (lw_at lw_m6 137 rfl) rfl
theorem q1388 : (Jvm.Cond.methodLink "PolygonBoardLaw" (116 : Nat) ({ cls := "PolygonBoard", name := "top", desc := "(I)I" } : Jvm.MethodName)) ∈ lw_all := lw_g (lw_at lw_m6 138 rfl) rfl
theorem q1393 : (Jvm.Cond.methodLink "PolygonBoardLaw" (286 : Nat) ({ cls := "PolygonBoardLaw", name := "largestRectangle", desc := "(LPolygonBoard;I[J)I" } : Jvm.MethodName)) ∈ lw_all := lw_g (lw_at lw_m6 143 rfl) rfl
theorem q1394 : (Jvm.Cond.static ({ cls := "PolygonBoardLaw", name := "largestRectangle", desc := "(LPolygonBoard;I[J)I" } : Jvm.MethodName)) ∈ lw_all := lw_g (lw_at lw_m6 144 rfl) rfl
theorem q1395 : (Jvm.Cond.codeWith ({ cls := "PolygonBoardLaw", name := "largestRectangle", desc := "(LPolygonBoard;I[J)I" } : Jvm.MethodName) method_34_code (4 : Nat) (Option.some Jvm.ClassFile.FieldType.int) [((0 : Nat), (9 : Nat), (12 : Nat), (13 : Nat))]) ∈ lw_all := lw_g (lw_at lw_m6 145 rfl) rfl
theorem q1396 : (Jvm.Cond.methodLink "PolygonBoardLaw" (119 : Nat) ({ cls := "PolygonBoard", name := "largestRectangle", desc := "(I)I" } : Jvm.MethodName)) ∈ lw_all := lw_g (lw_at lw_m6 146 rfl) rfl
theorem q1435 : (Jvm.Cond.methodLink "PolygonBoardLaw" (289 : Nat) ({ cls := "PolygonBoardLaw", name := "largestRectangleByCells", desc := "(LPolygonBoard;I[J)I" } : Jvm.MethodName)) ∈ lw_all := lw_g (lw_at lw_m6 185 rfl) rfl
theorem q1436 : (Jvm.Cond.static ({ cls := "PolygonBoardLaw", name := "largestRectangleByCells", desc := "(LPolygonBoard;I[J)I" } : Jvm.MethodName)) ∈ lw_all := lw_g (lw_at lw_m6 186 rfl) rfl
theorem q1437 : (Jvm.Cond.codeWith ({ cls := "PolygonBoardLaw", name := "largestRectangleByCells", desc := "(LPolygonBoard;I[J)I" } : Jvm.MethodName) method_35_code (4 : Nat) (Option.some Jvm.ClassFile.FieldType.int) [((0 : Nat), (9 : Nat), (12 : Nat), (13 : Nat))]) ∈ lw_all := lw_g (lw_at lw_m6 187 rfl) rfl
theorem q1438 : (Jvm.Cond.methodLink "PolygonBoardLaw" (122 : Nat) ({ cls := "PolygonBoard", name := "largestRectangleByCells", desc := "(I)I" } : Jvm.MethodName)) ∈ lw_all := lw_g (lw_at lw_m6 188 rfl) rfl
theorem q1522 : (Jvm.Cond.methodLink "PolygonBoardLaw" (292 : Nat) ({ cls := "PolygonBoardLaw", name := "largestSquare", desc := "(LPolygonBoard;I[J)I" } : Jvm.MethodName)) ∈ lw_all := lw_g (lw_at lw_m7 32 rfl) rfl
theorem q1523 : (Jvm.Cond.static ({ cls := "PolygonBoardLaw", name := "largestSquare", desc := "(LPolygonBoard;I[J)I" } : Jvm.MethodName)) ∈ lw_all := lw_g (lw_at lw_m7 33 rfl) rfl
theorem q1524 : (Jvm.Cond.codeWith ({ cls := "PolygonBoardLaw", name := "largestSquare", desc := "(LPolygonBoard;I[J)I" } : Jvm.MethodName) method_36_code (4 : Nat) (Option.some Jvm.ClassFile.FieldType.int) [((0 : Nat), (9 : Nat), (12 : Nat), (13 : Nat))]) ∈ lw_all := lw_g (lw_at lw_m7 34 rfl) rfl
theorem q1525 : (Jvm.Cond.methodLink "PolygonBoardLaw" (125 : Nat) ({ cls := "PolygonBoard", name := "largestSquare", desc := "(I)I" } : Jvm.MethodName)) ∈ lw_all := lw_g (lw_at lw_m7 35 rfl) rfl
theorem q1529 : (Jvm.Cond.methodLink "PolygonBoardLaw" (295 : Nat) ({ cls := "PolygonBoardLaw", name := "largestSquareByCells", desc := "(LPolygonBoard;I[J)I" } : Jvm.MethodName)) ∈ lw_all := lw_g (lw_at lw_m7 39 rfl) rfl
theorem q1530 : (Jvm.Cond.static ({ cls := "PolygonBoardLaw", name := "largestSquareByCells", desc := "(LPolygonBoard;I[J)I" } : Jvm.MethodName)) ∈ lw_all := lw_g (lw_at lw_m7 40 rfl) rfl
theorem q1531 : (Jvm.Cond.codeWith ({ cls := "PolygonBoardLaw", name := "largestSquareByCells", desc := "(LPolygonBoard;I[J)I" } : Jvm.MethodName) method_37_code (4 : Nat) (Option.some Jvm.ClassFile.FieldType.int) [((0 : Nat), (9 : Nat), (12 : Nat), (13 : Nat))]) ∈ lw_all := lw_g (lw_at lw_m7 41 rfl) rfl
theorem q1532 : (Jvm.Cond.methodLink "PolygonBoardLaw" (128 : Nat) ({ cls := "PolygonBoard", name := "largestSquareByCells", desc := "(I)I" } : Jvm.MethodName)) ∈ lw_all := lw_g (lw_at lw_m7 42 rfl) rfl
theorem q1541 : (Jvm.Cond.methodLink "PolygonBoardLaw" (298 : Nat) ({ cls := "PolygonBoardLaw", name := "steps", desc := "(LPolygonBoard;IIIII[J)I" } : Jvm.MethodName)) ∈ lw_all := lw_g (lw_at lw_m7 51 rfl) rfl
theorem q1542 : (Jvm.Cond.static ({ cls := "PolygonBoardLaw", name := "steps", desc := "(LPolygonBoard;IIIII[J)I" } : Jvm.MethodName)) ∈ lw_all := lw_g (lw_at lw_m7 52 rfl) rfl
theorem q1543 : (Jvm.Cond.codeWith ({ cls := "PolygonBoardLaw", name := "steps", desc := "(LPolygonBoard;IIIII[J)I" } : Jvm.MethodName) method_38_code (8 : Nat) (Option.some Jvm.ClassFile.FieldType.int) [((0 : Nat), (16 : Nat), (19 : Nat), (13 : Nat)), ((0 : Nat), (16 : Nat), (23 : Nat), (15 : Nat)), ((0 : Nat), (16 : Nat), (27 : Nat), (64 : Nat))]) ∈ lw_all := lw_g (lw_at lw_m7 53 rfl) rfl
theorem q1544 : (Jvm.Cond.methodLink "PolygonBoardLaw" (131 : Nat) ({ cls := "PolygonBoard", name := "steps", desc := "(IIIII)I" } : Jvm.MethodName)) ∈ lw_all := lw_g (lw_at lw_m7 54 rfl) rfl
theorem q1576 : (Jvm.Cond.methodLink "PolygonBoardLaw" (301 : Nat) ({ cls := "PolygonBoardLaw", name := "stepsByRows", desc := "(LPolygonBoard;IIIII[J)I" } : Jvm.MethodName)) ∈ lw_all := lw_g (lw_at lw_m7 86 rfl) rfl
theorem q1577 : (Jvm.Cond.static ({ cls := "PolygonBoardLaw", name := "stepsByRows", desc := "(LPolygonBoard;IIIII[J)I" } : Jvm.MethodName)) ∈ lw_all := lw_g (lw_at lw_m7 87 rfl) rfl
theorem q1578 : (Jvm.Cond.codeWith ({ cls := "PolygonBoardLaw", name := "stepsByRows", desc := "(LPolygonBoard;IIIII[J)I" } : Jvm.MethodName) method_39_code (8 : Nat) (Option.some Jvm.ClassFile.FieldType.int) [((0 : Nat), (16 : Nat), (19 : Nat), (13 : Nat)), ((0 : Nat), (16 : Nat), (23 : Nat), (15 : Nat)), ((0 : Nat), (16 : Nat), (27 : Nat), (64 : Nat))]) ∈ lw_all := lw_g (lw_at lw_m7 88 rfl) rfl
theorem q1579 : (Jvm.Cond.methodLink "PolygonBoardLaw" (134 : Nat) ({ cls := "PolygonBoard", name := "stepsByRows", desc := "(IIIII)I" } : Jvm.MethodName)) ∈ lw_all := lw_g (lw_at lw_m7 89 rfl) rfl
theorem q1585 : (Jvm.Cond.methodLink "PolygonBoardLaw" (304 : Nat) ({ cls := "PolygonBoardLaw", name := "outlineCount", desc := "(LPolygonBoard;I[J)I" } : Jvm.MethodName)) ∈ lw_all := lw_g (lw_at lw_m7 95 rfl) rfl
theorem q1586 : (Jvm.Cond.static ({ cls := "PolygonBoardLaw", name := "outlineCount", desc := "(LPolygonBoard;I[J)I" } : Jvm.MethodName)) ∈ lw_all := lw_g (lw_at lw_m7 96 rfl) rfl
theorem q1587 : (Jvm.Cond.codeWith ({ cls := "PolygonBoardLaw", name := "outlineCount", desc := "(LPolygonBoard;I[J)I" } : Jvm.MethodName) method_40_code (4 : Nat) (Option.some Jvm.ClassFile.FieldType.int) [((0 : Nat), (9 : Nat), (12 : Nat), (13 : Nat))]) ∈ lw_all := lw_g (lw_at lw_m7 97 rfl) rfl
theorem q1588 : (Jvm.Cond.methodLink "PolygonBoardLaw" (137 : Nat) ({ cls := "PolygonBoard", name := "outlineCount", desc := "(I)I" } : Jvm.MethodName)) ∈ lw_all := lw_g (lw_at lw_m7 98 rfl) rfl
theorem q1592 : (Jvm.Cond.methodLink "PolygonBoardLaw" (307 : Nat) ({ cls := "PolygonBoardLaw", name := "cornerCount", desc := "(LPolygonBoard;II[J)I" } : Jvm.MethodName)) ∈ lw_all := lw_g (lw_at lw_m7 102 rfl) rfl
theorem q1593 : (Jvm.Cond.static ({ cls := "PolygonBoardLaw", name := "cornerCount", desc := "(LPolygonBoard;II[J)I" } : Jvm.MethodName)) ∈ lw_all := lw_g (lw_at lw_m7 103 rfl) rfl
theorem q1594 : (Jvm.Cond.codeWith ({ cls := "PolygonBoardLaw", name := "cornerCount", desc := "(LPolygonBoard;II[J)I" } : Jvm.MethodName) method_41_code (5 : Nat) (Option.some Jvm.ClassFile.FieldType.int) [((0 : Nat), (10 : Nat), (13 : Nat), (13 : Nat)), ((0 : Nat), (10 : Nat), (17 : Nat), (64 : Nat))]) ∈ lw_all := lw_g (lw_at lw_m7 104 rfl) rfl
theorem q1595 : (Jvm.Cond.methodLink "PolygonBoardLaw" (140 : Nat) ({ cls := "PolygonBoard", name := "cornerCount", desc := "(II)I" } : Jvm.MethodName)) ∈ lw_all := lw_g (lw_at lw_m7 105 rfl) rfl
theorem q1603 : (Jvm.Cond.methodLink "PolygonBoardLaw" (310 : Nat) ({ cls := "PolygonBoardLaw", name := "cornerX", desc := "(LPolygonBoard;III[J)I" } : Jvm.MethodName)) ∈ lw_all := lw_g (lw_at lw_m7 113 rfl) rfl
theorem q1604 : (Jvm.Cond.static ({ cls := "PolygonBoardLaw", name := "cornerX", desc := "(LPolygonBoard;III[J)I" } : Jvm.MethodName)) ∈ lw_all := lw_g (lw_at lw_m7 114 rfl) rfl
theorem q1605 : (Jvm.Cond.codeWith ({ cls := "PolygonBoardLaw", name := "cornerX", desc := "(LPolygonBoard;III[J)I" } : Jvm.MethodName) method_42_code (6 : Nat) (Option.some Jvm.ClassFile.FieldType.int) [((0 : Nat), (12 : Nat), (15 : Nat), (13 : Nat)), ((0 : Nat), (12 : Nat), (19 : Nat), (64 : Nat))]) ∈ lw_all := lw_g (lw_at lw_m7 115 rfl) rfl
theorem q1606 : (Jvm.Cond.methodLink "PolygonBoardLaw" (143 : Nat) ({ cls := "PolygonBoard", name := "cornerX", desc := "(III)I" } : Jvm.MethodName)) ∈ lw_all := lw_g (lw_at lw_m7 116 rfl) rfl
theorem q1614 : (Jvm.Cond.methodLink "PolygonBoardLaw" (313 : Nat) ({ cls := "PolygonBoardLaw", name := "cornerY", desc := "(LPolygonBoard;III[J)I" } : Jvm.MethodName)) ∈ lw_all := lw_g (lw_at lw_m7 124 rfl) rfl
theorem q1615 : (Jvm.Cond.static ({ cls := "PolygonBoardLaw", name := "cornerY", desc := "(LPolygonBoard;III[J)I" } : Jvm.MethodName)) ∈ lw_all := lw_g (lw_at lw_m7 125 rfl) rfl
theorem q1616 : (Jvm.Cond.codeWith ({ cls := "PolygonBoardLaw", name := "cornerY", desc := "(LPolygonBoard;III[J)I" } : Jvm.MethodName) method_43_code (6 : Nat) (Option.some Jvm.ClassFile.FieldType.int) [((0 : Nat), (12 : Nat), (15 : Nat), (13 : Nat)), ((0 : Nat), (12 : Nat), (19 : Nat), (64 : Nat))]) ∈ lw_all := lw_g (lw_at lw_m7 126 rfl) rfl
theorem q1617 : (Jvm.Cond.methodLink "PolygonBoardLaw" (146 : Nat) ({ cls := "PolygonBoard", name := "cornerY", desc := "(III)I" } : Jvm.MethodName)) ∈ lw_all := lw_g (lw_at lw_m7 127 rfl) rfl
theorem q1621 : (Jvm.Cond.methodLink "PolygonBoardLaw" (316 : Nat) ({ cls := "PolygonBoardLaw", name := "signedArea", desc := "(LPolygonBoard;II[J)I" } : Jvm.MethodName)) ∈ lw_all := lw_g (lw_at lw_m7 131 rfl) rfl
theorem q1622 : (Jvm.Cond.static ({ cls := "PolygonBoardLaw", name := "signedArea", desc := "(LPolygonBoard;II[J)I" } : Jvm.MethodName)) ∈ lw_all := lw_g (lw_at lw_m7 132 rfl) rfl
theorem q1623 : (Jvm.Cond.codeWith ({ cls := "PolygonBoardLaw", name := "signedArea", desc := "(LPolygonBoard;II[J)I" } : Jvm.MethodName) method_44_code (5 : Nat) (Option.some Jvm.ClassFile.FieldType.int) [((0 : Nat), (10 : Nat), (13 : Nat), (13 : Nat)), ((0 : Nat), (10 : Nat), (17 : Nat), (64 : Nat))]) ∈ lw_all := lw_g (lw_at lw_m7 133 rfl) rfl
theorem q1624 : (Jvm.Cond.methodLink "PolygonBoardLaw" (149 : Nat) ({ cls := "PolygonBoard", name := "signedArea", desc := "(II)I" } : Jvm.MethodName)) ∈ lw_all := lw_g (lw_at lw_m7 134 rfl) rfl
theorem q1628 : (Jvm.Cond.methodLink "PolygonBoardLaw" (319 : Nat) ({ cls := "PolygonBoardLaw", name := "moment", desc := "(LPolygonBoard;I[J)I" } : Jvm.MethodName)) ∈ lw_all := lw_g (lw_at lw_m7 138 rfl) rfl
theorem q1629 : (Jvm.Cond.static ({ cls := "PolygonBoardLaw", name := "moment", desc := "(LPolygonBoard;I[J)I" } : Jvm.MethodName)) ∈ lw_all := lw_g (lw_at lw_m7 139 rfl) rfl
theorem q1630 : (Jvm.Cond.codeWith ({ cls := "PolygonBoardLaw", name := "moment", desc := "(LPolygonBoard;I[J)I" } : Jvm.MethodName) method_45_code (4 : Nat) (Option.some Jvm.ClassFile.FieldType.int) [((0 : Nat), (8 : Nat), (11 : Nat), (13 : Nat))]) ∈ lw_all := lw_g (lw_at lw_m7 140 rfl) rfl
theorem q1631 : (Jvm.Cond.methodLink "PolygonBoardLaw" (152 : Nat) ({ cls := "PolygonBoard", name := "moment", desc := "(I)J" } : Jvm.MethodName)) ∈ lw_all := lw_g (lw_at lw_m7 141 rfl) rfl
theorem q1649 : (Jvm.Cond.methodLink "PolygonBoardLaw" (322 : Nat) ({ cls := "PolygonBoardLaw", name := "momentByCells", desc := "(LPolygonBoard;I[J)I" } : Jvm.MethodName)) ∈ lw_all := lw_g (lw_at lw_m7 159 rfl) rfl
theorem q1650 : (Jvm.Cond.static ({ cls := "PolygonBoardLaw", name := "momentByCells", desc := "(LPolygonBoard;I[J)I" } : Jvm.MethodName)) ∈ lw_all := lw_g (lw_at lw_m7 160 rfl) rfl
theorem q1651 : (Jvm.Cond.codeWith ({ cls := "PolygonBoardLaw", name := "momentByCells", desc := "(LPolygonBoard;I[J)I" } : Jvm.MethodName) method_46_code (4 : Nat) (Option.some Jvm.ClassFile.FieldType.int) [((0 : Nat), (8 : Nat), (11 : Nat), (13 : Nat))]) ∈ lw_all := lw_g (lw_at lw_m7 161 rfl) rfl
theorem q1652 : (Jvm.Cond.methodLink "PolygonBoardLaw" (156 : Nat) ({ cls := "PolygonBoard", name := "momentByCells", desc := "(I)J" } : Jvm.MethodName)) ∈ lw_all := lw_g (lw_at lw_m7 162 rfl) rfl
theorem q1660 : (Jvm.Cond.methodLink "PolygonBoardLaw" (325 : Nat) ({ cls := "PolygonBoardLaw", name := "middleX", desc := "(LPolygonBoard;I[D)I" } : Jvm.MethodName)) ∈ lw_all := lw_g (lw_at lw_m7 170 rfl) rfl
theorem q1661 : (Jvm.Cond.static ({ cls := "PolygonBoardLaw", name := "middleX", desc := "(LPolygonBoard;I[D)I" } : Jvm.MethodName)) ∈ lw_all := lw_g (lw_at lw_m7 171 rfl) rfl
theorem q1662 : (Jvm.Cond.codeWith ({ cls := "PolygonBoardLaw", name := "middleX", desc := "(LPolygonBoard;I[D)I" } : Jvm.MethodName) method_47_code (4 : Nat) (Option.some Jvm.ClassFile.FieldType.int) [((0 : Nat), (8 : Nat), (11 : Nat), (13 : Nat)), ((0 : Nat), (8 : Nat), (14 : Nat), (163 : Nat))]) ∈ lw_all := lw_g (lw_at lw_m7 172 rfl) rfl
theorem q1663 : (Jvm.Cond.classLink "PolygonBoardLaw" (163 : Nat) "java/lang/ArithmeticException") ∈ lw_all := lw_g (lw_at lw_m7 173 rfl) rfl
theorem q1677 : (Jvm.Cond.methodLink "PolygonBoardLaw" (159 : Nat) ({ cls := "PolygonBoard", name := "middleX", desc := "(I)D" } : Jvm.MethodName)) ∈ lw_all := lw_g (lw_at lw_m7 187 rfl) rfl
theorem q1717 : (Jvm.Cond.methodLink "PolygonBoardLaw" (329 : Nat) ({ cls := "PolygonBoardLaw", name := "middleY", desc := "(LPolygonBoard;I[D)I" } : Jvm.MethodName)) ∈ lw_all := lw_g (lw_at lw_m7 227 rfl) rfl
theorem q1718 : (Jvm.Cond.static ({ cls := "PolygonBoardLaw", name := "middleY", desc := "(LPolygonBoard;I[D)I" } : Jvm.MethodName)) ∈ lw_all := lw_g (lw_at lw_m7 228 rfl) rfl
theorem q1719 : (Jvm.Cond.codeWith ({ cls := "PolygonBoardLaw", name := "middleY", desc := "(LPolygonBoard;I[D)I" } : Jvm.MethodName) method_48_code (4 : Nat) (Option.some Jvm.ClassFile.FieldType.int) [((0 : Nat), (8 : Nat), (11 : Nat), (13 : Nat)), ((0 : Nat), (8 : Nat), (14 : Nat), (163 : Nat))]) ∈ lw_all := lw_g (lw_at lw_m7 229 rfl) rfl
theorem q1720 : (Jvm.Cond.methodLink "PolygonBoardLaw" (165 : Nat) ({ cls := "PolygonBoard", name := "middleY", desc := "(I)D" } : Jvm.MethodName)) ∈ lw_all := lw_g (lw_at lw_m7 230 rfl) rfl
theorem q1724 : (Jvm.Cond.methodLink "PolygonBoardLaw" (332 : Nat) ({ cls := "PolygonBoardLaw", name := "fullness", desc := "(LPolygonBoard;I[D)I" } : Jvm.MethodName)) ∈ lw_all := lw_g (lw_at lw_m7 234 rfl) rfl
theorem q1725 : (Jvm.Cond.static ({ cls := "PolygonBoardLaw", name := "fullness", desc := "(LPolygonBoard;I[D)I" } : Jvm.MethodName)) ∈ lw_all := lw_g (lw_at lw_m7 235 rfl) rfl
theorem q1726 : (Jvm.Cond.codeWith ({ cls := "PolygonBoardLaw", name := "fullness", desc := "(LPolygonBoard;I[D)I" } : Jvm.MethodName) method_49_code (4 : Nat) (Option.some Jvm.ClassFile.FieldType.int) [((0 : Nat), (9 : Nat), (12 : Nat), (13 : Nat)), ((0 : Nat), (9 : Nat), (15 : Nat), (163 : Nat))]) ∈ lw_all := lw_g (lw_at lw_m7 236 rfl) rfl
theorem q1727 : (Jvm.Cond.methodLink "PolygonBoardLaw" (168 : Nat) ({ cls := "PolygonBoard", name := "fullness", desc := "(I)F" } : Jvm.MethodName)) ∈ lw_all := lw_g (lw_at lw_m7 237 rfl) rfl
theorem q1731 : (Jvm.Cond.classLink "PolygonBoardLaw" (173 : Nat) "PolygonBoardModel") ∈ lw_all := lw_g (lw_at lw_m8 1 rfl) rfl
theorem q1733 : (Jvm.Cond.methodLink "PolygonBoardLaw" (175 : Nat) ({ cls := "PolygonBoardModel", name := "<init>", desc := "()V" } : Jvm.MethodName)) ∈ lw_all := lw_g (lw_at lw_m8 3 rfl) rfl
theorem q1786 : (Jvm.Cond.methodLink "PolygonBoardLaw" (182 : Nat) ({ cls := "PolygonBoardModel", name := "thrown", desc := "()I" } : Jvm.MethodName)) ∈ lw_all := lw_g (lw_at lw_m8 56 rfl) rfl
theorem q1790 : (Jvm.Cond.methodLink "PolygonBoardLaw" (181 : Nat) ({ cls := "PolygonBoardModel", name := "fill", desc := "(IIIII)I" } : Jvm.MethodName)) ∈ lw_all := lw_g (lw_at lw_m8 60 rfl) rfl
theorem q1817 : (Jvm.Cond.methodLink "PolygonBoardLaw" (188 : Nat) ({ cls := "PolygonBoardModel", name := "erase", desc := "(IIIII)I" } : Jvm.MethodName)) ∈ lw_all := lw_g (lw_at lw_m8 87 rfl) rfl
theorem q1821 : (Jvm.Cond.methodLink "PolygonBoardLaw" (192 : Nat) ({ cls := "PolygonBoardModel", name := "clear", desc := "(I)I" } : Jvm.MethodName)) ∈ lw_all := lw_g (lw_at lw_m8 91 rfl) rfl
theorem q1825 : (Jvm.Cond.methodLink "PolygonBoardLaw" (196 : Nat) ({ cls := "PolygonBoardModel", name := "moveTo", desc := "(II)I" } : Jvm.MethodName)) ∈ lw_all := lw_g (lw_at lw_m8 95 rfl) rfl
theorem q1832 : (Jvm.Cond.methodLink "PolygonBoardLaw" (199 : Nat) ({ cls := "PolygonBoardModel", name := "lineTo", desc := "(II)I" } : Jvm.MethodName)) ∈ lw_all := lw_g (lw_at lw_m8 102 rfl) rfl
theorem q1843 : (Jvm.Cond.methodLink "PolygonBoardLaw" (203 : Nat) ({ cls := "PolygonBoardModel", name := "closePath", desc := "(IZ)I" } : Jvm.MethodName)) ∈ lw_all := lw_g (lw_at lw_m8 113 rfl) rfl
theorem q1855 : (Jvm.Cond.methodLink "PolygonBoardLaw" (207 : Nat) ({ cls := "PolygonBoardModel", name := "combine", desc := "(CIII)I" } : Jvm.MethodName)) ∈ lw_all := lw_g (lw_at lw_m8 125 rfl) rfl
theorem q1859 : (Jvm.Cond.methodLink "PolygonBoardLaw" (211 : Nat) ({ cls := "PolygonBoardModel", name := "grow", desc := "(III)I" } : Jvm.MethodName)) ∈ lw_all := lw_g (lw_at lw_m8 129 rfl) rfl
theorem q1882 : (Jvm.Cond.methodLink "PolygonBoardLaw" (214 : Nat) ({ cls := "PolygonBoardModel", name := "shrink", desc := "(III)I" } : Jvm.MethodName)) ∈ lw_all := lw_g (lw_at lw_m8 152 rfl) rfl
theorem q1886 : (Jvm.Cond.methodLink "PolygonBoardLaw" (218 : Nat) ({ cls := "PolygonBoardModel", name := "move", desc := "(IIII)I" } : Jvm.MethodName)) ∈ lw_all := lw_g (lw_at lw_m8 156 rfl) rfl
theorem q1891 : (Jvm.Cond.methodLink "PolygonBoardLaw" (221 : Nat) ({ cls := "PolygonBoardModel", name := "turn", desc := "(II)I" } : Jvm.MethodName)) ∈ lw_all := lw_g (lw_at lw_m8 161 rfl) rfl
theorem q1895 : (Jvm.Cond.methodLink "PolygonBoardLaw" (224 : Nat) ({ cls := "PolygonBoardModel", name := "mirror", desc := "(II)I" } : Jvm.MethodName)) ∈ lw_all := lw_g (lw_at lw_m8 165 rfl) rfl
theorem q1899 : (Jvm.Cond.methodLink "PolygonBoardLaw" (227 : Nat) ({ cls := "PolygonBoardModel", name := "fillHoles", desc := "(II)I" } : Jvm.MethodName)) ∈ lw_all := lw_g (lw_at lw_m8 169 rfl) rfl
theorem q1917 : (Jvm.Cond.methodLink "PolygonBoardLaw" (230 : Nat) ({ cls := "PolygonBoardModel", name := "keepPart", desc := "(IIII)I" } : Jvm.MethodName)) ∈ lw_all := lw_g (lw_at lw_m8 187 rfl) rfl
theorem q1925 : (Jvm.Cond.methodLink "PolygonBoardLaw" (234 : Nat) ({ cls := "PolygonBoardModel", name := "pointCount", desc := "()I" } : Jvm.MethodName)) ∈ lw_all := lw_g (lw_at lw_m8 195 rfl) rfl
theorem q1929 : (Jvm.Cond.methodLink "PolygonBoardLaw" (237 : Nat) ({ cls := "PolygonBoardModel", name := "contains", desc := "(III)Z" } : Jvm.MethodName)) ∈ lw_all := lw_g (lw_at lw_m8 199 rfl) rfl
theorem q1933 : (Jvm.Cond.methodLink "PolygonBoardLaw" (240 : Nat) ({ cls := "PolygonBoardModel", name := "area", desc := "(I)I" } : Jvm.MethodName)) ∈ lw_all := lw_g (lw_at lw_m8 203 rfl) rfl
theorem q1941 : (Jvm.Cond.methodLink "PolygonBoardLaw" (243 : Nat) ({ cls := "PolygonBoardModel", name := "areaByCells", desc := "(I)I" } : Jvm.MethodName)) ∈ lw_all := lw_g (lw_at lw_m8 211 rfl) rfl
theorem q1946 : (Jvm.Cond.methodLink "PolygonBoardLaw" (246 : Nat) ({ cls := "PolygonBoardModel", name := "perimeter", desc := "(I)I" } : Jvm.MethodName)) ∈ lw_all := lw_g (lw_at lw_m8 216 rfl) rfl
theorem q1950 : (Jvm.Cond.methodLink "PolygonBoardLaw" (249 : Nat) ({ cls := "PolygonBoardModel", name := "perimeterByCells", desc := "(I)I" } : Jvm.MethodName)) ∈ lw_all := lw_g (lw_at lw_m8 220 rfl) rfl
theorem q1955 : (Jvm.Cond.methodLink "PolygonBoardLaw" (252 : Nat) ({ cls := "PolygonBoardModel", name := "bandCount", desc := "(I)I" } : Jvm.MethodName)) ∈ lw_all := lw_g (lw_at lw_m8 225 rfl) rfl
theorem q1959 : (Jvm.Cond.methodLink "PolygonBoardLaw" (255 : Nat) ({ cls := "PolygonBoardModel", name := "rectangleCount", desc := "(I)I" } : Jvm.MethodName)) ∈ lw_all := lw_g (lw_at lw_m8 229 rfl) rfl
theorem q1963 : (Jvm.Cond.methodLink "PolygonBoardLaw" (258 : Nat) ({ cls := "PolygonBoardModel", name := "partCount", desc := "(I)I" } : Jvm.MethodName)) ∈ lw_all := lw_g (lw_at lw_m8 233 rfl) rfl
theorem q1971 : (Jvm.Cond.methodLink "PolygonBoardLaw" (261 : Nat) ({ cls := "PolygonBoardModel", name := "partCountByCells", desc := "(I)I" } : Jvm.MethodName)) ∈ lw_all := lw_g (lw_at lw_m9 1 rfl) rfl
theorem q1976 : (Jvm.Cond.methodLink "PolygonBoardLaw" (264 : Nat) ({ cls := "PolygonBoardModel", name := "holeCount", desc := "(I)I" } : Jvm.MethodName)) ∈ lw_all := lw_g (lw_at lw_m9 6 rfl) rfl
theorem q1980 : (Jvm.Cond.methodLink "PolygonBoardLaw" (267 : Nat) ({ cls := "PolygonBoardModel", name := "holeCountByCells", desc := "(I)I" } : Jvm.MethodName)) ∈ lw_all := lw_g (lw_at lw_m9 10 rfl) rfl
theorem q1985 : (Jvm.Cond.methodLink "PolygonBoardLaw" (270 : Nat) ({ cls := "PolygonBoardModel", name := "isSame", desc := "(II)Z" } : Jvm.MethodName)) ∈ lw_all := lw_g (lw_at lw_m9 15 rfl) rfl
theorem q1989 : (Jvm.Cond.methodLink "PolygonBoardLaw" (273 : Nat) ({ cls := "PolygonBoardModel", name := "covers", desc := "(II)Z" } : Jvm.MethodName)) ∈ lw_all := lw_g (lw_at lw_m9 19 rfl) rfl
theorem q1993 : (Jvm.Cond.methodLink "PolygonBoardLaw" (276 : Nat) ({ cls := "PolygonBoardModel", name := "left", desc := "(I)I" } : Jvm.MethodName)) ∈ lw_all := lw_g (lw_at lw_m9 23 rfl) rfl
theorem q2005 : (Jvm.Cond.methodLink "PolygonBoardLaw" (279 : Nat) ({ cls := "PolygonBoardModel", name := "right", desc := "(I)I" } : Jvm.MethodName)) ∈ lw_all := lw_g (lw_at lw_m9 35 rfl) rfl
theorem q2009 : (Jvm.Cond.methodLink "PolygonBoardLaw" (282 : Nat) ({ cls := "PolygonBoardModel", name := "bottom", desc := "(I)I" } : Jvm.MethodName)) ∈ lw_all := lw_g (lw_at lw_m9 39 rfl) rfl
theorem q2013 : (Jvm.Cond.methodLink "PolygonBoardLaw" (285 : Nat) ({ cls := "PolygonBoardModel", name := "top", desc := "(I)I" } : Jvm.MethodName)) ∈ lw_all := lw_g (lw_at lw_m9 43 rfl) rfl
theorem q2017 : (Jvm.Cond.methodLink "PolygonBoardLaw" (288 : Nat) ({ cls := "PolygonBoardModel", name := "largestRectangle", desc := "(I)I" } : Jvm.MethodName)) ∈ lw_all := lw_g (lw_at lw_m9 47 rfl) rfl
theorem q2024 : (Jvm.Cond.methodLink "PolygonBoardLaw" (291 : Nat) ({ cls := "PolygonBoardModel", name := "largestRectangleByCells", desc := "(I)I" } : Jvm.MethodName)) ∈ lw_all := lw_g (lw_at lw_m9 54 rfl) rfl
theorem q2029 : (Jvm.Cond.methodLink "PolygonBoardLaw" (294 : Nat) ({ cls := "PolygonBoardModel", name := "largestSquare", desc := "(I)I" } : Jvm.MethodName)) ∈ lw_all := lw_g (lw_at lw_m9 59 rfl) rfl
theorem q2033 : (Jvm.Cond.methodLink "PolygonBoardLaw" (297 : Nat) ({ cls := "PolygonBoardModel", name := "largestSquareByCells", desc := "(I)I" } : Jvm.MethodName)) ∈ lw_all := lw_g (lw_at lw_m9 63 rfl) rfl
theorem q2038 : (Jvm.Cond.methodLink "PolygonBoardLaw" (300 : Nat) ({ cls := "PolygonBoardModel", name := "steps", desc := "(IIIII)I" } : Jvm.MethodName)) ∈ lw_all := lw_g (lw_at lw_m9 68 rfl) rfl
theorem q2042 : (Jvm.Cond.methodLink "PolygonBoardLaw" (303 : Nat) ({ cls := "PolygonBoardModel", name := "stepsByRows", desc := "(IIIII)I" } : Jvm.MethodName)) ∈ lw_all := lw_g (lw_at lw_m9 72 rfl) rfl
theorem q2047 : (Jvm.Cond.methodLink "PolygonBoardLaw" (306 : Nat) ({ cls := "PolygonBoardModel", name := "outlineCount", desc := "(I)I" } : Jvm.MethodName)) ∈ lw_all := lw_g (lw_at lw_m9 77 rfl) rfl
theorem q2067 : (Jvm.Cond.methodLink "PolygonBoardLaw" (309 : Nat) ({ cls := "PolygonBoardModel", name := "cornerCount", desc := "(II)I" } : Jvm.MethodName)) ∈ lw_all := lw_g (lw_at lw_m9 97 rfl) rfl
theorem q2075 : (Jvm.Cond.methodLink "PolygonBoardLaw" (312 : Nat) ({ cls := "PolygonBoardModel", name := "cornerX", desc := "(III)I" } : Jvm.MethodName)) ∈ lw_all := lw_g (lw_at lw_m9 105 rfl) rfl
theorem q2083 : (Jvm.Cond.methodLink "PolygonBoardLaw" (315 : Nat) ({ cls := "PolygonBoardModel", name := "cornerY", desc := "(III)I" } : Jvm.MethodName)) ∈ lw_all := lw_g (lw_at lw_m9 113 rfl) rfl
theorem q2087 : (Jvm.Cond.methodLink "PolygonBoardLaw" (318 : Nat) ({ cls := "PolygonBoardModel", name := "signedArea", desc := "(II)I" } : Jvm.MethodName)) ∈ lw_all := lw_g (lw_at lw_m9 117 rfl) rfl
theorem q2091 : (Jvm.Cond.methodLink "PolygonBoardLaw" (321 : Nat) ({ cls := "PolygonBoardModel", name := "moment", desc := "(I)J" } : Jvm.MethodName)) ∈ lw_all := lw_g (lw_at lw_m9 121 rfl) rfl
theorem q2095 : (Jvm.Cond.methodLink "PolygonBoardLaw" (324 : Nat) ({ cls := "PolygonBoardModel", name := "momentByCells", desc := "(I)J" } : Jvm.MethodName)) ∈ lw_all := lw_g (lw_at lw_m9 125 rfl) rfl
theorem q2100 : (Jvm.Cond.methodLink "PolygonBoardLaw" (328 : Nat) ({ cls := "PolygonBoardModel", name := "middleX", desc := "(I)D" } : Jvm.MethodName)) ∈ lw_all := lw_g (lw_at lw_m9 130 rfl) rfl
theorem q2105 : (Jvm.Cond.methodLink "PolygonBoardLaw" (331 : Nat) ({ cls := "PolygonBoardModel", name := "middleY", desc := "(I)D" } : Jvm.MethodName)) ∈ lw_all := lw_g (lw_at lw_m9 135 rfl) rfl
theorem q2109 : (Jvm.Cond.methodLink "PolygonBoardLaw" (334 : Nat) ({ cls := "PolygonBoardModel", name := "fullness", desc := "(I)F" } : Jvm.MethodName)) ∈ lw_all := lw_g (lw_at lw_m9 139 rfl) rfl
