/-! PolygonBoard -/
set_option maxRecDepth 100000
def RX1 : String := "PolygonBoard"
def TX1 : u_T := fun k => match k with
  | 0 => ("PolygonBoard", "sheets", "Ljava/util/List;", true)
  | _ => ("PolygonBoard", "path", "LPolygonBoard$Path;", false)
def tyX1 : Nat → FieldType := fun k => match k with
  | 0 => .object "java/util/List"
  | _ => .object "PolygonBoard$Path"
abbrev wsX10 : List Cond := u_ws RX1 TX1 2
theorem nmX1 : ∀ a, a < 2 → ∀ b, b < 2 → a ≠ b → (TX1 a).2.1 ≠ (TX1 b).2.1 := by decide +kernel
theorem tyX1_ok : ∀ k, k < 2 → parseFieldDescriptor (TX1 k).2.2.1 = some (tyX1 k) := by decide +kernel
abbrev cX1_init : ByteArray := prog_1_method_1_code
def yX1_init : MethodName := ⟨RX1, "<init>", "()V"⟩
def dkwX1_init_1 : List UInt8 := [180, 0, 10, 187, 0, 16, 89, 183, 0, 18, 185, 0, 19, 2, 0, 87, 132, 1, 1, 167, 255, 230, 177]
abbrev dktX1_init_1 : List UInt8 := dkwX1_init_1 ++ []
def dkwX1_init_0 : List UInt8 := [42, 183, 0, 1, 42, 187, 0, 7, 89, 183, 0, 9, 181, 0, 10, 3, 60, 27, 16, 8, 162, 0, 26, 42]
abbrev dktX1_init_0 : List UInt8 := dkwX1_init_0 ++ dktX1_init_1
theorem dksX1_init_0 : cX1_init.data.toList.drop 0 = dktX1_init_0 := by decide +kernel
theorem dksX1_init_1 : cX1_init.data.toList.drop 24 = dktX1_init_1 := dk_seg dksX1_init_0 24 rfl rfl
theorem dX1_init_0 : decode cX1_init 0 = .ok (.aload_n 0, 1) := dk_42 (dk_at dksX1_init_0 0 rfl rfl)
theorem dX1_init_1 : decode cX1_init 1 = .ok (.invokespecial 1, 3) := dk_183 0 1 (dk_at dksX1_init_0 1 rfl rfl)
theorem dX1_init_4 : decode cX1_init 4 = .ok (.aload_n 0, 1) := dk_42 (dk_at dksX1_init_0 4 rfl rfl)
theorem dX1_init_5 : decode cX1_init 5 = .ok (.new 7, 3) := dk_187 0 7 (dk_at dksX1_init_0 5 rfl rfl)
theorem dX1_init_8 : decode cX1_init 8 = .ok (.dup, 1) := dk_89 (dk_at dksX1_init_0 8 rfl rfl)
theorem dX1_init_9 : decode cX1_init 9 = .ok (.invokespecial 9, 3) := dk_183 0 9 (dk_at dksX1_init_0 9 rfl rfl)
theorem dX1_init_12 : decode cX1_init 12 = .ok (.putfield 10, 3) := dk_181 0 10 (dk_at dksX1_init_0 12 rfl rfl)
theorem dX1_init_15 : decode cX1_init 15 = .ok (.iconst 0, 1) := dk_3 (dk_at dksX1_init_0 15 rfl rfl)
theorem dX1_init_16 : decode cX1_init 16 = .ok (.istore_n 1, 1) := dk_60 (dk_at dksX1_init_0 16 rfl rfl)
theorem dX1_init_17 : decode cX1_init 17 = .ok (.iload_n 1, 1) := dk_27 (dk_at dksX1_init_0 17 rfl rfl)
theorem dX1_init_18 : decode cX1_init 18 = .ok (.bipush 8, 2) := dk_16 8 (dk_at dksX1_init_0 18 rfl rfl)
theorem dX1_init_20 : decode cX1_init 20 = .ok (.if_icmp .ge 26, 3) := dk_162 0 26 (dk_at dksX1_init_0 20 rfl rfl)
theorem dX1_init_23 : decode cX1_init 23 = .ok (.aload_n 0, 1) := dk_42 (dk_at dksX1_init_0 23 rfl rfl)
theorem dX1_init_24 : decode cX1_init 24 = .ok (.getfield 10, 3) := dk_180 0 10 (dk_at dksX1_init_1 0 rfl rfl)
theorem dX1_init_27 : decode cX1_init 27 = .ok (.new 16, 3) := dk_187 0 16 (dk_at dksX1_init_1 3 rfl rfl)
theorem dX1_init_30 : decode cX1_init 30 = .ok (.dup, 1) := dk_89 (dk_at dksX1_init_1 6 rfl rfl)
theorem dX1_init_31 : decode cX1_init 31 = .ok (.invokespecial 18, 3) := dk_183 0 18 (dk_at dksX1_init_1 7 rfl rfl)
theorem dX1_init_34 : decode cX1_init 34 = .ok (.invokeinterface 19 2, 5) := by decide +kernel
theorem dX1_init_39 : decode cX1_init 39 = .ok (.pop, 1) := dk_87 (dk_at dksX1_init_1 15 rfl rfl)
theorem dX1_init_40 : decode cX1_init 40 = .ok (.iinc 1 1, 3) := dk_132 1 1 (dk_at dksX1_init_1 16 rfl rfl)
theorem dX1_init_43 : decode cX1_init 43 = .ok (.goto (-26), 3) := dk_167 255 230 (dk_at dksX1_init_1 19 rfl rfl)
theorem dX1_init_46 : decode cX1_init 46 = .ok (.return_, 1) := dk_177 (dk_at dksX1_init_1 22 rfl rfl)
abbrev cX1_pointCount : ByteArray := prog_1_method_20_code
def yX1_pointCount : MethodName := ⟨RX1, "pointCount", "()I"⟩
def dkwX1_pointCount_0 : List UInt8 := [42, 180, 0, 107, 199, 0, 7, 3, 167, 0, 10, 42, 180, 0, 107, 180, 0, 111, 172]
abbrev dktX1_pointCount_0 : List UInt8 := dkwX1_pointCount_0 ++ []
theorem dksX1_pointCount_0 : cX1_pointCount.data.toList.drop 0 = dktX1_pointCount_0 := by decide +kernel
theorem dX1_pointCount_0 : decode cX1_pointCount 0 = .ok (.aload_n 0, 1) := dk_42 (dk_at dksX1_pointCount_0 0 rfl rfl)
theorem dX1_pointCount_1 : decode cX1_pointCount 1 = .ok (.getfield 107, 3) := dk_180 0 107 (dk_at dksX1_pointCount_0 1 rfl rfl)
theorem dX1_pointCount_4 : decode cX1_pointCount 4 = .ok (.ifnonnull 7, 3) := dk_199 0 7 (dk_at dksX1_pointCount_0 4 rfl rfl)
theorem dX1_pointCount_7 : decode cX1_pointCount 7 = .ok (.iconst 0, 1) := dk_3 (dk_at dksX1_pointCount_0 7 rfl rfl)
theorem dX1_pointCount_8 : decode cX1_pointCount 8 = .ok (.goto 10, 3) := dk_167 0 10 (dk_at dksX1_pointCount_0 8 rfl rfl)
theorem dX1_pointCount_11 : decode cX1_pointCount 11 = .ok (.aload_n 0, 1) := dk_42 (dk_at dksX1_pointCount_0 11 rfl rfl)
theorem dX1_pointCount_12 : decode cX1_pointCount 12 = .ok (.getfield 107, 3) := dk_180 0 107 (dk_at dksX1_pointCount_0 12 rfl rfl)
theorem dX1_pointCount_15 : decode cX1_pointCount 15 = .ok (.getfield 111, 3) := dk_180 0 111 (dk_at dksX1_pointCount_0 15 rfl rfl)
theorem dX1_pointCount_18 : decode cX1_pointCount 18 = .ok (.ireturn, 1) := dk_172 (dk_at dksX1_pointCount_0 18 rfl rfl)
abbrev cX1_fill : ByteArray := prog_1_method_13_code
def yX1_fill : MethodName := ⟨RX1, "fill", "(IIIII)I"⟩
def dkwX1_fill_1 : List UInt8 := [184, 0, 85, 178, 0, 89, 182, 0, 95, 172]
abbrev dktX1_fill_1 : List UInt8 := dkwX1_fill_1 ++ []
def dkwX1_fill_0 : List UInt8 := [42, 27, 182, 0, 46, 87, 28, 29, 21, 4, 21, 5, 184, 0, 81, 42, 27, 28, 29, 21, 4, 21, 5]
abbrev dktX1_fill_0 : List UInt8 := dkwX1_fill_0 ++ dktX1_fill_1
theorem dksX1_fill_0 : cX1_fill.data.toList.drop 0 = dktX1_fill_0 := by decide +kernel
theorem dksX1_fill_1 : cX1_fill.data.toList.drop 23 = dktX1_fill_1 := dk_seg dksX1_fill_0 23 rfl rfl
theorem dX1_fill_0 : decode cX1_fill 0 = .ok (.aload_n 0, 1) := dk_42 (dk_at dksX1_fill_0 0 rfl rfl)
theorem dX1_fill_1 : decode cX1_fill 1 = .ok (.iload_n 1, 1) := dk_27 (dk_at dksX1_fill_0 1 rfl rfl)
theorem dX1_fill_2 : decode cX1_fill 2 = .ok (.invokevirtual 46, 3) := dk_182 0 46 (dk_at dksX1_fill_0 2 rfl rfl)
theorem dX1_fill_5 : decode cX1_fill 5 = .ok (.pop, 1) := dk_87 (dk_at dksX1_fill_0 5 rfl rfl)
theorem dX1_fill_6 : decode cX1_fill 6 = .ok (.iload_n 2, 1) := dk_28 (dk_at dksX1_fill_0 6 rfl rfl)
theorem dX1_fill_7 : decode cX1_fill 7 = .ok (.iload_n 3, 1) := dk_29 (dk_at dksX1_fill_0 7 rfl rfl)
theorem dX1_fill_8 : decode cX1_fill 8 = .ok (.iload 4, 2) := dk_21 4 (dk_at dksX1_fill_0 8 rfl rfl)
theorem dX1_fill_10 : decode cX1_fill 10 = .ok (.iload 5, 2) := dk_21 5 (dk_at dksX1_fill_0 10 rfl rfl)
theorem dX1_fill_12 : decode cX1_fill 12 = .ok (.invokestatic 81, 3) := dk_184 0 81 (dk_at dksX1_fill_0 12 rfl rfl)
theorem dX1_fill_15 : decode cX1_fill 15 = .ok (.aload_n 0, 1) := dk_42 (dk_at dksX1_fill_0 15 rfl rfl)
theorem dX1_fill_16 : decode cX1_fill 16 = .ok (.iload_n 1, 1) := dk_27 (dk_at dksX1_fill_0 16 rfl rfl)
theorem dX1_fill_17 : decode cX1_fill 17 = .ok (.iload_n 2, 1) := dk_28 (dk_at dksX1_fill_0 17 rfl rfl)
theorem dX1_fill_18 : decode cX1_fill 18 = .ok (.iload_n 3, 1) := dk_29 (dk_at dksX1_fill_0 18 rfl rfl)
theorem dX1_fill_19 : decode cX1_fill 19 = .ok (.iload 4, 2) := dk_21 4 (dk_at dksX1_fill_0 19 rfl rfl)
theorem dX1_fill_21 : decode cX1_fill 21 = .ok (.iload 5, 2) := dk_21 5 (dk_at dksX1_fill_0 21 rfl rfl)
theorem dX1_fill_23 : decode cX1_fill 23 = .ok (.invokestatic 85, 3) := dk_184 0 85 (dk_at dksX1_fill_1 0 rfl rfl)
theorem dX1_fill_26 : decode cX1_fill 26 = .ok (.getstatic 89, 3) := dk_178 0 89 (dk_at dksX1_fill_1 3 rfl rfl)
theorem dX1_fill_29 : decode cX1_fill 29 = .ok (.invokevirtual 95, 3) := dk_182 0 95 (dk_at dksX1_fill_1 6 rfl rfl)
theorem dX1_fill_32 : decode cX1_fill 32 = .ok (.ireturn, 1) := dk_172 (dk_at dksX1_fill_1 9 rfl rfl)
abbrev cX1_region : ByteArray := prog_1_method_8_code
def yX1_region : MethodName := ⟨RX1, "region", "(I)LPolygonBoard$Region;"⟩
def dkwX1_region_1 : List UInt8 := [185, 0, 42, 2, 0, 192, 0, 16, 176]
abbrev dktX1_region_1 : List UInt8 := dkwX1_region_1 ++ []
def dkwX1_region_0 : List UInt8 := [27, 184, 0, 35, 154, 0, 11, 187, 0, 39, 89, 183, 0, 41, 191, 42, 180, 0, 10, 27]
abbrev dktX1_region_0 : List UInt8 := dkwX1_region_0 ++ dktX1_region_1
theorem dksX1_region_0 : cX1_region.data.toList.drop 0 = dktX1_region_0 := by decide +kernel
theorem dksX1_region_1 : cX1_region.data.toList.drop 20 = dktX1_region_1 := dk_seg dksX1_region_0 20 rfl rfl
theorem dX1_region_0 : decode cX1_region 0 = .ok (.iload_n 1, 1) := dk_27 (dk_at dksX1_region_0 0 rfl rfl)
theorem dX1_region_1 : decode cX1_region 1 = .ok (.invokestatic 35, 3) := dk_184 0 35 (dk_at dksX1_region_0 1 rfl rfl)
theorem dX1_region_4 : decode cX1_region 4 = .ok (.ifCond .ne 11, 3) := dk_154 0 11 (dk_at dksX1_region_0 4 rfl rfl)
theorem dX1_region_7 : decode cX1_region 7 = .ok (.new 39, 3) := dk_187 0 39 (dk_at dksX1_region_0 7 rfl rfl)
theorem dX1_region_10 : decode cX1_region 10 = .ok (.dup, 1) := dk_89 (dk_at dksX1_region_0 10 rfl rfl)
theorem dX1_region_11 : decode cX1_region 11 = .ok (.invokespecial 41, 3) := dk_183 0 41 (dk_at dksX1_region_0 11 rfl rfl)
theorem dX1_region_14 : decode cX1_region 14 = .ok (.athrow, 1) := dk_191 (dk_at dksX1_region_0 14 rfl rfl)
theorem dX1_region_15 : decode cX1_region 15 = .ok (.aload_n 0, 1) := dk_42 (dk_at dksX1_region_0 15 rfl rfl)
theorem dX1_region_16 : decode cX1_region 16 = .ok (.getfield 10, 3) := dk_180 0 10 (dk_at dksX1_region_0 16 rfl rfl)
theorem dX1_region_19 : decode cX1_region 19 = .ok (.iload_n 1, 1) := dk_27 (dk_at dksX1_region_0 19 rfl rfl)
theorem dX1_region_20 : decode cX1_region 20 = .ok (.invokeinterface 42 2, 5) := by decide +kernel
theorem dX1_region_25 : decode cX1_region 25 = .ok (.checkcast 16, 3) := dk_192 0 16 (dk_at dksX1_region_1 5 rfl rfl)
theorem dX1_region_28 : decode cX1_region 28 = .ok (.areturn, 1) := dk_176 (dk_at dksX1_region_1 8 rfl rfl)
abbrev cX1_isSheet : ByteArray := prog_1_method_5_code
def yX1_isSheet : MethodName := ⟨RX1, "isSheet", "(I)Z"⟩
def dkwX1_isSheet_0 : List UInt8 := [26, 3, 16, 7, 184, 0, 31, 172]
abbrev dktX1_isSheet_0 : List UInt8 := dkwX1_isSheet_0 ++ []
theorem dksX1_isSheet_0 : cX1_isSheet.data.toList.drop 0 = dktX1_isSheet_0 := by decide +kernel
theorem dX1_isSheet_0 : decode cX1_isSheet 0 = .ok (.iload_n 0, 1) := dk_26 (dk_at dksX1_isSheet_0 0 rfl rfl)
theorem dX1_isSheet_1 : decode cX1_isSheet 1 = .ok (.iconst 0, 1) := dk_3 (dk_at dksX1_isSheet_0 1 rfl rfl)
theorem dX1_isSheet_2 : decode cX1_isSheet 2 = .ok (.bipush 7, 2) := dk_16 7 (dk_at dksX1_isSheet_0 2 rfl rfl)
theorem dX1_isSheet_4 : decode cX1_isSheet 4 = .ok (.invokestatic 31, 3) := dk_184 0 31 (dk_at dksX1_isSheet_0 4 rfl rfl)
theorem dX1_isSheet_7 : decode cX1_isSheet 7 = .ok (.ireturn, 1) := dk_172 (dk_at dksX1_isSheet_0 7 rfl rfl)
abbrev cX1_isBetween : ByteArray := prog_1_method_4_code
def yX1_isBetween : MethodName := ⟨RX1, "isBetween", "(III)Z"⟩
def dkwX1_isBetween_0 : List UInt8 := [26, 27, 161, 0, 12, 26, 28, 163, 0, 7, 4, 167, 0, 4, 3, 172]
abbrev dktX1_isBetween_0 : List UInt8 := dkwX1_isBetween_0 ++ []
theorem dksX1_isBetween_0 : cX1_isBetween.data.toList.drop 0 = dktX1_isBetween_0 := by decide +kernel
theorem dX1_isBetween_0 : decode cX1_isBetween 0 = .ok (.iload_n 0, 1) := dk_26 (dk_at dksX1_isBetween_0 0 rfl rfl)
theorem dX1_isBetween_1 : decode cX1_isBetween 1 = .ok (.iload_n 1, 1) := dk_27 (dk_at dksX1_isBetween_0 1 rfl rfl)
theorem dX1_isBetween_2 : decode cX1_isBetween 2 = .ok (.if_icmp .lt 12, 3) := dk_161 0 12 (dk_at dksX1_isBetween_0 2 rfl rfl)
theorem dX1_isBetween_5 : decode cX1_isBetween 5 = .ok (.iload_n 0, 1) := dk_26 (dk_at dksX1_isBetween_0 5 rfl rfl)
theorem dX1_isBetween_6 : decode cX1_isBetween 6 = .ok (.iload_n 2, 1) := dk_28 (dk_at dksX1_isBetween_0 6 rfl rfl)
theorem dX1_isBetween_7 : decode cX1_isBetween 7 = .ok (.if_icmp .gt 7, 3) := dk_163 0 7 (dk_at dksX1_isBetween_0 7 rfl rfl)
theorem dX1_isBetween_10 : decode cX1_isBetween 10 = .ok (.iconst 1, 1) := dk_4 (dk_at dksX1_isBetween_0 10 rfl rfl)
theorem dX1_isBetween_11 : decode cX1_isBetween 11 = .ok (.goto 4, 3) := dk_167 0 4 (dk_at dksX1_isBetween_0 11 rfl rfl)
theorem dX1_isBetween_14 : decode cX1_isBetween 14 = .ok (.iconst 0, 1) := dk_3 (dk_at dksX1_isBetween_0 14 rfl rfl)
theorem dX1_isBetween_15 : decode cX1_isBetween 15 = .ok (.ireturn, 1) := dk_172 (dk_at dksX1_isBetween_0 15 rfl rfl)
abbrev cX1_checkRectangle : ByteArray := prog_1_method_11_code
def yX1_checkRectangle : MethodName := ⟨RX1, "checkRectangle", "(IIII)V"⟩
def dkwX1_checkRectangle_1 : List UInt8 := [162, 0, 7, 4, 167, 0, 4, 3, 184, 0, 70, 177]
abbrev dktX1_checkRectangle_1 : List UInt8 := dkwX1_checkRectangle_1 ++ []
def dkwX1_checkRectangle_0 : List UInt8 := [26, 27, 184, 0, 66, 153, 0, 25, 28, 29, 184, 0, 66, 153, 0, 17, 26, 28, 162, 0, 12, 27, 29]
abbrev dktX1_checkRectangle_0 : List UInt8 := dkwX1_checkRectangle_0 ++ dktX1_checkRectangle_1
theorem dksX1_checkRectangle_0 : cX1_checkRectangle.data.toList.drop 0 = dktX1_checkRectangle_0 := by decide +kernel
theorem dksX1_checkRectangle_1 : cX1_checkRectangle.data.toList.drop 23 = dktX1_checkRectangle_1 := dk_seg dksX1_checkRectangle_0 23 rfl rfl
theorem dX1_checkRectangle_0 : decode cX1_checkRectangle 0 = .ok (.iload_n 0, 1) := dk_26 (dk_at dksX1_checkRectangle_0 0 rfl rfl)
theorem dX1_checkRectangle_1 : decode cX1_checkRectangle 1 = .ok (.iload_n 1, 1) := dk_27 (dk_at dksX1_checkRectangle_0 1 rfl rfl)
theorem dX1_checkRectangle_2 : decode cX1_checkRectangle 2 = .ok (.invokestatic 66, 3) := dk_184 0 66 (dk_at dksX1_checkRectangle_0 2 rfl rfl)
theorem dX1_checkRectangle_5 : decode cX1_checkRectangle 5 = .ok (.ifCond .eq 25, 3) := dk_153 0 25 (dk_at dksX1_checkRectangle_0 5 rfl rfl)
theorem dX1_checkRectangle_8 : decode cX1_checkRectangle 8 = .ok (.iload_n 2, 1) := dk_28 (dk_at dksX1_checkRectangle_0 8 rfl rfl)
theorem dX1_checkRectangle_9 : decode cX1_checkRectangle 9 = .ok (.iload_n 3, 1) := dk_29 (dk_at dksX1_checkRectangle_0 9 rfl rfl)
theorem dX1_checkRectangle_10 : decode cX1_checkRectangle 10 = .ok (.invokestatic 66, 3) := dk_184 0 66 (dk_at dksX1_checkRectangle_0 10 rfl rfl)
theorem dX1_checkRectangle_13 : decode cX1_checkRectangle 13 = .ok (.ifCond .eq 17, 3) := dk_153 0 17 (dk_at dksX1_checkRectangle_0 13 rfl rfl)
theorem dX1_checkRectangle_16 : decode cX1_checkRectangle 16 = .ok (.iload_n 0, 1) := dk_26 (dk_at dksX1_checkRectangle_0 16 rfl rfl)
theorem dX1_checkRectangle_17 : decode cX1_checkRectangle 17 = .ok (.iload_n 2, 1) := dk_28 (dk_at dksX1_checkRectangle_0 17 rfl rfl)
theorem dX1_checkRectangle_18 : decode cX1_checkRectangle 18 = .ok (.if_icmp .ge 12, 3) := dk_162 0 12 (dk_at dksX1_checkRectangle_0 18 rfl rfl)
theorem dX1_checkRectangle_21 : decode cX1_checkRectangle 21 = .ok (.iload_n 1, 1) := dk_27 (dk_at dksX1_checkRectangle_0 21 rfl rfl)
theorem dX1_checkRectangle_22 : decode cX1_checkRectangle 22 = .ok (.iload_n 3, 1) := dk_29 (dk_at dksX1_checkRectangle_0 22 rfl rfl)
theorem dX1_checkRectangle_23 : decode cX1_checkRectangle 23 = .ok (.if_icmp .ge 7, 3) := dk_162 0 7 (dk_at dksX1_checkRectangle_1 0 rfl rfl)
theorem dX1_checkRectangle_26 : decode cX1_checkRectangle 26 = .ok (.iconst 1, 1) := dk_4 (dk_at dksX1_checkRectangle_1 3 rfl rfl)
theorem dX1_checkRectangle_27 : decode cX1_checkRectangle 27 = .ok (.goto 4, 3) := dk_167 0 4 (dk_at dksX1_checkRectangle_1 4 rfl rfl)
theorem dX1_checkRectangle_30 : decode cX1_checkRectangle 30 = .ok (.iconst 0, 1) := dk_3 (dk_at dksX1_checkRectangle_1 7 rfl rfl)
theorem dX1_checkRectangle_31 : decode cX1_checkRectangle 31 = .ok (.invokestatic 70, 3) := dk_184 0 70 (dk_at dksX1_checkRectangle_1 8 rfl rfl)
theorem dX1_checkRectangle_34 : decode cX1_checkRectangle 34 = .ok (.return_, 1) := dk_177 (dk_at dksX1_checkRectangle_1 11 rfl rfl)
abbrev cX1_isPoint : ByteArray := prog_1_method_6_code
def yX1_isPoint : MethodName := ⟨RX1, "isPoint", "(II)Z"⟩
def dkwX1_isPoint_1 : List UInt8 := [3, 172]
abbrev dktX1_isPoint_1 : List UInt8 := dkwX1_isPoint_1 ++ []
def dkwX1_isPoint_0 : List UInt8 := [26, 3, 16, 24, 184, 0, 31, 153, 0, 17, 27, 3, 16, 24, 184, 0, 31, 153, 0, 7, 4, 167, 0, 4]
abbrev dktX1_isPoint_0 : List UInt8 := dkwX1_isPoint_0 ++ dktX1_isPoint_1
theorem dksX1_isPoint_0 : cX1_isPoint.data.toList.drop 0 = dktX1_isPoint_0 := by decide +kernel
theorem dksX1_isPoint_1 : cX1_isPoint.data.toList.drop 24 = dktX1_isPoint_1 := dk_seg dksX1_isPoint_0 24 rfl rfl
theorem dX1_isPoint_0 : decode cX1_isPoint 0 = .ok (.iload_n 0, 1) := dk_26 (dk_at dksX1_isPoint_0 0 rfl rfl)
theorem dX1_isPoint_1 : decode cX1_isPoint 1 = .ok (.iconst 0, 1) := dk_3 (dk_at dksX1_isPoint_0 1 rfl rfl)
theorem dX1_isPoint_2 : decode cX1_isPoint 2 = .ok (.bipush 24, 2) := dk_16 24 (dk_at dksX1_isPoint_0 2 rfl rfl)
theorem dX1_isPoint_4 : decode cX1_isPoint 4 = .ok (.invokestatic 31, 3) := dk_184 0 31 (dk_at dksX1_isPoint_0 4 rfl rfl)
theorem dX1_isPoint_7 : decode cX1_isPoint 7 = .ok (.ifCond .eq 17, 3) := dk_153 0 17 (dk_at dksX1_isPoint_0 7 rfl rfl)
theorem dX1_isPoint_10 : decode cX1_isPoint 10 = .ok (.iload_n 1, 1) := dk_27 (dk_at dksX1_isPoint_0 10 rfl rfl)
theorem dX1_isPoint_11 : decode cX1_isPoint 11 = .ok (.iconst 0, 1) := dk_3 (dk_at dksX1_isPoint_0 11 rfl rfl)
theorem dX1_isPoint_12 : decode cX1_isPoint 12 = .ok (.bipush 24, 2) := dk_16 24 (dk_at dksX1_isPoint_0 12 rfl rfl)
theorem dX1_isPoint_14 : decode cX1_isPoint 14 = .ok (.invokestatic 31, 3) := dk_184 0 31 (dk_at dksX1_isPoint_0 14 rfl rfl)
theorem dX1_isPoint_17 : decode cX1_isPoint 17 = .ok (.ifCond .eq 7, 3) := dk_153 0 7 (dk_at dksX1_isPoint_0 17 rfl rfl)
theorem dX1_isPoint_20 : decode cX1_isPoint 20 = .ok (.iconst 1, 1) := dk_4 (dk_at dksX1_isPoint_0 20 rfl rfl)
theorem dX1_isPoint_21 : decode cX1_isPoint 21 = .ok (.goto 4, 3) := dk_167 0 4 (dk_at dksX1_isPoint_0 21 rfl rfl)
theorem dX1_isPoint_24 : decode cX1_isPoint 24 = .ok (.iconst 0, 1) := dk_3 (dk_at dksX1_isPoint_1 0 rfl rfl)
theorem dX1_isPoint_25 : decode cX1_isPoint 25 = .ok (.ireturn, 1) := dk_172 (dk_at dksX1_isPoint_1 1 rfl rfl)
abbrev cX1_checkArgument : ByteArray := prog_1_method_2_code
def yX1_checkArgument : MethodName := ⟨RX1, "checkArgument", "(Z)V"⟩
def dkwX1_checkArgument_0 : List UInt8 := [26, 154, 0, 11, 187, 0, 25, 89, 183, 0, 27, 191, 177]
abbrev dktX1_checkArgument_0 : List UInt8 := dkwX1_checkArgument_0 ++ []
theorem dksX1_checkArgument_0 : cX1_checkArgument.data.toList.drop 0 = dktX1_checkArgument_0 := by decide +kernel
theorem dX1_checkArgument_0 : decode cX1_checkArgument 0 = .ok (.iload_n 0, 1) := dk_26 (dk_at dksX1_checkArgument_0 0 rfl rfl)
theorem dX1_checkArgument_1 : decode cX1_checkArgument 1 = .ok (.ifCond .ne 11, 3) := dk_154 0 11 (dk_at dksX1_checkArgument_0 1 rfl rfl)
theorem dX1_checkArgument_4 : decode cX1_checkArgument 4 = .ok (.new 25, 3) := dk_187 0 25 (dk_at dksX1_checkArgument_0 4 rfl rfl)
theorem dX1_checkArgument_7 : decode cX1_checkArgument 7 = .ok (.dup, 1) := dk_89 (dk_at dksX1_checkArgument_0 7 rfl rfl)
theorem dX1_checkArgument_8 : decode cX1_checkArgument 8 = .ok (.invokespecial 27, 3) := dk_183 0 27 (dk_at dksX1_checkArgument_0 8 rfl rfl)
theorem dX1_checkArgument_11 : decode cX1_checkArgument 11 = .ok (.athrow, 1) := dk_191 (dk_at dksX1_checkArgument_0 11 rfl rfl)
theorem dX1_checkArgument_12 : decode cX1_checkArgument 12 = .ok (.return_, 1) := dk_177 (dk_at dksX1_checkArgument_0 12 rfl rfl)
abbrev cX1_change : ByteArray := prog_1_method_12_code
def yX1_change : MethodName := ⟨RX1, "change", "(ILPolygonBoard$Region;LPolygonBoard$Operation;)I"⟩
def dkwX1_change_1 : List UInt8 := [27, 185, 0, 42, 2, 0, 192, 0, 16, 44, 45, 182, 0, 73, 182, 0, 77, 21, 4, 100, 172]
abbrev dktX1_change_1 : List UInt8 := dkwX1_change_1 ++ []
def dkwX1_change_0 : List UInt8 := [42, 180, 0, 10, 27, 185, 0, 42, 2, 0, 192, 0, 16, 182, 0, 62, 54, 4, 42, 27, 42, 180, 0, 10]
abbrev dktX1_change_0 : List UInt8 := dkwX1_change_0 ++ dktX1_change_1
theorem dksX1_change_0 : cX1_change.data.toList.drop 0 = dktX1_change_0 := by decide +kernel
theorem dksX1_change_1 : cX1_change.data.toList.drop 24 = dktX1_change_1 := dk_seg dksX1_change_0 24 rfl rfl
theorem dX1_change_0 : decode cX1_change 0 = .ok (.aload_n 0, 1) := dk_42 (dk_at dksX1_change_0 0 rfl rfl)
theorem dX1_change_1 : decode cX1_change 1 = .ok (.getfield 10, 3) := dk_180 0 10 (dk_at dksX1_change_0 1 rfl rfl)
theorem dX1_change_4 : decode cX1_change 4 = .ok (.iload_n 1, 1) := dk_27 (dk_at dksX1_change_0 4 rfl rfl)
theorem dX1_change_5 : decode cX1_change 5 = .ok (.invokeinterface 42 2, 5) := by decide +kernel
theorem dX1_change_10 : decode cX1_change 10 = .ok (.checkcast 16, 3) := dk_192 0 16 (dk_at dksX1_change_0 10 rfl rfl)
theorem dX1_change_13 : decode cX1_change 13 = .ok (.invokevirtual 62, 3) := dk_182 0 62 (dk_at dksX1_change_0 13 rfl rfl)
theorem dX1_change_16 : decode cX1_change 16 = .ok (.istore 4, 2) := dk_54 4 (dk_at dksX1_change_0 16 rfl rfl)
theorem dX1_change_18 : decode cX1_change 18 = .ok (.aload_n 0, 1) := dk_42 (dk_at dksX1_change_0 18 rfl rfl)
theorem dX1_change_19 : decode cX1_change 19 = .ok (.iload_n 1, 1) := dk_27 (dk_at dksX1_change_0 19 rfl rfl)
theorem dX1_change_20 : decode cX1_change 20 = .ok (.aload_n 0, 1) := dk_42 (dk_at dksX1_change_0 20 rfl rfl)
theorem dX1_change_21 : decode cX1_change 21 = .ok (.getfield 10, 3) := dk_180 0 10 (dk_at dksX1_change_0 21 rfl rfl)
theorem dX1_change_24 : decode cX1_change 24 = .ok (.iload_n 1, 1) := dk_27 (dk_at dksX1_change_1 0 rfl rfl)
theorem dX1_change_25 : decode cX1_change 25 = .ok (.invokeinterface 42 2, 5) := by decide +kernel
theorem dX1_change_30 : decode cX1_change 30 = .ok (.checkcast 16, 3) := dk_192 0 16 (dk_at dksX1_change_1 6 rfl rfl)
theorem dX1_change_33 : decode cX1_change 33 = .ok (.aload_n 2, 1) := dk_44 (dk_at dksX1_change_1 9 rfl rfl)
theorem dX1_change_34 : decode cX1_change 34 = .ok (.aload_n 3, 1) := dk_45 (dk_at dksX1_change_1 10 rfl rfl)
theorem dX1_change_35 : decode cX1_change 35 = .ok (.invokevirtual 73, 3) := dk_182 0 73 (dk_at dksX1_change_1 11 rfl rfl)
theorem dX1_change_38 : decode cX1_change 38 = .ok (.invokevirtual 77, 3) := dk_182 0 77 (dk_at dksX1_change_1 14 rfl rfl)
theorem dX1_change_41 : decode cX1_change 41 = .ok (.iload 4, 2) := dk_21 4 (dk_at dksX1_change_1 17 rfl rfl)
theorem dX1_change_43 : decode cX1_change 43 = .ok (.isub, 1) := dk_100 (dk_at dksX1_change_1 19 rfl rfl)
theorem dX1_change_44 : decode cX1_change 44 = .ok (.ireturn, 1) := dk_172 (dk_at dksX1_change_1 20 rfl rfl)
abbrev cX1_put : ByteArray := prog_1_method_10_code
def yX1_put : MethodName := ⟨RX1, "put", "(ILPolygonBoard$Region;)I"⟩
def dkwX1_put_0 : List UInt8 := [42, 180, 0, 10, 27, 44, 185, 0, 58, 3, 0, 87, 44, 182, 0, 62, 172]
abbrev dktX1_put_0 : List UInt8 := dkwX1_put_0 ++ []
theorem dksX1_put_0 : cX1_put.data.toList.drop 0 = dktX1_put_0 := by decide +kernel
theorem dX1_put_0 : decode cX1_put 0 = .ok (.aload_n 0, 1) := dk_42 (dk_at dksX1_put_0 0 rfl rfl)
theorem dX1_put_1 : decode cX1_put 1 = .ok (.getfield 10, 3) := dk_180 0 10 (dk_at dksX1_put_0 1 rfl rfl)
theorem dX1_put_4 : decode cX1_put 4 = .ok (.iload_n 1, 1) := dk_27 (dk_at dksX1_put_0 4 rfl rfl)
theorem dX1_put_5 : decode cX1_put 5 = .ok (.aload_n 2, 1) := dk_44 (dk_at dksX1_put_0 5 rfl rfl)
theorem dX1_put_6 : decode cX1_put 6 = .ok (.invokeinterface 58 3, 5) := by decide +kernel
theorem dX1_put_11 : decode cX1_put 11 = .ok (.pop, 1) := dk_87 (dk_at dksX1_put_0 11 rfl rfl)
theorem dX1_put_12 : decode cX1_put 12 = .ok (.aload_n 2, 1) := dk_44 (dk_at dksX1_put_0 12 rfl rfl)
theorem dX1_put_13 : decode cX1_put 13 = .ok (.invokevirtual 62, 3) := dk_182 0 62 (dk_at dksX1_put_0 13 rfl rfl)
theorem dX1_put_16 : decode cX1_put 16 = .ok (.ireturn, 1) := dk_172 (dk_at dksX1_put_0 16 rfl rfl)
abbrev cX1_erase : ByteArray := prog_1_method_14_code
def yX1_erase : MethodName := ⟨RX1, "erase", "(IIIII)I"⟩
def dkwX1_erase_1 : List UInt8 := [184, 0, 85, 178, 0, 99, 182, 0, 95, 116, 172]
abbrev dktX1_erase_1 : List UInt8 := dkwX1_erase_1 ++ []
def dkwX1_erase_0 : List UInt8 := [42, 27, 182, 0, 46, 87, 28, 29, 21, 4, 21, 5, 184, 0, 81, 42, 27, 28, 29, 21, 4, 21, 5]
abbrev dktX1_erase_0 : List UInt8 := dkwX1_erase_0 ++ dktX1_erase_1
theorem dksX1_erase_0 : cX1_erase.data.toList.drop 0 = dktX1_erase_0 := by decide +kernel
theorem dksX1_erase_1 : cX1_erase.data.toList.drop 23 = dktX1_erase_1 := dk_seg dksX1_erase_0 23 rfl rfl
theorem dX1_erase_0 : decode cX1_erase 0 = .ok (.aload_n 0, 1) := dk_42 (dk_at dksX1_erase_0 0 rfl rfl)
theorem dX1_erase_1 : decode cX1_erase 1 = .ok (.iload_n 1, 1) := dk_27 (dk_at dksX1_erase_0 1 rfl rfl)
theorem dX1_erase_2 : decode cX1_erase 2 = .ok (.invokevirtual 46, 3) := dk_182 0 46 (dk_at dksX1_erase_0 2 rfl rfl)
theorem dX1_erase_5 : decode cX1_erase 5 = .ok (.pop, 1) := dk_87 (dk_at dksX1_erase_0 5 rfl rfl)
theorem dX1_erase_6 : decode cX1_erase 6 = .ok (.iload_n 2, 1) := dk_28 (dk_at dksX1_erase_0 6 rfl rfl)
theorem dX1_erase_7 : decode cX1_erase 7 = .ok (.iload_n 3, 1) := dk_29 (dk_at dksX1_erase_0 7 rfl rfl)
theorem dX1_erase_8 : decode cX1_erase 8 = .ok (.iload 4, 2) := dk_21 4 (dk_at dksX1_erase_0 8 rfl rfl)
theorem dX1_erase_10 : decode cX1_erase 10 = .ok (.iload 5, 2) := dk_21 5 (dk_at dksX1_erase_0 10 rfl rfl)
theorem dX1_erase_12 : decode cX1_erase 12 = .ok (.invokestatic 81, 3) := dk_184 0 81 (dk_at dksX1_erase_0 12 rfl rfl)
theorem dX1_erase_15 : decode cX1_erase 15 = .ok (.aload_n 0, 1) := dk_42 (dk_at dksX1_erase_0 15 rfl rfl)
theorem dX1_erase_16 : decode cX1_erase 16 = .ok (.iload_n 1, 1) := dk_27 (dk_at dksX1_erase_0 16 rfl rfl)
theorem dX1_erase_17 : decode cX1_erase 17 = .ok (.iload_n 2, 1) := dk_28 (dk_at dksX1_erase_0 17 rfl rfl)
theorem dX1_erase_18 : decode cX1_erase 18 = .ok (.iload_n 3, 1) := dk_29 (dk_at dksX1_erase_0 18 rfl rfl)
theorem dX1_erase_19 : decode cX1_erase 19 = .ok (.iload 4, 2) := dk_21 4 (dk_at dksX1_erase_0 19 rfl rfl)
theorem dX1_erase_21 : decode cX1_erase 21 = .ok (.iload 5, 2) := dk_21 5 (dk_at dksX1_erase_0 21 rfl rfl)
theorem dX1_erase_23 : decode cX1_erase 23 = .ok (.invokestatic 85, 3) := dk_184 0 85 (dk_at dksX1_erase_1 0 rfl rfl)
theorem dX1_erase_26 : decode cX1_erase 26 = .ok (.getstatic 99, 3) := dk_178 0 99 (dk_at dksX1_erase_1 3 rfl rfl)
theorem dX1_erase_29 : decode cX1_erase 29 = .ok (.invokevirtual 95, 3) := dk_182 0 95 (dk_at dksX1_erase_1 6 rfl rfl)
theorem dX1_erase_32 : decode cX1_erase 32 = .ok (.ineg, 1) := dk_116 (dk_at dksX1_erase_1 9 rfl rfl)
theorem dX1_erase_33 : decode cX1_erase 33 = .ok (.ireturn, 1) := dk_172 (dk_at dksX1_erase_1 10 rfl rfl)
abbrev cX1_clear : ByteArray := prog_1_method_15_code
def yX1_clear : MethodName := ⟨RX1, "clear", "(I)I"⟩
def dkwX1_clear_0 : List UInt8 := [42, 27, 182, 0, 46, 182, 0, 62, 61, 42, 27, 187, 0, 16, 89, 183, 0, 18, 182, 0, 77, 87, 28, 172]
abbrev dktX1_clear_0 : List UInt8 := dkwX1_clear_0 ++ []
theorem dksX1_clear_0 : cX1_clear.data.toList.drop 0 = dktX1_clear_0 := by decide +kernel
theorem dX1_clear_0 : decode cX1_clear 0 = .ok (.aload_n 0, 1) := dk_42 (dk_at dksX1_clear_0 0 rfl rfl)
theorem dX1_clear_1 : decode cX1_clear 1 = .ok (.iload_n 1, 1) := dk_27 (dk_at dksX1_clear_0 1 rfl rfl)
theorem dX1_clear_2 : decode cX1_clear 2 = .ok (.invokevirtual 46, 3) := dk_182 0 46 (dk_at dksX1_clear_0 2 rfl rfl)
theorem dX1_clear_5 : decode cX1_clear 5 = .ok (.invokevirtual 62, 3) := dk_182 0 62 (dk_at dksX1_clear_0 5 rfl rfl)
theorem dX1_clear_8 : decode cX1_clear 8 = .ok (.istore_n 2, 1) := dk_61 (dk_at dksX1_clear_0 8 rfl rfl)
theorem dX1_clear_9 : decode cX1_clear 9 = .ok (.aload_n 0, 1) := dk_42 (dk_at dksX1_clear_0 9 rfl rfl)
theorem dX1_clear_10 : decode cX1_clear 10 = .ok (.iload_n 1, 1) := dk_27 (dk_at dksX1_clear_0 10 rfl rfl)
theorem dX1_clear_11 : decode cX1_clear 11 = .ok (.new 16, 3) := dk_187 0 16 (dk_at dksX1_clear_0 11 rfl rfl)
theorem dX1_clear_14 : decode cX1_clear 14 = .ok (.dup, 1) := dk_89 (dk_at dksX1_clear_0 14 rfl rfl)
theorem dX1_clear_15 : decode cX1_clear 15 = .ok (.invokespecial 18, 3) := dk_183 0 18 (dk_at dksX1_clear_0 15 rfl rfl)
theorem dX1_clear_18 : decode cX1_clear 18 = .ok (.invokevirtual 77, 3) := dk_182 0 77 (dk_at dksX1_clear_0 18 rfl rfl)
theorem dX1_clear_21 : decode cX1_clear 21 = .ok (.pop, 1) := dk_87 (dk_at dksX1_clear_0 21 rfl rfl)
theorem dX1_clear_22 : decode cX1_clear 22 = .ok (.iload_n 2, 1) := dk_28 (dk_at dksX1_clear_0 22 rfl rfl)
theorem dX1_clear_23 : decode cX1_clear 23 = .ok (.ireturn, 1) := dk_172 (dk_at dksX1_clear_0 23 rfl rfl)
abbrev cX1_moveTo : ByteArray := prog_1_method_16_code
def yX1_moveTo : MethodName := ⟨RX1, "moveTo", "(II)I"⟩
def dkwX1_moveTo_1 : List UInt8 := [180, 0, 107, 180, 0, 111, 172]
abbrev dktX1_moveTo_1 : List UInt8 := dkwX1_moveTo_1 ++ []
def dkwX1_moveTo_0 : List UInt8 := [27, 28, 184, 0, 66, 184, 0, 70, 42, 187, 0, 102, 89, 27, 28, 183, 0, 104, 181, 0, 107, 42]
abbrev dktX1_moveTo_0 : List UInt8 := dkwX1_moveTo_0 ++ dktX1_moveTo_1
theorem dksX1_moveTo_0 : cX1_moveTo.data.toList.drop 0 = dktX1_moveTo_0 := by decide +kernel
theorem dksX1_moveTo_1 : cX1_moveTo.data.toList.drop 22 = dktX1_moveTo_1 := dk_seg dksX1_moveTo_0 22 rfl rfl
theorem dX1_moveTo_0 : decode cX1_moveTo 0 = .ok (.iload_n 1, 1) := dk_27 (dk_at dksX1_moveTo_0 0 rfl rfl)
theorem dX1_moveTo_1 : decode cX1_moveTo 1 = .ok (.iload_n 2, 1) := dk_28 (dk_at dksX1_moveTo_0 1 rfl rfl)
theorem dX1_moveTo_2 : decode cX1_moveTo 2 = .ok (.invokestatic 66, 3) := dk_184 0 66 (dk_at dksX1_moveTo_0 2 rfl rfl)
theorem dX1_moveTo_5 : decode cX1_moveTo 5 = .ok (.invokestatic 70, 3) := dk_184 0 70 (dk_at dksX1_moveTo_0 5 rfl rfl)
theorem dX1_moveTo_8 : decode cX1_moveTo 8 = .ok (.aload_n 0, 1) := dk_42 (dk_at dksX1_moveTo_0 8 rfl rfl)
theorem dX1_moveTo_9 : decode cX1_moveTo 9 = .ok (.new 102, 3) := dk_187 0 102 (dk_at dksX1_moveTo_0 9 rfl rfl)
theorem dX1_moveTo_12 : decode cX1_moveTo 12 = .ok (.dup, 1) := dk_89 (dk_at dksX1_moveTo_0 12 rfl rfl)
theorem dX1_moveTo_13 : decode cX1_moveTo 13 = .ok (.iload_n 1, 1) := dk_27 (dk_at dksX1_moveTo_0 13 rfl rfl)
theorem dX1_moveTo_14 : decode cX1_moveTo 14 = .ok (.iload_n 2, 1) := dk_28 (dk_at dksX1_moveTo_0 14 rfl rfl)
theorem dX1_moveTo_15 : decode cX1_moveTo 15 = .ok (.invokespecial 104, 3) := dk_183 0 104 (dk_at dksX1_moveTo_0 15 rfl rfl)
theorem dX1_moveTo_18 : decode cX1_moveTo 18 = .ok (.putfield 107, 3) := dk_181 0 107 (dk_at dksX1_moveTo_0 18 rfl rfl)
theorem dX1_moveTo_21 : decode cX1_moveTo 21 = .ok (.aload_n 0, 1) := dk_42 (dk_at dksX1_moveTo_0 21 rfl rfl)
theorem dX1_moveTo_22 : decode cX1_moveTo 22 = .ok (.getfield 107, 3) := dk_180 0 107 (dk_at dksX1_moveTo_1 0 rfl rfl)
theorem dX1_moveTo_25 : decode cX1_moveTo 25 = .ok (.getfield 111, 3) := dk_180 0 111 (dk_at dksX1_moveTo_1 3 rfl rfl)
theorem dX1_moveTo_28 : decode cX1_moveTo 28 = .ok (.ireturn, 1) := dk_172 (dk_at dksX1_moveTo_1 6 rfl rfl)
abbrev cX1_lineTo : ByteArray := prog_1_method_18_code
def yX1_lineTo : MethodName := ⟨RX1, "lineTo", "(II)I"⟩
def dkwX1_lineTo_3 : List UInt8 := [182, 0, 124, 42, 180, 0, 107, 180, 0, 111, 172]
abbrev dktX1_lineTo_3 : List UInt8 := dkwX1_lineTo_3 ++ []
def dkwX1_lineTo_2 : List UInt8 := [100, 27, 28, 182, 0, 121, 153, 0, 7, 4, 167, 0, 4, 3, 184, 0, 70, 42, 180, 0, 107, 27, 28]
abbrev dktX1_lineTo_2 : List UInt8 := dkwX1_lineTo_2 ++ dktX1_lineTo_3
def dkwX1_lineTo_1 : List UInt8 := [3, 182, 0, 118, 27, 28, 184, 0, 66, 153, 0, 28, 42, 180, 0, 107, 42, 180, 0, 107, 180, 0, 111, 4]
abbrev dktX1_lineTo_1 : List UInt8 := dkwX1_lineTo_1 ++ dktX1_lineTo_2
def dkwX1_lineTo_0 : List UInt8 := [42, 42, 180, 0, 107, 198, 0, 19, 42, 180, 0, 107, 180, 0, 111, 16, 40, 162, 0, 7, 4, 167, 0, 4]
abbrev dktX1_lineTo_0 : List UInt8 := dkwX1_lineTo_0 ++ dktX1_lineTo_1
theorem dksX1_lineTo_0 : cX1_lineTo.data.toList.drop 0 = dktX1_lineTo_0 := by decide +kernel
theorem dksX1_lineTo_1 : cX1_lineTo.data.toList.drop 24 = dktX1_lineTo_1 := dk_seg dksX1_lineTo_0 24 rfl rfl
theorem dksX1_lineTo_2 : cX1_lineTo.data.toList.drop 48 = dktX1_lineTo_2 := dk_seg dksX1_lineTo_1 24 rfl rfl
theorem dksX1_lineTo_3 : cX1_lineTo.data.toList.drop 71 = dktX1_lineTo_3 := dk_seg dksX1_lineTo_2 23 rfl rfl
theorem dX1_lineTo_0 : decode cX1_lineTo 0 = .ok (.aload_n 0, 1) := dk_42 (dk_at dksX1_lineTo_0 0 rfl rfl)
theorem dX1_lineTo_1 : decode cX1_lineTo 1 = .ok (.aload_n 0, 1) := dk_42 (dk_at dksX1_lineTo_0 1 rfl rfl)
theorem dX1_lineTo_2 : decode cX1_lineTo 2 = .ok (.getfield 107, 3) := dk_180 0 107 (dk_at dksX1_lineTo_0 2 rfl rfl)
theorem dX1_lineTo_5 : decode cX1_lineTo 5 = .ok (.ifnull 19, 3) := dk_198 0 19 (dk_at dksX1_lineTo_0 5 rfl rfl)
theorem dX1_lineTo_8 : decode cX1_lineTo 8 = .ok (.aload_n 0, 1) := dk_42 (dk_at dksX1_lineTo_0 8 rfl rfl)
theorem dX1_lineTo_9 : decode cX1_lineTo 9 = .ok (.getfield 107, 3) := dk_180 0 107 (dk_at dksX1_lineTo_0 9 rfl rfl)
theorem dX1_lineTo_12 : decode cX1_lineTo 12 = .ok (.getfield 111, 3) := dk_180 0 111 (dk_at dksX1_lineTo_0 12 rfl rfl)
theorem dX1_lineTo_15 : decode cX1_lineTo 15 = .ok (.bipush 40, 2) := dk_16 40 (dk_at dksX1_lineTo_0 15 rfl rfl)
theorem dX1_lineTo_17 : decode cX1_lineTo 17 = .ok (.if_icmp .ge 7, 3) := dk_162 0 7 (dk_at dksX1_lineTo_0 17 rfl rfl)
theorem dX1_lineTo_20 : decode cX1_lineTo 20 = .ok (.iconst 1, 1) := dk_4 (dk_at dksX1_lineTo_0 20 rfl rfl)
theorem dX1_lineTo_21 : decode cX1_lineTo 21 = .ok (.goto 4, 3) := dk_167 0 4 (dk_at dksX1_lineTo_0 21 rfl rfl)
theorem dX1_lineTo_24 : decode cX1_lineTo 24 = .ok (.iconst 0, 1) := dk_3 (dk_at dksX1_lineTo_1 0 rfl rfl)
theorem dX1_lineTo_25 : decode cX1_lineTo 25 = .ok (.invokevirtual 118, 3) := dk_182 0 118 (dk_at dksX1_lineTo_1 1 rfl rfl)
theorem dX1_lineTo_28 : decode cX1_lineTo 28 = .ok (.iload_n 1, 1) := dk_27 (dk_at dksX1_lineTo_1 4 rfl rfl)
theorem dX1_lineTo_29 : decode cX1_lineTo 29 = .ok (.iload_n 2, 1) := dk_28 (dk_at dksX1_lineTo_1 5 rfl rfl)
theorem dX1_lineTo_30 : decode cX1_lineTo 30 = .ok (.invokestatic 66, 3) := dk_184 0 66 (dk_at dksX1_lineTo_1 6 rfl rfl)
theorem dX1_lineTo_33 : decode cX1_lineTo 33 = .ok (.ifCond .eq 28, 3) := dk_153 0 28 (dk_at dksX1_lineTo_1 9 rfl rfl)
theorem dX1_lineTo_36 : decode cX1_lineTo 36 = .ok (.aload_n 0, 1) := dk_42 (dk_at dksX1_lineTo_1 12 rfl rfl)
theorem dX1_lineTo_37 : decode cX1_lineTo 37 = .ok (.getfield 107, 3) := dk_180 0 107 (dk_at dksX1_lineTo_1 13 rfl rfl)
theorem dX1_lineTo_40 : decode cX1_lineTo 40 = .ok (.aload_n 0, 1) := dk_42 (dk_at dksX1_lineTo_1 16 rfl rfl)
theorem dX1_lineTo_41 : decode cX1_lineTo 41 = .ok (.getfield 107, 3) := dk_180 0 107 (dk_at dksX1_lineTo_1 17 rfl rfl)
theorem dX1_lineTo_44 : decode cX1_lineTo 44 = .ok (.getfield 111, 3) := dk_180 0 111 (dk_at dksX1_lineTo_1 20 rfl rfl)
theorem dX1_lineTo_47 : decode cX1_lineTo 47 = .ok (.iconst 1, 1) := dk_4 (dk_at dksX1_lineTo_1 23 rfl rfl)
theorem dX1_lineTo_48 : decode cX1_lineTo 48 = .ok (.isub, 1) := dk_100 (dk_at dksX1_lineTo_2 0 rfl rfl)
theorem dX1_lineTo_49 : decode cX1_lineTo 49 = .ok (.iload_n 1, 1) := dk_27 (dk_at dksX1_lineTo_2 1 rfl rfl)
theorem dX1_lineTo_50 : decode cX1_lineTo 50 = .ok (.iload_n 2, 1) := dk_28 (dk_at dksX1_lineTo_2 2 rfl rfl)
theorem dX1_lineTo_51 : decode cX1_lineTo 51 = .ok (.invokevirtual 121, 3) := dk_182 0 121 (dk_at dksX1_lineTo_2 3 rfl rfl)
theorem dX1_lineTo_54 : decode cX1_lineTo 54 = .ok (.ifCond .eq 7, 3) := dk_153 0 7 (dk_at dksX1_lineTo_2 6 rfl rfl)
theorem dX1_lineTo_57 : decode cX1_lineTo 57 = .ok (.iconst 1, 1) := dk_4 (dk_at dksX1_lineTo_2 9 rfl rfl)
theorem dX1_lineTo_58 : decode cX1_lineTo 58 = .ok (.goto 4, 3) := dk_167 0 4 (dk_at dksX1_lineTo_2 10 rfl rfl)
theorem dX1_lineTo_61 : decode cX1_lineTo 61 = .ok (.iconst 0, 1) := dk_3 (dk_at dksX1_lineTo_2 13 rfl rfl)
theorem dX1_lineTo_62 : decode cX1_lineTo 62 = .ok (.invokestatic 70, 3) := dk_184 0 70 (dk_at dksX1_lineTo_2 14 rfl rfl)
theorem dX1_lineTo_65 : decode cX1_lineTo 65 = .ok (.aload_n 0, 1) := dk_42 (dk_at dksX1_lineTo_2 17 rfl rfl)
theorem dX1_lineTo_66 : decode cX1_lineTo 66 = .ok (.getfield 107, 3) := dk_180 0 107 (dk_at dksX1_lineTo_2 18 rfl rfl)
theorem dX1_lineTo_69 : decode cX1_lineTo 69 = .ok (.iload_n 1, 1) := dk_27 (dk_at dksX1_lineTo_2 21 rfl rfl)
theorem dX1_lineTo_70 : decode cX1_lineTo 70 = .ok (.iload_n 2, 1) := dk_28 (dk_at dksX1_lineTo_2 22 rfl rfl)
theorem dX1_lineTo_71 : decode cX1_lineTo 71 = .ok (.invokevirtual 124, 3) := dk_182 0 124 (dk_at dksX1_lineTo_3 0 rfl rfl)
theorem dX1_lineTo_74 : decode cX1_lineTo 74 = .ok (.aload_n 0, 1) := dk_42 (dk_at dksX1_lineTo_3 3 rfl rfl)
theorem dX1_lineTo_75 : decode cX1_lineTo 75 = .ok (.getfield 107, 3) := dk_180 0 107 (dk_at dksX1_lineTo_3 4 rfl rfl)
theorem dX1_lineTo_78 : decode cX1_lineTo 78 = .ok (.getfield 111, 3) := dk_180 0 111 (dk_at dksX1_lineTo_3 7 rfl rfl)
theorem dX1_lineTo_81 : decode cX1_lineTo 81 = .ok (.ireturn, 1) := dk_172 (dk_at dksX1_lineTo_3 10 rfl rfl)
abbrev cX1_checkPath : ByteArray := prog_1_method_17_code
def yX1_checkPath : MethodName := ⟨RX1, "checkPath", "(Z)V"⟩
def dkwX1_checkPath_0 : List UInt8 := [27, 154, 0, 11, 187, 0, 115, 89, 183, 0, 117, 191, 177]
abbrev dktX1_checkPath_0 : List UInt8 := dkwX1_checkPath_0 ++ []
theorem dksX1_checkPath_0 : cX1_checkPath.data.toList.drop 0 = dktX1_checkPath_0 := by decide +kernel
theorem dX1_checkPath_0 : decode cX1_checkPath 0 = .ok (.iload_n 1, 1) := dk_27 (dk_at dksX1_checkPath_0 0 rfl rfl)
theorem dX1_checkPath_1 : decode cX1_checkPath 1 = .ok (.ifCond .ne 11, 3) := dk_154 0 11 (dk_at dksX1_checkPath_0 1 rfl rfl)
theorem dX1_checkPath_4 : decode cX1_checkPath 4 = .ok (.new 115, 3) := dk_187 0 115 (dk_at dksX1_checkPath_0 4 rfl rfl)
theorem dX1_checkPath_7 : decode cX1_checkPath 7 = .ok (.dup, 1) := dk_89 (dk_at dksX1_checkPath_0 7 rfl rfl)
theorem dX1_checkPath_8 : decode cX1_checkPath 8 = .ok (.invokespecial 117, 3) := dk_183 0 117 (dk_at dksX1_checkPath_0 8 rfl rfl)
theorem dX1_checkPath_11 : decode cX1_checkPath 11 = .ok (.athrow, 1) := dk_191 (dk_at dksX1_checkPath_0 11 rfl rfl)
theorem dX1_checkPath_12 : decode cX1_checkPath 12 = .ok (.return_, 1) := dk_177 (dk_at dksX1_checkPath_0 12 rfl rfl)
abbrev cX1_closePath : ByteArray := prog_1_method_19_code
def yX1_closePath : MethodName := ⟨RX1, "closePath", "(IZ)I"⟩
def dkwX1_closePath_2 : List UInt8 := [45, 182, 0, 77, 172]
abbrev dktX1_closePath_2 : List UInt8 := dkwX1_closePath_2 ++ []
def dkwX1_closePath_1 : List UInt8 := [4, 167, 0, 4, 3, 182, 0, 118, 42, 180, 0, 107, 28, 182, 0, 129, 78, 42, 1, 181, 0, 107, 42, 27]
abbrev dktX1_closePath_1 : List UInt8 := dkwX1_closePath_1 ++ dktX1_closePath_2
def dkwX1_closePath_0 : List UInt8 := [42, 27, 182, 0, 46, 87, 42, 42, 180, 0, 107, 198, 0, 17, 42, 180, 0, 107, 182, 0, 126, 153, 0, 7]
abbrev dktX1_closePath_0 : List UInt8 := dkwX1_closePath_0 ++ dktX1_closePath_1
theorem dksX1_closePath_0 : cX1_closePath.data.toList.drop 0 = dktX1_closePath_0 := by decide +kernel
theorem dksX1_closePath_1 : cX1_closePath.data.toList.drop 24 = dktX1_closePath_1 := dk_seg dksX1_closePath_0 24 rfl rfl
theorem dksX1_closePath_2 : cX1_closePath.data.toList.drop 48 = dktX1_closePath_2 := dk_seg dksX1_closePath_1 24 rfl rfl
theorem dX1_closePath_0 : decode cX1_closePath 0 = .ok (.aload_n 0, 1) := dk_42 (dk_at dksX1_closePath_0 0 rfl rfl)
theorem dX1_closePath_1 : decode cX1_closePath 1 = .ok (.iload_n 1, 1) := dk_27 (dk_at dksX1_closePath_0 1 rfl rfl)
theorem dX1_closePath_2 : decode cX1_closePath 2 = .ok (.invokevirtual 46, 3) := dk_182 0 46 (dk_at dksX1_closePath_0 2 rfl rfl)
theorem dX1_closePath_5 : decode cX1_closePath 5 = .ok (.pop, 1) := dk_87 (dk_at dksX1_closePath_0 5 rfl rfl)
theorem dX1_closePath_6 : decode cX1_closePath 6 = .ok (.aload_n 0, 1) := dk_42 (dk_at dksX1_closePath_0 6 rfl rfl)
theorem dX1_closePath_7 : decode cX1_closePath 7 = .ok (.aload_n 0, 1) := dk_42 (dk_at dksX1_closePath_0 7 rfl rfl)
theorem dX1_closePath_8 : decode cX1_closePath 8 = .ok (.getfield 107, 3) := dk_180 0 107 (dk_at dksX1_closePath_0 8 rfl rfl)
theorem dX1_closePath_11 : decode cX1_closePath 11 = .ok (.ifnull 17, 3) := dk_198 0 17 (dk_at dksX1_closePath_0 11 rfl rfl)
theorem dX1_closePath_14 : decode cX1_closePath 14 = .ok (.aload_n 0, 1) := dk_42 (dk_at dksX1_closePath_0 14 rfl rfl)
theorem dX1_closePath_15 : decode cX1_closePath 15 = .ok (.getfield 107, 3) := dk_180 0 107 (dk_at dksX1_closePath_0 15 rfl rfl)
theorem dX1_closePath_18 : decode cX1_closePath 18 = .ok (.invokevirtual 126, 3) := dk_182 0 126 (dk_at dksX1_closePath_0 18 rfl rfl)
theorem dX1_closePath_21 : decode cX1_closePath 21 = .ok (.ifCond .eq 7, 3) := dk_153 0 7 (dk_at dksX1_closePath_0 21 rfl rfl)
theorem dX1_closePath_24 : decode cX1_closePath 24 = .ok (.iconst 1, 1) := dk_4 (dk_at dksX1_closePath_1 0 rfl rfl)
theorem dX1_closePath_25 : decode cX1_closePath 25 = .ok (.goto 4, 3) := dk_167 0 4 (dk_at dksX1_closePath_1 1 rfl rfl)
theorem dX1_closePath_28 : decode cX1_closePath 28 = .ok (.iconst 0, 1) := dk_3 (dk_at dksX1_closePath_1 4 rfl rfl)
theorem dX1_closePath_29 : decode cX1_closePath 29 = .ok (.invokevirtual 118, 3) := dk_182 0 118 (dk_at dksX1_closePath_1 5 rfl rfl)
theorem dX1_closePath_32 : decode cX1_closePath 32 = .ok (.aload_n 0, 1) := dk_42 (dk_at dksX1_closePath_1 8 rfl rfl)
theorem dX1_closePath_33 : decode cX1_closePath 33 = .ok (.getfield 107, 3) := dk_180 0 107 (dk_at dksX1_closePath_1 9 rfl rfl)
theorem dX1_closePath_36 : decode cX1_closePath 36 = .ok (.iload_n 2, 1) := dk_28 (dk_at dksX1_closePath_1 12 rfl rfl)
theorem dX1_closePath_37 : decode cX1_closePath 37 = .ok (.invokevirtual 129, 3) := dk_182 0 129 (dk_at dksX1_closePath_1 13 rfl rfl)
theorem dX1_closePath_40 : decode cX1_closePath 40 = .ok (.astore_n 3, 1) := dk_78 (dk_at dksX1_closePath_1 16 rfl rfl)
theorem dX1_closePath_41 : decode cX1_closePath 41 = .ok (.aload_n 0, 1) := dk_42 (dk_at dksX1_closePath_1 17 rfl rfl)
theorem dX1_closePath_42 : decode cX1_closePath 42 = .ok (.aconst_null, 1) := dk_1 (dk_at dksX1_closePath_1 18 rfl rfl)
theorem dX1_closePath_43 : decode cX1_closePath 43 = .ok (.putfield 107, 3) := dk_181 0 107 (dk_at dksX1_closePath_1 19 rfl rfl)
theorem dX1_closePath_46 : decode cX1_closePath 46 = .ok (.aload_n 0, 1) := dk_42 (dk_at dksX1_closePath_1 22 rfl rfl)
theorem dX1_closePath_47 : decode cX1_closePath 47 = .ok (.iload_n 1, 1) := dk_27 (dk_at dksX1_closePath_1 23 rfl rfl)
theorem dX1_closePath_48 : decode cX1_closePath 48 = .ok (.aload_n 3, 1) := dk_45 (dk_at dksX1_closePath_2 0 rfl rfl)
theorem dX1_closePath_49 : decode cX1_closePath 49 = .ok (.invokevirtual 77, 3) := dk_182 0 77 (dk_at dksX1_closePath_2 1 rfl rfl)
theorem dX1_closePath_52 : decode cX1_closePath 52 = .ok (.ireturn, 1) := dk_172 (dk_at dksX1_closePath_2 4 rfl rfl)
abbrev cX1_combine : ByteArray := prog_1_method_21_code
def yX1_combine : MethodName := ⟨RX1, "combine", "(CIII)I"⟩
def dkwX1_combine_2 : List UInt8 := [25, 6, 25, 7, 182, 0, 73, 182, 0, 77, 172]
abbrev dktX1_combine_2 : List UInt8 := dkwX1_combine_2 ++ []
def dkwX1_combine_1 : List UInt8 := [184, 0, 133, 58, 7, 25, 7, 198, 0, 7, 4, 167, 0, 4, 3, 184, 0, 70, 42, 21, 4, 25, 5]
abbrev dktX1_combine_1 : List UInt8 := dkwX1_combine_1 ++ dktX1_combine_2
def dkwX1_combine_0 : List UInt8 := [42, 28, 182, 0, 46, 58, 5, 42, 29, 182, 0, 46, 58, 6, 42, 21, 4, 182, 0, 46, 87, 27]
abbrev dktX1_combine_0 : List UInt8 := dkwX1_combine_0 ++ dktX1_combine_1
theorem dksX1_combine_0 : cX1_combine.data.toList.drop 0 = dktX1_combine_0 := by decide +kernel
theorem dksX1_combine_1 : cX1_combine.data.toList.drop 22 = dktX1_combine_1 := dk_seg dksX1_combine_0 22 rfl rfl
theorem dksX1_combine_2 : cX1_combine.data.toList.drop 45 = dktX1_combine_2 := dk_seg dksX1_combine_1 23 rfl rfl
theorem dX1_combine_0 : decode cX1_combine 0 = .ok (.aload_n 0, 1) := dk_42 (dk_at dksX1_combine_0 0 rfl rfl)
theorem dX1_combine_1 : decode cX1_combine 1 = .ok (.iload_n 2, 1) := dk_28 (dk_at dksX1_combine_0 1 rfl rfl)
theorem dX1_combine_2 : decode cX1_combine 2 = .ok (.invokevirtual 46, 3) := dk_182 0 46 (dk_at dksX1_combine_0 2 rfl rfl)
theorem dX1_combine_5 : decode cX1_combine 5 = .ok (.astore 5, 2) := dk_58 5 (dk_at dksX1_combine_0 5 rfl rfl)
theorem dX1_combine_7 : decode cX1_combine 7 = .ok (.aload_n 0, 1) := dk_42 (dk_at dksX1_combine_0 7 rfl rfl)
theorem dX1_combine_8 : decode cX1_combine 8 = .ok (.iload_n 3, 1) := dk_29 (dk_at dksX1_combine_0 8 rfl rfl)
theorem dX1_combine_9 : decode cX1_combine 9 = .ok (.invokevirtual 46, 3) := dk_182 0 46 (dk_at dksX1_combine_0 9 rfl rfl)
theorem dX1_combine_12 : decode cX1_combine 12 = .ok (.astore 6, 2) := dk_58 6 (dk_at dksX1_combine_0 12 rfl rfl)
theorem dX1_combine_14 : decode cX1_combine 14 = .ok (.aload_n 0, 1) := dk_42 (dk_at dksX1_combine_0 14 rfl rfl)
theorem dX1_combine_15 : decode cX1_combine 15 = .ok (.iload 4, 2) := dk_21 4 (dk_at dksX1_combine_0 15 rfl rfl)
theorem dX1_combine_17 : decode cX1_combine 17 = .ok (.invokevirtual 46, 3) := dk_182 0 46 (dk_at dksX1_combine_0 17 rfl rfl)
theorem dX1_combine_20 : decode cX1_combine 20 = .ok (.pop, 1) := dk_87 (dk_at dksX1_combine_0 20 rfl rfl)
theorem dX1_combine_21 : decode cX1_combine 21 = .ok (.iload_n 1, 1) := dk_27 (dk_at dksX1_combine_0 21 rfl rfl)
theorem dX1_combine_22 : decode cX1_combine 22 = .ok (.invokestatic 133, 3) := dk_184 0 133 (dk_at dksX1_combine_1 0 rfl rfl)
theorem dX1_combine_25 : decode cX1_combine 25 = .ok (.astore 7, 2) := dk_58 7 (dk_at dksX1_combine_1 3 rfl rfl)
theorem dX1_combine_27 : decode cX1_combine 27 = .ok (.aload 7, 2) := dk_25 7 (dk_at dksX1_combine_1 5 rfl rfl)
theorem dX1_combine_29 : decode cX1_combine 29 = .ok (.ifnull 7, 3) := dk_198 0 7 (dk_at dksX1_combine_1 7 rfl rfl)
theorem dX1_combine_32 : decode cX1_combine 32 = .ok (.iconst 1, 1) := dk_4 (dk_at dksX1_combine_1 10 rfl rfl)
theorem dX1_combine_33 : decode cX1_combine 33 = .ok (.goto 4, 3) := dk_167 0 4 (dk_at dksX1_combine_1 11 rfl rfl)
theorem dX1_combine_36 : decode cX1_combine 36 = .ok (.iconst 0, 1) := dk_3 (dk_at dksX1_combine_1 14 rfl rfl)
theorem dX1_combine_37 : decode cX1_combine 37 = .ok (.invokestatic 70, 3) := dk_184 0 70 (dk_at dksX1_combine_1 15 rfl rfl)
theorem dX1_combine_40 : decode cX1_combine 40 = .ok (.aload_n 0, 1) := dk_42 (dk_at dksX1_combine_1 18 rfl rfl)
theorem dX1_combine_41 : decode cX1_combine 41 = .ok (.iload 4, 2) := dk_21 4 (dk_at dksX1_combine_1 19 rfl rfl)
theorem dX1_combine_43 : decode cX1_combine 43 = .ok (.aload 5, 2) := dk_25 5 (dk_at dksX1_combine_1 21 rfl rfl)
theorem dX1_combine_45 : decode cX1_combine 45 = .ok (.aload 6, 2) := dk_25 6 (dk_at dksX1_combine_2 0 rfl rfl)
theorem dX1_combine_47 : decode cX1_combine 47 = .ok (.aload 7, 2) := dk_25 7 (dk_at dksX1_combine_2 2 rfl rfl)
theorem dX1_combine_49 : decode cX1_combine 49 = .ok (.invokevirtual 73, 3) := dk_182 0 73 (dk_at dksX1_combine_2 4 rfl rfl)
theorem dX1_combine_52 : decode cX1_combine 52 = .ok (.invokevirtual 77, 3) := dk_182 0 77 (dk_at dksX1_combine_2 7 rfl rfl)
theorem dX1_combine_55 : decode cX1_combine 55 = .ok (.ireturn, 1) := dk_172 (dk_at dksX1_combine_2 10 rfl rfl)
abbrev cX1_grow : ByteArray := prog_1_method_24_code
def yX1_grow : MethodName := ⟨RX1, "grow", "(III)I"⟩
def dkwX1_grow_1 : List UInt8 := [182, 0, 77, 172]
abbrev dktX1_grow_1 : List UInt8 := dkwX1_grow_1 ++ []
def dkwX1_grow_0 : List UInt8 := [42, 27, 29, 182, 0, 137, 58, 4, 28, 184, 0, 141, 42, 29, 25, 4, 28, 182, 0, 145, 182, 0, 148]
abbrev dktX1_grow_0 : List UInt8 := dkwX1_grow_0 ++ dktX1_grow_1
theorem dksX1_grow_0 : cX1_grow.data.toList.drop 0 = dktX1_grow_0 := by decide +kernel
theorem dksX1_grow_1 : cX1_grow.data.toList.drop 23 = dktX1_grow_1 := dk_seg dksX1_grow_0 23 rfl rfl
theorem dX1_grow_0 : decode cX1_grow 0 = .ok (.aload_n 0, 1) := dk_42 (dk_at dksX1_grow_0 0 rfl rfl)
theorem dX1_grow_1 : decode cX1_grow 1 = .ok (.iload_n 1, 1) := dk_27 (dk_at dksX1_grow_0 1 rfl rfl)
theorem dX1_grow_2 : decode cX1_grow 2 = .ok (.iload_n 3, 1) := dk_29 (dk_at dksX1_grow_0 2 rfl rfl)
theorem dX1_grow_3 : decode cX1_grow 3 = .ok (.invokevirtual 137, 3) := dk_182 0 137 (dk_at dksX1_grow_0 3 rfl rfl)
theorem dX1_grow_6 : decode cX1_grow 6 = .ok (.astore 4, 2) := dk_58 4 (dk_at dksX1_grow_0 6 rfl rfl)
theorem dX1_grow_8 : decode cX1_grow 8 = .ok (.iload_n 2, 1) := dk_28 (dk_at dksX1_grow_0 8 rfl rfl)
theorem dX1_grow_9 : decode cX1_grow 9 = .ok (.invokestatic 141, 3) := dk_184 0 141 (dk_at dksX1_grow_0 9 rfl rfl)
theorem dX1_grow_12 : decode cX1_grow 12 = .ok (.aload_n 0, 1) := dk_42 (dk_at dksX1_grow_0 12 rfl rfl)
theorem dX1_grow_13 : decode cX1_grow 13 = .ok (.iload_n 3, 1) := dk_29 (dk_at dksX1_grow_0 13 rfl rfl)
theorem dX1_grow_14 : decode cX1_grow 14 = .ok (.aload 4, 2) := dk_25 4 (dk_at dksX1_grow_0 14 rfl rfl)
theorem dX1_grow_16 : decode cX1_grow 16 = .ok (.iload_n 2, 1) := dk_28 (dk_at dksX1_grow_0 16 rfl rfl)
theorem dX1_grow_17 : decode cX1_grow 17 = .ok (.invokevirtual 145, 3) := dk_182 0 145 (dk_at dksX1_grow_0 17 rfl rfl)
theorem dX1_grow_20 : decode cX1_grow 20 = .ok (.invokevirtual 148, 3) := dk_182 0 148 (dk_at dksX1_grow_0 20 rfl rfl)
theorem dX1_grow_23 : decode cX1_grow 23 = .ok (.invokevirtual 77, 3) := dk_182 0 77 (dk_at dksX1_grow_1 0 rfl rfl)
theorem dX1_grow_26 : decode cX1_grow 26 = .ok (.ireturn, 1) := dk_172 (dk_at dksX1_grow_1 3 rfl rfl)
abbrev cX1_regionFor : ByteArray := prog_1_method_22_code
def yX1_regionFor : MethodName := ⟨RX1, "regionFor", "(II)LPolygonBoard$Region;"⟩
def dkwX1_regionFor_0 : List UInt8 := [42, 28, 182, 0, 46, 87, 42, 27, 182, 0, 46, 176]
abbrev dktX1_regionFor_0 : List UInt8 := dkwX1_regionFor_0 ++ []
theorem dksX1_regionFor_0 : cX1_regionFor.data.toList.drop 0 = dktX1_regionFor_0 := by decide +kernel
theorem dX1_regionFor_0 : decode cX1_regionFor 0 = .ok (.aload_n 0, 1) := dk_42 (dk_at dksX1_regionFor_0 0 rfl rfl)
theorem dX1_regionFor_1 : decode cX1_regionFor 1 = .ok (.iload_n 2, 1) := dk_28 (dk_at dksX1_regionFor_0 1 rfl rfl)
theorem dX1_regionFor_2 : decode cX1_regionFor 2 = .ok (.invokevirtual 46, 3) := dk_182 0 46 (dk_at dksX1_regionFor_0 2 rfl rfl)
theorem dX1_regionFor_5 : decode cX1_regionFor 5 = .ok (.pop, 1) := dk_87 (dk_at dksX1_regionFor_0 5 rfl rfl)
theorem dX1_regionFor_6 : decode cX1_regionFor 6 = .ok (.aload_n 0, 1) := dk_42 (dk_at dksX1_regionFor_0 6 rfl rfl)
theorem dX1_regionFor_7 : decode cX1_regionFor 7 = .ok (.iload_n 1, 1) := dk_27 (dk_at dksX1_regionFor_0 7 rfl rfl)
theorem dX1_regionFor_8 : decode cX1_regionFor 8 = .ok (.invokevirtual 46, 3) := dk_182 0 46 (dk_at dksX1_regionFor_0 8 rfl rfl)
theorem dX1_regionFor_11 : decode cX1_regionFor 11 = .ok (.areturn, 1) := dk_176 (dk_at dksX1_regionFor_0 11 rfl rfl)
abbrev cX1_checkDistance : ByteArray := prog_1_method_23_code
def yX1_checkDistance : MethodName := ⟨RX1, "checkDistance", "(I)V"⟩
def dkwX1_checkDistance_0 : List UInt8 := [26, 3, 16, 8, 184, 0, 31, 184, 0, 70, 177]
abbrev dktX1_checkDistance_0 : List UInt8 := dkwX1_checkDistance_0 ++ []
theorem dksX1_checkDistance_0 : cX1_checkDistance.data.toList.drop 0 = dktX1_checkDistance_0 := by decide +kernel
theorem dX1_checkDistance_0 : decode cX1_checkDistance 0 = .ok (.iload_n 0, 1) := dk_26 (dk_at dksX1_checkDistance_0 0 rfl rfl)
theorem dX1_checkDistance_1 : decode cX1_checkDistance 1 = .ok (.iconst 0, 1) := dk_3 (dk_at dksX1_checkDistance_0 1 rfl rfl)
theorem dX1_checkDistance_2 : decode cX1_checkDistance 2 = .ok (.bipush 8, 2) := dk_16 8 (dk_at dksX1_checkDistance_0 2 rfl rfl)
theorem dX1_checkDistance_4 : decode cX1_checkDistance 4 = .ok (.invokestatic 31, 3) := dk_184 0 31 (dk_at dksX1_checkDistance_0 4 rfl rfl)
theorem dX1_checkDistance_7 : decode cX1_checkDistance 7 = .ok (.invokestatic 70, 3) := dk_184 0 70 (dk_at dksX1_checkDistance_0 7 rfl rfl)
theorem dX1_checkDistance_10 : decode cX1_checkDistance 10 = .ok (.return_, 1) := dk_177 (dk_at dksX1_checkDistance_0 10 rfl rfl)
abbrev cX1_shrink : ByteArray := prog_1_method_25_code
def yX1_shrink : MethodName := ⟨RX1, "shrink", "(III)I"⟩
def dkwX1_shrink_0 : List UInt8 := [42, 27, 29, 182, 0, 137, 58, 4, 28, 184, 0, 141, 42, 29, 25, 4, 28, 182, 0, 152, 182, 0, 77, 172]
abbrev dktX1_shrink_0 : List UInt8 := dkwX1_shrink_0 ++ []
theorem dksX1_shrink_0 : cX1_shrink.data.toList.drop 0 = dktX1_shrink_0 := by decide +kernel
theorem dX1_shrink_0 : decode cX1_shrink 0 = .ok (.aload_n 0, 1) := dk_42 (dk_at dksX1_shrink_0 0 rfl rfl)
theorem dX1_shrink_1 : decode cX1_shrink 1 = .ok (.iload_n 1, 1) := dk_27 (dk_at dksX1_shrink_0 1 rfl rfl)
theorem dX1_shrink_2 : decode cX1_shrink 2 = .ok (.iload_n 3, 1) := dk_29 (dk_at dksX1_shrink_0 2 rfl rfl)
theorem dX1_shrink_3 : decode cX1_shrink 3 = .ok (.invokevirtual 137, 3) := dk_182 0 137 (dk_at dksX1_shrink_0 3 rfl rfl)
theorem dX1_shrink_6 : decode cX1_shrink 6 = .ok (.astore 4, 2) := dk_58 4 (dk_at dksX1_shrink_0 6 rfl rfl)
theorem dX1_shrink_8 : decode cX1_shrink 8 = .ok (.iload_n 2, 1) := dk_28 (dk_at dksX1_shrink_0 8 rfl rfl)
theorem dX1_shrink_9 : decode cX1_shrink 9 = .ok (.invokestatic 141, 3) := dk_184 0 141 (dk_at dksX1_shrink_0 9 rfl rfl)
theorem dX1_shrink_12 : decode cX1_shrink 12 = .ok (.aload_n 0, 1) := dk_42 (dk_at dksX1_shrink_0 12 rfl rfl)
theorem dX1_shrink_13 : decode cX1_shrink 13 = .ok (.iload_n 3, 1) := dk_29 (dk_at dksX1_shrink_0 13 rfl rfl)
theorem dX1_shrink_14 : decode cX1_shrink 14 = .ok (.aload 4, 2) := dk_25 4 (dk_at dksX1_shrink_0 14 rfl rfl)
theorem dX1_shrink_16 : decode cX1_shrink 16 = .ok (.iload_n 2, 1) := dk_28 (dk_at dksX1_shrink_0 16 rfl rfl)
theorem dX1_shrink_17 : decode cX1_shrink 17 = .ok (.invokevirtual 152, 3) := dk_182 0 152 (dk_at dksX1_shrink_0 17 rfl rfl)
theorem dX1_shrink_20 : decode cX1_shrink 20 = .ok (.invokevirtual 77, 3) := dk_182 0 77 (dk_at dksX1_shrink_0 20 rfl rfl)
theorem dX1_shrink_23 : decode cX1_shrink 23 = .ok (.ireturn, 1) := dk_172 (dk_at dksX1_shrink_0 23 rfl rfl)
abbrev cX1_move : ByteArray := prog_1_method_26_code
def yX1_move : MethodName := ⟨RX1, "move", "(IIII)I"⟩
def dkwX1_move_2 : List UInt8 := [182, 0, 155, 182, 0, 77, 172]
abbrev dktX1_move_2 : List UInt8 := dkwX1_move_2 ++ []
def dkwX1_move_1 : List UInt8 := [16, 24, 184, 0, 31, 153, 0, 7, 4, 167, 0, 4, 3, 184, 0, 70, 42, 21, 4, 25, 5, 28, 29]
abbrev dktX1_move_1 : List UInt8 := dkwX1_move_1 ++ dktX1_move_2
def dkwX1_move_0 : List UInt8 := [42, 27, 21, 4, 182, 0, 137, 58, 5, 28, 16, 232, 16, 24, 184, 0, 31, 153, 0, 18, 29, 16, 232]
abbrev dktX1_move_0 : List UInt8 := dkwX1_move_0 ++ dktX1_move_1
theorem dksX1_move_0 : cX1_move.data.toList.drop 0 = dktX1_move_0 := by decide +kernel
theorem dksX1_move_1 : cX1_move.data.toList.drop 23 = dktX1_move_1 := dk_seg dksX1_move_0 23 rfl rfl
theorem dksX1_move_2 : cX1_move.data.toList.drop 46 = dktX1_move_2 := dk_seg dksX1_move_1 23 rfl rfl
theorem dX1_move_0 : decode cX1_move 0 = .ok (.aload_n 0, 1) := dk_42 (dk_at dksX1_move_0 0 rfl rfl)
theorem dX1_move_1 : decode cX1_move 1 = .ok (.iload_n 1, 1) := dk_27 (dk_at dksX1_move_0 1 rfl rfl)
theorem dX1_move_2 : decode cX1_move 2 = .ok (.iload 4, 2) := dk_21 4 (dk_at dksX1_move_0 2 rfl rfl)
theorem dX1_move_4 : decode cX1_move 4 = .ok (.invokevirtual 137, 3) := dk_182 0 137 (dk_at dksX1_move_0 4 rfl rfl)
theorem dX1_move_7 : decode cX1_move 7 = .ok (.astore 5, 2) := dk_58 5 (dk_at dksX1_move_0 7 rfl rfl)
theorem dX1_move_9 : decode cX1_move 9 = .ok (.iload_n 2, 1) := dk_28 (dk_at dksX1_move_0 9 rfl rfl)
theorem dX1_move_10 : decode cX1_move 10 = .ok (.bipush (-24), 2) := dk_16 232 (dk_at dksX1_move_0 10 rfl rfl)
theorem dX1_move_12 : decode cX1_move 12 = .ok (.bipush 24, 2) := dk_16 24 (dk_at dksX1_move_0 12 rfl rfl)
theorem dX1_move_14 : decode cX1_move 14 = .ok (.invokestatic 31, 3) := dk_184 0 31 (dk_at dksX1_move_0 14 rfl rfl)
theorem dX1_move_17 : decode cX1_move 17 = .ok (.ifCond .eq 18, 3) := dk_153 0 18 (dk_at dksX1_move_0 17 rfl rfl)
theorem dX1_move_20 : decode cX1_move 20 = .ok (.iload_n 3, 1) := dk_29 (dk_at dksX1_move_0 20 rfl rfl)
theorem dX1_move_21 : decode cX1_move 21 = .ok (.bipush (-24), 2) := dk_16 232 (dk_at dksX1_move_0 21 rfl rfl)
theorem dX1_move_23 : decode cX1_move 23 = .ok (.bipush 24, 2) := dk_16 24 (dk_at dksX1_move_1 0 rfl rfl)
theorem dX1_move_25 : decode cX1_move 25 = .ok (.invokestatic 31, 3) := dk_184 0 31 (dk_at dksX1_move_1 2 rfl rfl)
theorem dX1_move_28 : decode cX1_move 28 = .ok (.ifCond .eq 7, 3) := dk_153 0 7 (dk_at dksX1_move_1 5 rfl rfl)
theorem dX1_move_31 : decode cX1_move 31 = .ok (.iconst 1, 1) := dk_4 (dk_at dksX1_move_1 8 rfl rfl)
theorem dX1_move_32 : decode cX1_move 32 = .ok (.goto 4, 3) := dk_167 0 4 (dk_at dksX1_move_1 9 rfl rfl)
theorem dX1_move_35 : decode cX1_move 35 = .ok (.iconst 0, 1) := dk_3 (dk_at dksX1_move_1 12 rfl rfl)
theorem dX1_move_36 : decode cX1_move 36 = .ok (.invokestatic 70, 3) := dk_184 0 70 (dk_at dksX1_move_1 13 rfl rfl)
theorem dX1_move_39 : decode cX1_move 39 = .ok (.aload_n 0, 1) := dk_42 (dk_at dksX1_move_1 16 rfl rfl)
theorem dX1_move_40 : decode cX1_move 40 = .ok (.iload 4, 2) := dk_21 4 (dk_at dksX1_move_1 17 rfl rfl)
theorem dX1_move_42 : decode cX1_move 42 = .ok (.aload 5, 2) := dk_25 5 (dk_at dksX1_move_1 19 rfl rfl)
theorem dX1_move_44 : decode cX1_move 44 = .ok (.iload_n 2, 1) := dk_28 (dk_at dksX1_move_1 21 rfl rfl)
theorem dX1_move_45 : decode cX1_move 45 = .ok (.iload_n 3, 1) := dk_29 (dk_at dksX1_move_1 22 rfl rfl)
theorem dX1_move_46 : decode cX1_move 46 = .ok (.invokevirtual 155, 3) := dk_182 0 155 (dk_at dksX1_move_2 0 rfl rfl)
theorem dX1_move_49 : decode cX1_move 49 = .ok (.invokevirtual 77, 3) := dk_182 0 77 (dk_at dksX1_move_2 3 rfl rfl)
theorem dX1_move_52 : decode cX1_move 52 = .ok (.ireturn, 1) := dk_172 (dk_at dksX1_move_2 6 rfl rfl)
abbrev cX1_turn : ByteArray := prog_1_method_27_code
def yX1_turn : MethodName := ⟨RX1, "turn", "(II)I"⟩
def dkwX1_turn_0 : List UInt8 := [42, 28, 42, 27, 28, 182, 0, 137, 182, 0, 158, 182, 0, 77, 172]
abbrev dktX1_turn_0 : List UInt8 := dkwX1_turn_0 ++ []
theorem dksX1_turn_0 : cX1_turn.data.toList.drop 0 = dktX1_turn_0 := by decide +kernel
theorem dX1_turn_0 : decode cX1_turn 0 = .ok (.aload_n 0, 1) := dk_42 (dk_at dksX1_turn_0 0 rfl rfl)
theorem dX1_turn_1 : decode cX1_turn 1 = .ok (.iload_n 2, 1) := dk_28 (dk_at dksX1_turn_0 1 rfl rfl)
theorem dX1_turn_2 : decode cX1_turn 2 = .ok (.aload_n 0, 1) := dk_42 (dk_at dksX1_turn_0 2 rfl rfl)
theorem dX1_turn_3 : decode cX1_turn 3 = .ok (.iload_n 1, 1) := dk_27 (dk_at dksX1_turn_0 3 rfl rfl)
theorem dX1_turn_4 : decode cX1_turn 4 = .ok (.iload_n 2, 1) := dk_28 (dk_at dksX1_turn_0 4 rfl rfl)
theorem dX1_turn_5 : decode cX1_turn 5 = .ok (.invokevirtual 137, 3) := dk_182 0 137 (dk_at dksX1_turn_0 5 rfl rfl)
theorem dX1_turn_8 : decode cX1_turn 8 = .ok (.invokevirtual 158, 3) := dk_182 0 158 (dk_at dksX1_turn_0 8 rfl rfl)
theorem dX1_turn_11 : decode cX1_turn 11 = .ok (.invokevirtual 77, 3) := dk_182 0 77 (dk_at dksX1_turn_0 11 rfl rfl)
theorem dX1_turn_14 : decode cX1_turn 14 = .ok (.ireturn, 1) := dk_172 (dk_at dksX1_turn_0 14 rfl rfl)
abbrev cX1_mirror : ByteArray := prog_1_method_28_code
def yX1_mirror : MethodName := ⟨RX1, "mirror", "(II)I"⟩
def dkwX1_mirror_0 : List UInt8 := [42, 28, 42, 27, 28, 182, 0, 137, 182, 0, 161, 182, 0, 77, 172]
abbrev dktX1_mirror_0 : List UInt8 := dkwX1_mirror_0 ++ []
theorem dksX1_mirror_0 : cX1_mirror.data.toList.drop 0 = dktX1_mirror_0 := by decide +kernel
theorem dX1_mirror_0 : decode cX1_mirror 0 = .ok (.aload_n 0, 1) := dk_42 (dk_at dksX1_mirror_0 0 rfl rfl)
theorem dX1_mirror_1 : decode cX1_mirror 1 = .ok (.iload_n 2, 1) := dk_28 (dk_at dksX1_mirror_0 1 rfl rfl)
theorem dX1_mirror_2 : decode cX1_mirror 2 = .ok (.aload_n 0, 1) := dk_42 (dk_at dksX1_mirror_0 2 rfl rfl)
theorem dX1_mirror_3 : decode cX1_mirror 3 = .ok (.iload_n 1, 1) := dk_27 (dk_at dksX1_mirror_0 3 rfl rfl)
theorem dX1_mirror_4 : decode cX1_mirror 4 = .ok (.iload_n 2, 1) := dk_28 (dk_at dksX1_mirror_0 4 rfl rfl)
theorem dX1_mirror_5 : decode cX1_mirror 5 = .ok (.invokevirtual 137, 3) := dk_182 0 137 (dk_at dksX1_mirror_0 5 rfl rfl)
theorem dX1_mirror_8 : decode cX1_mirror 8 = .ok (.invokevirtual 161, 3) := dk_182 0 161 (dk_at dksX1_mirror_0 8 rfl rfl)
theorem dX1_mirror_11 : decode cX1_mirror 11 = .ok (.invokevirtual 77, 3) := dk_182 0 77 (dk_at dksX1_mirror_0 11 rfl rfl)
theorem dX1_mirror_14 : decode cX1_mirror 14 = .ok (.ireturn, 1) := dk_172 (dk_at dksX1_mirror_0 14 rfl rfl)
abbrev cX1_fillHoles : ByteArray := prog_1_method_29_code
def yX1_fillHoles : MethodName := ⟨RX1, "fillHoles", "(II)I"⟩
def dkwX1_fillHoles_1 : List UInt8 := [45, 25, 4, 178, 0, 89, 182, 0, 73, 182, 0, 77, 172]
abbrev dktX1_fillHoles_1 : List UInt8 := dkwX1_fillHoles_1 ++ []
def dkwX1_fillHoles_0 : List UInt8 := [42, 27, 28, 182, 0, 137, 78, 45, 184, 0, 164, 182, 0, 169, 182, 0, 173, 182, 0, 176, 58, 4, 42, 28]
abbrev dktX1_fillHoles_0 : List UInt8 := dkwX1_fillHoles_0 ++ dktX1_fillHoles_1
theorem dksX1_fillHoles_0 : cX1_fillHoles.data.toList.drop 0 = dktX1_fillHoles_0 := by decide +kernel
theorem dksX1_fillHoles_1 : cX1_fillHoles.data.toList.drop 24 = dktX1_fillHoles_1 := dk_seg dksX1_fillHoles_0 24 rfl rfl
theorem dX1_fillHoles_0 : decode cX1_fillHoles 0 = .ok (.aload_n 0, 1) := dk_42 (dk_at dksX1_fillHoles_0 0 rfl rfl)
theorem dX1_fillHoles_1 : decode cX1_fillHoles 1 = .ok (.iload_n 1, 1) := dk_27 (dk_at dksX1_fillHoles_0 1 rfl rfl)
theorem dX1_fillHoles_2 : decode cX1_fillHoles 2 = .ok (.iload_n 2, 1) := dk_28 (dk_at dksX1_fillHoles_0 2 rfl rfl)
theorem dX1_fillHoles_3 : decode cX1_fillHoles 3 = .ok (.invokevirtual 137, 3) := dk_182 0 137 (dk_at dksX1_fillHoles_0 3 rfl rfl)
theorem dX1_fillHoles_6 : decode cX1_fillHoles 6 = .ok (.astore_n 3, 1) := dk_78 (dk_at dksX1_fillHoles_0 6 rfl rfl)
theorem dX1_fillHoles_7 : decode cX1_fillHoles 7 = .ok (.aload_n 3, 1) := dk_45 (dk_at dksX1_fillHoles_0 7 rfl rfl)
theorem dX1_fillHoles_8 : decode cX1_fillHoles 8 = .ok (.invokestatic 164, 3) := dk_184 0 164 (dk_at dksX1_fillHoles_0 8 rfl rfl)
theorem dX1_fillHoles_11 : decode cX1_fillHoles 11 = .ok (.invokevirtual 169, 3) := dk_182 0 169 (dk_at dksX1_fillHoles_0 11 rfl rfl)
theorem dX1_fillHoles_14 : decode cX1_fillHoles 14 = .ok (.invokevirtual 173, 3) := dk_182 0 173 (dk_at dksX1_fillHoles_0 14 rfl rfl)
theorem dX1_fillHoles_17 : decode cX1_fillHoles 17 = .ok (.invokevirtual 176, 3) := dk_182 0 176 (dk_at dksX1_fillHoles_0 17 rfl rfl)
theorem dX1_fillHoles_20 : decode cX1_fillHoles 20 = .ok (.astore 4, 2) := dk_58 4 (dk_at dksX1_fillHoles_0 20 rfl rfl)
theorem dX1_fillHoles_22 : decode cX1_fillHoles 22 = .ok (.aload_n 0, 1) := dk_42 (dk_at dksX1_fillHoles_0 22 rfl rfl)
theorem dX1_fillHoles_23 : decode cX1_fillHoles 23 = .ok (.iload_n 2, 1) := dk_28 (dk_at dksX1_fillHoles_0 23 rfl rfl)
theorem dX1_fillHoles_24 : decode cX1_fillHoles 24 = .ok (.aload_n 3, 1) := dk_45 (dk_at dksX1_fillHoles_1 0 rfl rfl)
theorem dX1_fillHoles_25 : decode cX1_fillHoles 25 = .ok (.aload 4, 2) := dk_25 4 (dk_at dksX1_fillHoles_1 1 rfl rfl)
theorem dX1_fillHoles_27 : decode cX1_fillHoles 27 = .ok (.getstatic 89, 3) := dk_178 0 89 (dk_at dksX1_fillHoles_1 3 rfl rfl)
theorem dX1_fillHoles_30 : decode cX1_fillHoles 30 = .ok (.invokevirtual 73, 3) := dk_182 0 73 (dk_at dksX1_fillHoles_1 6 rfl rfl)
theorem dX1_fillHoles_33 : decode cX1_fillHoles 33 = .ok (.invokevirtual 77, 3) := dk_182 0 77 (dk_at dksX1_fillHoles_1 9 rfl rfl)
theorem dX1_fillHoles_36 : decode cX1_fillHoles 36 = .ok (.ireturn, 1) := dk_172 (dk_at dksX1_fillHoles_1 12 rfl rfl)
abbrev cX1_isCell : ByteArray := prog_1_method_7_code
def yX1_isCell : MethodName := ⟨RX1, "isCell", "(II)Z"⟩
def dkwX1_isCell_1 : List UInt8 := [3, 172]
abbrev dktX1_isCell_1 : List UInt8 := dkwX1_isCell_1 ++ []
def dkwX1_isCell_0 : List UInt8 := [26, 3, 16, 23, 184, 0, 31, 153, 0, 17, 27, 3, 16, 23, 184, 0, 31, 153, 0, 7, 4, 167, 0, 4]
abbrev dktX1_isCell_0 : List UInt8 := dkwX1_isCell_0 ++ dktX1_isCell_1
theorem dksX1_isCell_0 : cX1_isCell.data.toList.drop 0 = dktX1_isCell_0 := by decide +kernel
theorem dksX1_isCell_1 : cX1_isCell.data.toList.drop 24 = dktX1_isCell_1 := dk_seg dksX1_isCell_0 24 rfl rfl
theorem dX1_isCell_0 : decode cX1_isCell 0 = .ok (.iload_n 0, 1) := dk_26 (dk_at dksX1_isCell_0 0 rfl rfl)
theorem dX1_isCell_1 : decode cX1_isCell 1 = .ok (.iconst 0, 1) := dk_3 (dk_at dksX1_isCell_0 1 rfl rfl)
theorem dX1_isCell_2 : decode cX1_isCell 2 = .ok (.bipush 23, 2) := dk_16 23 (dk_at dksX1_isCell_0 2 rfl rfl)
theorem dX1_isCell_4 : decode cX1_isCell 4 = .ok (.invokestatic 31, 3) := dk_184 0 31 (dk_at dksX1_isCell_0 4 rfl rfl)
theorem dX1_isCell_7 : decode cX1_isCell 7 = .ok (.ifCond .eq 17, 3) := dk_153 0 17 (dk_at dksX1_isCell_0 7 rfl rfl)
theorem dX1_isCell_10 : decode cX1_isCell 10 = .ok (.iload_n 1, 1) := dk_27 (dk_at dksX1_isCell_0 10 rfl rfl)
theorem dX1_isCell_11 : decode cX1_isCell 11 = .ok (.iconst 0, 1) := dk_3 (dk_at dksX1_isCell_0 11 rfl rfl)
theorem dX1_isCell_12 : decode cX1_isCell 12 = .ok (.bipush 23, 2) := dk_16 23 (dk_at dksX1_isCell_0 12 rfl rfl)
theorem dX1_isCell_14 : decode cX1_isCell 14 = .ok (.invokestatic 31, 3) := dk_184 0 31 (dk_at dksX1_isCell_0 14 rfl rfl)
theorem dX1_isCell_17 : decode cX1_isCell 17 = .ok (.ifCond .eq 7, 3) := dk_153 0 7 (dk_at dksX1_isCell_0 17 rfl rfl)
theorem dX1_isCell_20 : decode cX1_isCell 20 = .ok (.iconst 1, 1) := dk_4 (dk_at dksX1_isCell_0 20 rfl rfl)
theorem dX1_isCell_21 : decode cX1_isCell 21 = .ok (.goto 4, 3) := dk_167 0 4 (dk_at dksX1_isCell_0 21 rfl rfl)
theorem dX1_isCell_24 : decode cX1_isCell 24 = .ok (.iconst 0, 1) := dk_3 (dk_at dksX1_isCell_1 0 rfl rfl)
theorem dX1_isCell_25 : decode cX1_isCell 25 = .ok (.ireturn, 1) := dk_172 (dk_at dksX1_isCell_1 1 rfl rfl)
abbrev cX1_keepPart : ByteArray := prog_1_method_31_code
def yX1_keepPart : MethodName := ⟨RX1, "keepPart", "(IIII)I"⟩
def dkwX1_keepPart_2 : List UInt8 := [21, 4, 25, 6, 25, 7, 182, 0, 197, 182, 0, 77, 172]
abbrev dktX1_keepPart_2 : List UInt8 := dkwX1_keepPart_2 ++ []
def dkwX1_keepPart_1 : List UInt8 := [25, 6, 28, 29, 182, 0, 193, 58, 7, 25, 7, 198, 0, 7, 4, 167, 0, 4, 3, 184, 0, 54, 42]
abbrev dktX1_keepPart_1 : List UInt8 := dkwX1_keepPart_1 ++ dktX1_keepPart_2
def dkwX1_keepPart_0 : List UInt8 := [42, 27, 21, 4, 182, 0, 137, 58, 5, 28, 29, 184, 0, 186, 184, 0, 70, 25, 5, 184, 0, 189, 58, 6]
abbrev dktX1_keepPart_0 : List UInt8 := dkwX1_keepPart_0 ++ dktX1_keepPart_1
theorem dksX1_keepPart_0 : cX1_keepPart.data.toList.drop 0 = dktX1_keepPart_0 := by decide +kernel
theorem dksX1_keepPart_1 : cX1_keepPart.data.toList.drop 24 = dktX1_keepPart_1 := dk_seg dksX1_keepPart_0 24 rfl rfl
theorem dksX1_keepPart_2 : cX1_keepPart.data.toList.drop 47 = dktX1_keepPart_2 := dk_seg dksX1_keepPart_1 23 rfl rfl
theorem dX1_keepPart_0 : decode cX1_keepPart 0 = .ok (.aload_n 0, 1) := dk_42 (dk_at dksX1_keepPart_0 0 rfl rfl)
theorem dX1_keepPart_1 : decode cX1_keepPart 1 = .ok (.iload_n 1, 1) := dk_27 (dk_at dksX1_keepPart_0 1 rfl rfl)
theorem dX1_keepPart_2 : decode cX1_keepPart 2 = .ok (.iload 4, 2) := dk_21 4 (dk_at dksX1_keepPart_0 2 rfl rfl)
theorem dX1_keepPart_4 : decode cX1_keepPart 4 = .ok (.invokevirtual 137, 3) := dk_182 0 137 (dk_at dksX1_keepPart_0 4 rfl rfl)
theorem dX1_keepPart_7 : decode cX1_keepPart 7 = .ok (.astore 5, 2) := dk_58 5 (dk_at dksX1_keepPart_0 7 rfl rfl)
theorem dX1_keepPart_9 : decode cX1_keepPart 9 = .ok (.iload_n 2, 1) := dk_28 (dk_at dksX1_keepPart_0 9 rfl rfl)
theorem dX1_keepPart_10 : decode cX1_keepPart 10 = .ok (.iload_n 3, 1) := dk_29 (dk_at dksX1_keepPart_0 10 rfl rfl)
theorem dX1_keepPart_11 : decode cX1_keepPart 11 = .ok (.invokestatic 186, 3) := dk_184 0 186 (dk_at dksX1_keepPart_0 11 rfl rfl)
theorem dX1_keepPart_14 : decode cX1_keepPart 14 = .ok (.invokestatic 70, 3) := dk_184 0 70 (dk_at dksX1_keepPart_0 14 rfl rfl)
theorem dX1_keepPart_17 : decode cX1_keepPart 17 = .ok (.aload 5, 2) := dk_25 5 (dk_at dksX1_keepPart_0 17 rfl rfl)
theorem dX1_keepPart_19 : decode cX1_keepPart 19 = .ok (.invokestatic 189, 3) := dk_184 0 189 (dk_at dksX1_keepPart_0 19 rfl rfl)
theorem dX1_keepPart_22 : decode cX1_keepPart 22 = .ok (.astore 6, 2) := dk_58 6 (dk_at dksX1_keepPart_0 22 rfl rfl)
theorem dX1_keepPart_24 : decode cX1_keepPart 24 = .ok (.aload 6, 2) := dk_25 6 (dk_at dksX1_keepPart_1 0 rfl rfl)
theorem dX1_keepPart_26 : decode cX1_keepPart 26 = .ok (.iload_n 2, 1) := dk_28 (dk_at dksX1_keepPart_1 2 rfl rfl)
theorem dX1_keepPart_27 : decode cX1_keepPart 27 = .ok (.iload_n 3, 1) := dk_29 (dk_at dksX1_keepPart_1 3 rfl rfl)
theorem dX1_keepPart_28 : decode cX1_keepPart 28 = .ok (.invokevirtual 193, 3) := dk_182 0 193 (dk_at dksX1_keepPart_1 4 rfl rfl)
theorem dX1_keepPart_31 : decode cX1_keepPart 31 = .ok (.astore 7, 2) := dk_58 7 (dk_at dksX1_keepPart_1 7 rfl rfl)
theorem dX1_keepPart_33 : decode cX1_keepPart 33 = .ok (.aload 7, 2) := dk_25 7 (dk_at dksX1_keepPart_1 9 rfl rfl)
theorem dX1_keepPart_35 : decode cX1_keepPart 35 = .ok (.ifnull 7, 3) := dk_198 0 7 (dk_at dksX1_keepPart_1 11 rfl rfl)
theorem dX1_keepPart_38 : decode cX1_keepPart 38 = .ok (.iconst 1, 1) := dk_4 (dk_at dksX1_keepPart_1 14 rfl rfl)
theorem dX1_keepPart_39 : decode cX1_keepPart 39 = .ok (.goto 4, 3) := dk_167 0 4 (dk_at dksX1_keepPart_1 15 rfl rfl)
theorem dX1_keepPart_42 : decode cX1_keepPart 42 = .ok (.iconst 0, 1) := dk_3 (dk_at dksX1_keepPart_1 18 rfl rfl)
theorem dX1_keepPart_43 : decode cX1_keepPart 43 = .ok (.invokestatic 54, 3) := dk_184 0 54 (dk_at dksX1_keepPart_1 19 rfl rfl)
theorem dX1_keepPart_46 : decode cX1_keepPart 46 = .ok (.aload_n 0, 1) := dk_42 (dk_at dksX1_keepPart_1 22 rfl rfl)
theorem dX1_keepPart_47 : decode cX1_keepPart 47 = .ok (.iload 4, 2) := dk_21 4 (dk_at dksX1_keepPart_2 0 rfl rfl)
theorem dX1_keepPart_49 : decode cX1_keepPart 49 = .ok (.aload 6, 2) := dk_25 6 (dk_at dksX1_keepPart_2 2 rfl rfl)
theorem dX1_keepPart_51 : decode cX1_keepPart 51 = .ok (.aload 7, 2) := dk_25 7 (dk_at dksX1_keepPart_2 4 rfl rfl)
theorem dX1_keepPart_53 : decode cX1_keepPart 53 = .ok (.invokevirtual 197, 3) := dk_182 0 197 (dk_at dksX1_keepPart_2 6 rfl rfl)
theorem dX1_keepPart_56 : decode cX1_keepPart 56 = .ok (.invokevirtual 77, 3) := dk_182 0 77 (dk_at dksX1_keepPart_2 9 rfl rfl)
theorem dX1_keepPart_59 : decode cX1_keepPart 59 = .ok (.ireturn, 1) := dk_172 (dk_at dksX1_keepPart_2 12 rfl rfl)
abbrev cX1_partsOf : ByteArray := prog_1_method_30_code
def yX1_partsOf : MethodName := ⟨RX1, "partsOf", "(LPolygonBoard$Region;)LPolygonBoard$PartScan;"⟩
def dkwX1_partsOf_0 : List UInt8 := [187, 0, 179, 89, 183, 0, 181, 76, 43, 42, 182, 0, 182, 43, 176]
abbrev dktX1_partsOf_0 : List UInt8 := dkwX1_partsOf_0 ++ []
theorem dksX1_partsOf_0 : cX1_partsOf.data.toList.drop 0 = dktX1_partsOf_0 := by decide +kernel
theorem dX1_partsOf_0 : decode cX1_partsOf 0 = .ok (.new 179, 3) := dk_187 0 179 (dk_at dksX1_partsOf_0 0 rfl rfl)
theorem dX1_partsOf_3 : decode cX1_partsOf 3 = .ok (.dup, 1) := dk_89 (dk_at dksX1_partsOf_0 3 rfl rfl)
theorem dX1_partsOf_4 : decode cX1_partsOf 4 = .ok (.invokespecial 181, 3) := dk_183 0 181 (dk_at dksX1_partsOf_0 4 rfl rfl)
theorem dX1_partsOf_7 : decode cX1_partsOf 7 = .ok (.astore_n 1, 1) := dk_76 (dk_at dksX1_partsOf_0 7 rfl rfl)
theorem dX1_partsOf_8 : decode cX1_partsOf 8 = .ok (.aload_n 1, 1) := dk_43 (dk_at dksX1_partsOf_0 8 rfl rfl)
theorem dX1_partsOf_9 : decode cX1_partsOf 9 = .ok (.aload_n 0, 1) := dk_42 (dk_at dksX1_partsOf_0 9 rfl rfl)
theorem dX1_partsOf_10 : decode cX1_partsOf 10 = .ok (.invokevirtual 182, 3) := dk_182 0 182 (dk_at dksX1_partsOf_0 10 rfl rfl)
theorem dX1_partsOf_13 : decode cX1_partsOf 13 = .ok (.aload_n 1, 1) := dk_43 (dk_at dksX1_partsOf_0 13 rfl rfl)
theorem dX1_partsOf_14 : decode cX1_partsOf 14 = .ok (.areturn, 1) := dk_176 (dk_at dksX1_partsOf_0 14 rfl rfl)
abbrev cX1_checkElement : ByteArray := prog_1_method_3_code
def yX1_checkElement : MethodName := ⟨RX1, "checkElement", "(Z)V"⟩
def dkwX1_checkElement_0 : List UInt8 := [26, 154, 0, 11, 187, 0, 28, 89, 183, 0, 30, 191, 177]
abbrev dktX1_checkElement_0 : List UInt8 := dkwX1_checkElement_0 ++ []
theorem dksX1_checkElement_0 : cX1_checkElement.data.toList.drop 0 = dktX1_checkElement_0 := by decide +kernel
theorem dX1_checkElement_0 : decode cX1_checkElement 0 = .ok (.iload_n 0, 1) := dk_26 (dk_at dksX1_checkElement_0 0 rfl rfl)
theorem dX1_checkElement_1 : decode cX1_checkElement 1 = .ok (.ifCond .ne 11, 3) := dk_154 0 11 (dk_at dksX1_checkElement_0 1 rfl rfl)
theorem dX1_checkElement_4 : decode cX1_checkElement 4 = .ok (.new 28, 3) := dk_187 0 28 (dk_at dksX1_checkElement_0 4 rfl rfl)
theorem dX1_checkElement_7 : decode cX1_checkElement 7 = .ok (.dup, 1) := dk_89 (dk_at dksX1_checkElement_0 7 rfl rfl)
theorem dX1_checkElement_8 : decode cX1_checkElement 8 = .ok (.invokespecial 30, 3) := dk_183 0 30 (dk_at dksX1_checkElement_0 8 rfl rfl)
theorem dX1_checkElement_11 : decode cX1_checkElement 11 = .ok (.athrow, 1) := dk_191 (dk_at dksX1_checkElement_0 11 rfl rfl)
theorem dX1_checkElement_12 : decode cX1_checkElement 12 = .ok (.return_, 1) := dk_177 (dk_at dksX1_checkElement_0 12 rfl rfl)
abbrev cX1_contains : ByteArray := prog_1_method_32_code
def yX1_contains : MethodName := ⟨RX1, "contains", "(III)Z"⟩
def dkwX1_contains_0 : List UInt8 := [42, 27, 182, 0, 46, 58, 4, 28, 29, 184, 0, 186, 184, 0, 70, 25, 4, 28, 29, 182, 0, 201, 172]
abbrev dktX1_contains_0 : List UInt8 := dkwX1_contains_0 ++ []
theorem dksX1_contains_0 : cX1_contains.data.toList.drop 0 = dktX1_contains_0 := by decide +kernel
theorem dX1_contains_0 : decode cX1_contains 0 = .ok (.aload_n 0, 1) := dk_42 (dk_at dksX1_contains_0 0 rfl rfl)
theorem dX1_contains_1 : decode cX1_contains 1 = .ok (.iload_n 1, 1) := dk_27 (dk_at dksX1_contains_0 1 rfl rfl)
theorem dX1_contains_2 : decode cX1_contains 2 = .ok (.invokevirtual 46, 3) := dk_182 0 46 (dk_at dksX1_contains_0 2 rfl rfl)
theorem dX1_contains_5 : decode cX1_contains 5 = .ok (.astore 4, 2) := dk_58 4 (dk_at dksX1_contains_0 5 rfl rfl)
theorem dX1_contains_7 : decode cX1_contains 7 = .ok (.iload_n 2, 1) := dk_28 (dk_at dksX1_contains_0 7 rfl rfl)
theorem dX1_contains_8 : decode cX1_contains 8 = .ok (.iload_n 3, 1) := dk_29 (dk_at dksX1_contains_0 8 rfl rfl)
theorem dX1_contains_9 : decode cX1_contains 9 = .ok (.invokestatic 186, 3) := dk_184 0 186 (dk_at dksX1_contains_0 9 rfl rfl)
theorem dX1_contains_12 : decode cX1_contains 12 = .ok (.invokestatic 70, 3) := dk_184 0 70 (dk_at dksX1_contains_0 12 rfl rfl)
theorem dX1_contains_15 : decode cX1_contains 15 = .ok (.aload 4, 2) := dk_25 4 (dk_at dksX1_contains_0 15 rfl rfl)
theorem dX1_contains_17 : decode cX1_contains 17 = .ok (.iload_n 2, 1) := dk_28 (dk_at dksX1_contains_0 17 rfl rfl)
theorem dX1_contains_18 : decode cX1_contains 18 = .ok (.iload_n 3, 1) := dk_29 (dk_at dksX1_contains_0 18 rfl rfl)
theorem dX1_contains_19 : decode cX1_contains 19 = .ok (.invokevirtual 201, 3) := dk_182 0 201 (dk_at dksX1_contains_0 19 rfl rfl)
theorem dX1_contains_22 : decode cX1_contains 22 = .ok (.ireturn, 1) := dk_172 (dk_at dksX1_contains_0 22 rfl rfl)
abbrev cX1_area : ByteArray := prog_1_method_33_code
def yX1_area : MethodName := ⟨RX1, "area", "(I)I"⟩
def dkwX1_area_0 : List UInt8 := [42, 27, 182, 0, 46, 182, 0, 62, 172]
abbrev dktX1_area_0 : List UInt8 := dkwX1_area_0 ++ []
theorem dksX1_area_0 : cX1_area.data.toList.drop 0 = dktX1_area_0 := by decide +kernel
theorem dX1_area_0 : decode cX1_area 0 = .ok (.aload_n 0, 1) := dk_42 (dk_at dksX1_area_0 0 rfl rfl)
theorem dX1_area_1 : decode cX1_area 1 = .ok (.iload_n 1, 1) := dk_27 (dk_at dksX1_area_0 1 rfl rfl)
theorem dX1_area_2 : decode cX1_area 2 = .ok (.invokevirtual 46, 3) := dk_182 0 46 (dk_at dksX1_area_0 2 rfl rfl)
theorem dX1_area_5 : decode cX1_area 5 = .ok (.invokevirtual 62, 3) := dk_182 0 62 (dk_at dksX1_area_0 5 rfl rfl)
theorem dX1_area_8 : decode cX1_area 8 = .ok (.ireturn, 1) := dk_172 (dk_at dksX1_area_0 8 rfl rfl)
abbrev cX1_areaByCells : ByteArray := prog_1_method_34_code
def yX1_areaByCells : MethodName := ⟨RX1, "areaByCells", "(I)I"⟩
def dkwX1_areaByCells_0 : List UInt8 := [42, 27, 182, 0, 46, 184, 0, 164, 182, 0, 204, 172]
abbrev dktX1_areaByCells_0 : List UInt8 := dkwX1_areaByCells_0 ++ []
theorem dksX1_areaByCells_0 : cX1_areaByCells.data.toList.drop 0 = dktX1_areaByCells_0 := by decide +kernel
theorem dX1_areaByCells_0 : decode cX1_areaByCells 0 = .ok (.aload_n 0, 1) := dk_42 (dk_at dksX1_areaByCells_0 0 rfl rfl)
theorem dX1_areaByCells_1 : decode cX1_areaByCells 1 = .ok (.iload_n 1, 1) := dk_27 (dk_at dksX1_areaByCells_0 1 rfl rfl)
theorem dX1_areaByCells_2 : decode cX1_areaByCells 2 = .ok (.invokevirtual 46, 3) := dk_182 0 46 (dk_at dksX1_areaByCells_0 2 rfl rfl)
theorem dX1_areaByCells_5 : decode cX1_areaByCells 5 = .ok (.invokestatic 164, 3) := dk_184 0 164 (dk_at dksX1_areaByCells_0 5 rfl rfl)
theorem dX1_areaByCells_8 : decode cX1_areaByCells 8 = .ok (.invokevirtual 204, 3) := dk_182 0 204 (dk_at dksX1_areaByCells_0 8 rfl rfl)
theorem dX1_areaByCells_11 : decode cX1_areaByCells 11 = .ok (.ireturn, 1) := dk_172 (dk_at dksX1_areaByCells_0 11 rfl rfl)
abbrev cX1_perimeter : ByteArray := prog_1_method_35_code
def yX1_perimeter : MethodName := ⟨RX1, "perimeter", "(I)I"⟩
def dkwX1_perimeter_0 : List UInt8 := [42, 27, 182, 0, 46, 182, 0, 205, 172]
abbrev dktX1_perimeter_0 : List UInt8 := dkwX1_perimeter_0 ++ []
theorem dksX1_perimeter_0 : cX1_perimeter.data.toList.drop 0 = dktX1_perimeter_0 := by decide +kernel
theorem dX1_perimeter_0 : decode cX1_perimeter 0 = .ok (.aload_n 0, 1) := dk_42 (dk_at dksX1_perimeter_0 0 rfl rfl)
theorem dX1_perimeter_1 : decode cX1_perimeter 1 = .ok (.iload_n 1, 1) := dk_27 (dk_at dksX1_perimeter_0 1 rfl rfl)
theorem dX1_perimeter_2 : decode cX1_perimeter 2 = .ok (.invokevirtual 46, 3) := dk_182 0 46 (dk_at dksX1_perimeter_0 2 rfl rfl)
theorem dX1_perimeter_5 : decode cX1_perimeter 5 = .ok (.invokevirtual 205, 3) := dk_182 0 205 (dk_at dksX1_perimeter_0 5 rfl rfl)
theorem dX1_perimeter_8 : decode cX1_perimeter 8 = .ok (.ireturn, 1) := dk_172 (dk_at dksX1_perimeter_0 8 rfl rfl)
abbrev cX1_perimeterByCells : ByteArray := prog_1_method_36_code
def yX1_perimeterByCells : MethodName := ⟨RX1, "perimeterByCells", "(I)I"⟩
def dkwX1_perimeterByCells_0 : List UInt8 := [42, 27, 182, 0, 46, 184, 0, 164, 182, 0, 208, 172]
abbrev dktX1_perimeterByCells_0 : List UInt8 := dkwX1_perimeterByCells_0 ++ []
theorem dksX1_perimeterByCells_0 : cX1_perimeterByCells.data.toList.drop 0 = dktX1_perimeterByCells_0 := by decide +kernel
theorem dX1_perimeterByCells_0 : decode cX1_perimeterByCells 0 = .ok (.aload_n 0, 1) := dk_42 (dk_at dksX1_perimeterByCells_0 0 rfl rfl)
theorem dX1_perimeterByCells_1 : decode cX1_perimeterByCells 1 = .ok (.iload_n 1, 1) := dk_27 (dk_at dksX1_perimeterByCells_0 1 rfl rfl)
theorem dX1_perimeterByCells_2 : decode cX1_perimeterByCells 2 = .ok (.invokevirtual 46, 3) := dk_182 0 46 (dk_at dksX1_perimeterByCells_0 2 rfl rfl)
theorem dX1_perimeterByCells_5 : decode cX1_perimeterByCells 5 = .ok (.invokestatic 164, 3) := dk_184 0 164 (dk_at dksX1_perimeterByCells_0 5 rfl rfl)
theorem dX1_perimeterByCells_8 : decode cX1_perimeterByCells 8 = .ok (.invokevirtual 208, 3) := dk_182 0 208 (dk_at dksX1_perimeterByCells_0 8 rfl rfl)
theorem dX1_perimeterByCells_11 : decode cX1_perimeterByCells 11 = .ok (.ireturn, 1) := dk_172 (dk_at dksX1_perimeterByCells_0 11 rfl rfl)
abbrev cX1_bandCount : ByteArray := prog_1_method_37_code
def yX1_bandCount : MethodName := ⟨RX1, "bandCount", "(I)I"⟩
def dkwX1_bandCount_0 : List UInt8 := [42, 27, 182, 0, 46, 180, 0, 209, 185, 0, 212, 1, 0, 172]
abbrev dktX1_bandCount_0 : List UInt8 := dkwX1_bandCount_0 ++ []
theorem dksX1_bandCount_0 : cX1_bandCount.data.toList.drop 0 = dktX1_bandCount_0 := by decide +kernel
theorem dX1_bandCount_0 : decode cX1_bandCount 0 = .ok (.aload_n 0, 1) := dk_42 (dk_at dksX1_bandCount_0 0 rfl rfl)
theorem dX1_bandCount_1 : decode cX1_bandCount 1 = .ok (.iload_n 1, 1) := dk_27 (dk_at dksX1_bandCount_0 1 rfl rfl)
theorem dX1_bandCount_2 : decode cX1_bandCount 2 = .ok (.invokevirtual 46, 3) := dk_182 0 46 (dk_at dksX1_bandCount_0 2 rfl rfl)
theorem dX1_bandCount_5 : decode cX1_bandCount 5 = .ok (.getfield 209, 3) := dk_180 0 209 (dk_at dksX1_bandCount_0 5 rfl rfl)
theorem dX1_bandCount_8 : decode cX1_bandCount 8 = .ok (.invokeinterface 212 1, 5) := by decide +kernel
theorem dX1_bandCount_13 : decode cX1_bandCount 13 = .ok (.ireturn, 1) := dk_172 (dk_at dksX1_bandCount_0 13 rfl rfl)
abbrev cX1_rectangleCount : ByteArray := prog_1_method_38_code
def yX1_rectangleCount : MethodName := ⟨RX1, "rectangleCount", "(I)I"⟩
def dkwX1_rectangleCount_0 : List UInt8 := [187, 0, 215, 89, 183, 0, 217, 77, 44, 42, 27, 182, 0, 46, 182, 0, 218, 44, 180, 0, 221, 172]
abbrev dktX1_rectangleCount_0 : List UInt8 := dkwX1_rectangleCount_0 ++ []
theorem dksX1_rectangleCount_0 : cX1_rectangleCount.data.toList.drop 0 = dktX1_rectangleCount_0 := by decide +kernel
theorem dX1_rectangleCount_0 : decode cX1_rectangleCount 0 = .ok (.new 215, 3) := dk_187 0 215 (dk_at dksX1_rectangleCount_0 0 rfl rfl)
theorem dX1_rectangleCount_3 : decode cX1_rectangleCount 3 = .ok (.dup, 1) := dk_89 (dk_at dksX1_rectangleCount_0 3 rfl rfl)
theorem dX1_rectangleCount_4 : decode cX1_rectangleCount 4 = .ok (.invokespecial 217, 3) := dk_183 0 217 (dk_at dksX1_rectangleCount_0 4 rfl rfl)
theorem dX1_rectangleCount_7 : decode cX1_rectangleCount 7 = .ok (.astore_n 2, 1) := dk_77 (dk_at dksX1_rectangleCount_0 7 rfl rfl)
theorem dX1_rectangleCount_8 : decode cX1_rectangleCount 8 = .ok (.aload_n 2, 1) := dk_44 (dk_at dksX1_rectangleCount_0 8 rfl rfl)
theorem dX1_rectangleCount_9 : decode cX1_rectangleCount 9 = .ok (.aload_n 0, 1) := dk_42 (dk_at dksX1_rectangleCount_0 9 rfl rfl)
theorem dX1_rectangleCount_10 : decode cX1_rectangleCount 10 = .ok (.iload_n 1, 1) := dk_27 (dk_at dksX1_rectangleCount_0 10 rfl rfl)
theorem dX1_rectangleCount_11 : decode cX1_rectangleCount 11 = .ok (.invokevirtual 46, 3) := dk_182 0 46 (dk_at dksX1_rectangleCount_0 11 rfl rfl)
theorem dX1_rectangleCount_14 : decode cX1_rectangleCount 14 = .ok (.invokevirtual 218, 3) := dk_182 0 218 (dk_at dksX1_rectangleCount_0 14 rfl rfl)
theorem dX1_rectangleCount_17 : decode cX1_rectangleCount 17 = .ok (.aload_n 2, 1) := dk_44 (dk_at dksX1_rectangleCount_0 17 rfl rfl)
theorem dX1_rectangleCount_18 : decode cX1_rectangleCount 18 = .ok (.getfield 221, 3) := dk_180 0 221 (dk_at dksX1_rectangleCount_0 18 rfl rfl)
theorem dX1_rectangleCount_21 : decode cX1_rectangleCount 21 = .ok (.ireturn, 1) := dk_172 (dk_at dksX1_rectangleCount_0 21 rfl rfl)
abbrev cX1_partCount : ByteArray := prog_1_method_39_code
def yX1_partCount : MethodName := ⟨RX1, "partCount", "(I)I"⟩
def dkwX1_partCount_0 : List UInt8 := [42, 27, 182, 0, 46, 184, 0, 189, 180, 0, 224, 172]
abbrev dktX1_partCount_0 : List UInt8 := dkwX1_partCount_0 ++ []
theorem dksX1_partCount_0 : cX1_partCount.data.toList.drop 0 = dktX1_partCount_0 := by decide +kernel
theorem dX1_partCount_0 : decode cX1_partCount 0 = .ok (.aload_n 0, 1) := dk_42 (dk_at dksX1_partCount_0 0 rfl rfl)
theorem dX1_partCount_1 : decode cX1_partCount 1 = .ok (.iload_n 1, 1) := dk_27 (dk_at dksX1_partCount_0 1 rfl rfl)
theorem dX1_partCount_2 : decode cX1_partCount 2 = .ok (.invokevirtual 46, 3) := dk_182 0 46 (dk_at dksX1_partCount_0 2 rfl rfl)
theorem dX1_partCount_5 : decode cX1_partCount 5 = .ok (.invokestatic 189, 3) := dk_184 0 189 (dk_at dksX1_partCount_0 5 rfl rfl)
theorem dX1_partCount_8 : decode cX1_partCount 8 = .ok (.getfield 224, 3) := dk_180 0 224 (dk_at dksX1_partCount_0 8 rfl rfl)
theorem dX1_partCount_11 : decode cX1_partCount 11 = .ok (.ireturn, 1) := dk_172 (dk_at dksX1_partCount_0 11 rfl rfl)
abbrev cX1_partCountByCells : ByteArray := prog_1_method_40_code
def yX1_partCountByCells : MethodName := ⟨RX1, "partCountByCells", "(I)I"⟩
def dkwX1_partCountByCells_0 : List UInt8 := [42, 27, 182, 0, 46, 184, 0, 164, 3, 182, 0, 227, 172]
abbrev dktX1_partCountByCells_0 : List UInt8 := dkwX1_partCountByCells_0 ++ []
theorem dksX1_partCountByCells_0 : cX1_partCountByCells.data.toList.drop 0 = dktX1_partCountByCells_0 := by decide +kernel
theorem dX1_partCountByCells_0 : decode cX1_partCountByCells 0 = .ok (.aload_n 0, 1) := dk_42 (dk_at dksX1_partCountByCells_0 0 rfl rfl)
theorem dX1_partCountByCells_1 : decode cX1_partCountByCells 1 = .ok (.iload_n 1, 1) := dk_27 (dk_at dksX1_partCountByCells_0 1 rfl rfl)
theorem dX1_partCountByCells_2 : decode cX1_partCountByCells 2 = .ok (.invokevirtual 46, 3) := dk_182 0 46 (dk_at dksX1_partCountByCells_0 2 rfl rfl)
theorem dX1_partCountByCells_5 : decode cX1_partCountByCells 5 = .ok (.invokestatic 164, 3) := dk_184 0 164 (dk_at dksX1_partCountByCells_0 5 rfl rfl)
theorem dX1_partCountByCells_8 : decode cX1_partCountByCells 8 = .ok (.iconst 0, 1) := dk_3 (dk_at dksX1_partCountByCells_0 8 rfl rfl)
theorem dX1_partCountByCells_9 : decode cX1_partCountByCells 9 = .ok (.invokevirtual 227, 3) := dk_182 0 227 (dk_at dksX1_partCountByCells_0 9 rfl rfl)
theorem dX1_partCountByCells_12 : decode cX1_partCountByCells 12 = .ok (.ireturn, 1) := dk_172 (dk_at dksX1_partCountByCells_0 12 rfl rfl)
abbrev cX1_holeCount : ByteArray := prog_1_method_41_code
def yX1_holeCount : MethodName := ⟨RX1, "holeCount", "(I)I"⟩
def dkwX1_holeCount_2 : List UInt8 := [180, 0, 253, 156, 0, 7, 4, 167, 0, 4, 3, 96, 61, 167, 255, 220, 28, 172]
abbrev dktX1_holeCount_2 : List UInt8 := dkwX1_holeCount_2 ++ []
def dkwX1_holeCount_1 : List UInt8 := [185, 0, 242, 1, 0, 153, 0, 33, 45, 185, 0, 247, 1, 0, 192, 0, 251, 58, 4, 28, 25, 4]
abbrev dktX1_holeCount_1 : List UInt8 := dkwX1_holeCount_1 ++ dktX1_holeCount_2
def dkwX1_holeCount_0 : List UInt8 := [3, 61, 187, 0, 231, 89, 42, 27, 182, 0, 46, 183, 0, 233, 180, 0, 235, 185, 0, 238, 1, 0, 78, 45]
abbrev dktX1_holeCount_0 : List UInt8 := dkwX1_holeCount_0 ++ dktX1_holeCount_1
theorem dksX1_holeCount_0 : cX1_holeCount.data.toList.drop 0 = dktX1_holeCount_0 := by decide +kernel
theorem dksX1_holeCount_1 : cX1_holeCount.data.toList.drop 24 = dktX1_holeCount_1 := dk_seg dksX1_holeCount_0 24 rfl rfl
theorem dksX1_holeCount_2 : cX1_holeCount.data.toList.drop 46 = dktX1_holeCount_2 := dk_seg dksX1_holeCount_1 22 rfl rfl
theorem dX1_holeCount_0 : decode cX1_holeCount 0 = .ok (.iconst 0, 1) := dk_3 (dk_at dksX1_holeCount_0 0 rfl rfl)
theorem dX1_holeCount_1 : decode cX1_holeCount 1 = .ok (.istore_n 2, 1) := dk_61 (dk_at dksX1_holeCount_0 1 rfl rfl)
theorem dX1_holeCount_2 : decode cX1_holeCount 2 = .ok (.new 231, 3) := dk_187 0 231 (dk_at dksX1_holeCount_0 2 rfl rfl)
theorem dX1_holeCount_5 : decode cX1_holeCount 5 = .ok (.dup, 1) := dk_89 (dk_at dksX1_holeCount_0 5 rfl rfl)
theorem dX1_holeCount_6 : decode cX1_holeCount 6 = .ok (.aload_n 0, 1) := dk_42 (dk_at dksX1_holeCount_0 6 rfl rfl)
theorem dX1_holeCount_7 : decode cX1_holeCount 7 = .ok (.iload_n 1, 1) := dk_27 (dk_at dksX1_holeCount_0 7 rfl rfl)
theorem dX1_holeCount_8 : decode cX1_holeCount 8 = .ok (.invokevirtual 46, 3) := dk_182 0 46 (dk_at dksX1_holeCount_0 8 rfl rfl)
theorem dX1_holeCount_11 : decode cX1_holeCount 11 = .ok (.invokespecial 233, 3) := dk_183 0 233 (dk_at dksX1_holeCount_0 11 rfl rfl)
theorem dX1_holeCount_14 : decode cX1_holeCount 14 = .ok (.getfield 235, 3) := dk_180 0 235 (dk_at dksX1_holeCount_0 14 rfl rfl)
theorem dX1_holeCount_17 : decode cX1_holeCount 17 = .ok (.invokeinterface 238 1, 5) := by decide +kernel
theorem dX1_holeCount_22 : decode cX1_holeCount 22 = .ok (.astore_n 3, 1) := dk_78 (dk_at dksX1_holeCount_0 22 rfl rfl)
theorem dX1_holeCount_23 : decode cX1_holeCount 23 = .ok (.aload_n 3, 1) := dk_45 (dk_at dksX1_holeCount_0 23 rfl rfl)
theorem dX1_holeCount_24 : decode cX1_holeCount 24 = .ok (.invokeinterface 242 1, 5) := by decide +kernel
theorem dX1_holeCount_29 : decode cX1_holeCount 29 = .ok (.ifCond .eq 33, 3) := dk_153 0 33 (dk_at dksX1_holeCount_1 5 rfl rfl)
theorem dX1_holeCount_32 : decode cX1_holeCount 32 = .ok (.aload_n 3, 1) := dk_45 (dk_at dksX1_holeCount_1 8 rfl rfl)
theorem dX1_holeCount_33 : decode cX1_holeCount 33 = .ok (.invokeinterface 247 1, 5) := by decide +kernel
theorem dX1_holeCount_38 : decode cX1_holeCount 38 = .ok (.checkcast 251, 3) := dk_192 0 251 (dk_at dksX1_holeCount_1 14 rfl rfl)
theorem dX1_holeCount_41 : decode cX1_holeCount 41 = .ok (.astore 4, 2) := dk_58 4 (dk_at dksX1_holeCount_1 17 rfl rfl)
theorem dX1_holeCount_43 : decode cX1_holeCount 43 = .ok (.iload_n 2, 1) := dk_28 (dk_at dksX1_holeCount_1 19 rfl rfl)
theorem dX1_holeCount_44 : decode cX1_holeCount 44 = .ok (.aload 4, 2) := dk_25 4 (dk_at dksX1_holeCount_1 20 rfl rfl)
theorem dX1_holeCount_46 : decode cX1_holeCount 46 = .ok (.getfield 253, 3) := dk_180 0 253 (dk_at dksX1_holeCount_2 0 rfl rfl)
theorem dX1_holeCount_49 : decode cX1_holeCount 49 = .ok (.ifCond .ge 7, 3) := dk_156 0 7 (dk_at dksX1_holeCount_2 3 rfl rfl)
theorem dX1_holeCount_52 : decode cX1_holeCount 52 = .ok (.iconst 1, 1) := dk_4 (dk_at dksX1_holeCount_2 6 rfl rfl)
theorem dX1_holeCount_53 : decode cX1_holeCount 53 = .ok (.goto 4, 3) := dk_167 0 4 (dk_at dksX1_holeCount_2 7 rfl rfl)
theorem dX1_holeCount_56 : decode cX1_holeCount 56 = .ok (.iconst 0, 1) := dk_3 (dk_at dksX1_holeCount_2 10 rfl rfl)
theorem dX1_holeCount_57 : decode cX1_holeCount 57 = .ok (.iadd, 1) := dk_96 (dk_at dksX1_holeCount_2 11 rfl rfl)
theorem dX1_holeCount_58 : decode cX1_holeCount 58 = .ok (.istore_n 2, 1) := dk_61 (dk_at dksX1_holeCount_2 12 rfl rfl)
theorem dX1_holeCount_59 : decode cX1_holeCount 59 = .ok (.goto (-36), 3) := dk_167 255 220 (dk_at dksX1_holeCount_2 13 rfl rfl)
theorem dX1_holeCount_62 : decode cX1_holeCount 62 = .ok (.iload_n 2, 1) := dk_28 (dk_at dksX1_holeCount_2 16 rfl rfl)
theorem dX1_holeCount_63 : decode cX1_holeCount 63 = .ok (.ireturn, 1) := dk_172 (dk_at dksX1_holeCount_2 17 rfl rfl)
abbrev cX1_holeCountByCells : ByteArray := prog_1_method_42_code
def yX1_holeCountByCells : MethodName := ⟨RX1, "holeCountByCells", "(I)I"⟩
def dkwX1_holeCountByCells_0 : List UInt8 := [42, 27, 182, 0, 46, 184, 0, 164, 182, 0, 169, 4, 182, 0, 227, 172]
abbrev dktX1_holeCountByCells_0 : List UInt8 := dkwX1_holeCountByCells_0 ++ []
theorem dksX1_holeCountByCells_0 : cX1_holeCountByCells.data.toList.drop 0 = dktX1_holeCountByCells_0 := by decide +kernel
theorem dX1_holeCountByCells_0 : decode cX1_holeCountByCells 0 = .ok (.aload_n 0, 1) := dk_42 (dk_at dksX1_holeCountByCells_0 0 rfl rfl)
theorem dX1_holeCountByCells_1 : decode cX1_holeCountByCells 1 = .ok (.iload_n 1, 1) := dk_27 (dk_at dksX1_holeCountByCells_0 1 rfl rfl)
theorem dX1_holeCountByCells_2 : decode cX1_holeCountByCells 2 = .ok (.invokevirtual 46, 3) := dk_182 0 46 (dk_at dksX1_holeCountByCells_0 2 rfl rfl)
theorem dX1_holeCountByCells_5 : decode cX1_holeCountByCells 5 = .ok (.invokestatic 164, 3) := dk_184 0 164 (dk_at dksX1_holeCountByCells_0 5 rfl rfl)
theorem dX1_holeCountByCells_8 : decode cX1_holeCountByCells 8 = .ok (.invokevirtual 169, 3) := dk_182 0 169 (dk_at dksX1_holeCountByCells_0 8 rfl rfl)
theorem dX1_holeCountByCells_11 : decode cX1_holeCountByCells 11 = .ok (.iconst 1, 1) := dk_4 (dk_at dksX1_holeCountByCells_0 11 rfl rfl)
theorem dX1_holeCountByCells_12 : decode cX1_holeCountByCells 12 = .ok (.invokevirtual 227, 3) := dk_182 0 227 (dk_at dksX1_holeCountByCells_0 12 rfl rfl)
theorem dX1_holeCountByCells_15 : decode cX1_holeCountByCells 15 = .ok (.ireturn, 1) := dk_172 (dk_at dksX1_holeCountByCells_0 15 rfl rfl)
abbrev cX1_isSame : ByteArray := prog_1_method_43_code
def yX1_isSame : MethodName := ⟨RX1, "isSame", "(II)Z"⟩
def dkwX1_isSame_0 : List UInt8 := [42, 27, 28, 182, 0, 137, 78, 45, 42, 28, 182, 0, 46, 178, 0, 255, 182, 0, 73, 182, 0, 50, 172]
abbrev dktX1_isSame_0 : List UInt8 := dkwX1_isSame_0 ++ []
theorem dksX1_isSame_0 : cX1_isSame.data.toList.drop 0 = dktX1_isSame_0 := by decide +kernel
theorem dX1_isSame_0 : decode cX1_isSame 0 = .ok (.aload_n 0, 1) := dk_42 (dk_at dksX1_isSame_0 0 rfl rfl)
theorem dX1_isSame_1 : decode cX1_isSame 1 = .ok (.iload_n 1, 1) := dk_27 (dk_at dksX1_isSame_0 1 rfl rfl)
theorem dX1_isSame_2 : decode cX1_isSame 2 = .ok (.iload_n 2, 1) := dk_28 (dk_at dksX1_isSame_0 2 rfl rfl)
theorem dX1_isSame_3 : decode cX1_isSame 3 = .ok (.invokevirtual 137, 3) := dk_182 0 137 (dk_at dksX1_isSame_0 3 rfl rfl)
theorem dX1_isSame_6 : decode cX1_isSame 6 = .ok (.astore_n 3, 1) := dk_78 (dk_at dksX1_isSame_0 6 rfl rfl)
theorem dX1_isSame_7 : decode cX1_isSame 7 = .ok (.aload_n 3, 1) := dk_45 (dk_at dksX1_isSame_0 7 rfl rfl)
theorem dX1_isSame_8 : decode cX1_isSame 8 = .ok (.aload_n 0, 1) := dk_42 (dk_at dksX1_isSame_0 8 rfl rfl)
theorem dX1_isSame_9 : decode cX1_isSame 9 = .ok (.iload_n 2, 1) := dk_28 (dk_at dksX1_isSame_0 9 rfl rfl)
theorem dX1_isSame_10 : decode cX1_isSame 10 = .ok (.invokevirtual 46, 3) := dk_182 0 46 (dk_at dksX1_isSame_0 10 rfl rfl)
theorem dX1_isSame_13 : decode cX1_isSame 13 = .ok (.getstatic 255, 3) := dk_178 0 255 (dk_at dksX1_isSame_0 13 rfl rfl)
theorem dX1_isSame_16 : decode cX1_isSame 16 = .ok (.invokevirtual 73, 3) := dk_182 0 73 (dk_at dksX1_isSame_0 16 rfl rfl)
theorem dX1_isSame_19 : decode cX1_isSame 19 = .ok (.invokevirtual 50, 3) := dk_182 0 50 (dk_at dksX1_isSame_0 19 rfl rfl)
theorem dX1_isSame_22 : decode cX1_isSame 22 = .ok (.ireturn, 1) := dk_172 (dk_at dksX1_isSame_0 22 rfl rfl)
abbrev cX1_covers : ByteArray := prog_1_method_44_code
def yX1_covers : MethodName := ⟨RX1, "covers", "(II)Z"⟩
def dkwX1_covers_0 : List UInt8 := [42, 27, 28, 182, 0, 137, 78, 42, 28, 182, 0, 46, 45, 178, 0, 99, 182, 0, 73, 182, 0, 50, 172]
abbrev dktX1_covers_0 : List UInt8 := dkwX1_covers_0 ++ []
theorem dksX1_covers_0 : cX1_covers.data.toList.drop 0 = dktX1_covers_0 := by decide +kernel
theorem dX1_covers_0 : decode cX1_covers 0 = .ok (.aload_n 0, 1) := dk_42 (dk_at dksX1_covers_0 0 rfl rfl)
theorem dX1_covers_1 : decode cX1_covers 1 = .ok (.iload_n 1, 1) := dk_27 (dk_at dksX1_covers_0 1 rfl rfl)
theorem dX1_covers_2 : decode cX1_covers 2 = .ok (.iload_n 2, 1) := dk_28 (dk_at dksX1_covers_0 2 rfl rfl)
theorem dX1_covers_3 : decode cX1_covers 3 = .ok (.invokevirtual 137, 3) := dk_182 0 137 (dk_at dksX1_covers_0 3 rfl rfl)
theorem dX1_covers_6 : decode cX1_covers 6 = .ok (.astore_n 3, 1) := dk_78 (dk_at dksX1_covers_0 6 rfl rfl)
theorem dX1_covers_7 : decode cX1_covers 7 = .ok (.aload_n 0, 1) := dk_42 (dk_at dksX1_covers_0 7 rfl rfl)
theorem dX1_covers_8 : decode cX1_covers 8 = .ok (.iload_n 2, 1) := dk_28 (dk_at dksX1_covers_0 8 rfl rfl)
theorem dX1_covers_9 : decode cX1_covers 9 = .ok (.invokevirtual 46, 3) := dk_182 0 46 (dk_at dksX1_covers_0 9 rfl rfl)
theorem dX1_covers_12 : decode cX1_covers 12 = .ok (.aload_n 3, 1) := dk_45 (dk_at dksX1_covers_0 12 rfl rfl)
theorem dX1_covers_13 : decode cX1_covers 13 = .ok (.getstatic 99, 3) := dk_178 0 99 (dk_at dksX1_covers_0 13 rfl rfl)
theorem dX1_covers_16 : decode cX1_covers 16 = .ok (.invokevirtual 73, 3) := dk_182 0 73 (dk_at dksX1_covers_0 16 rfl rfl)
theorem dX1_covers_19 : decode cX1_covers 19 = .ok (.invokevirtual 50, 3) := dk_182 0 50 (dk_at dksX1_covers_0 19 rfl rfl)
theorem dX1_covers_22 : decode cX1_covers 22 = .ok (.ireturn, 1) := dk_172 (dk_at dksX1_covers_0 22 rfl rfl)
abbrev cX1_left : ByteArray := prog_1_method_45_code
def yX1_left : MethodName := ⟨RX1, "left", "(I)I"⟩
def dkwX1_left_0 : List UInt8 := [42, 27, 182, 1, 2, 182, 1, 5, 172]
abbrev dktX1_left_0 : List UInt8 := dkwX1_left_0 ++ []
theorem dksX1_left_0 : cX1_left.data.toList.drop 0 = dktX1_left_0 := by decide +kernel
theorem dX1_left_0 : decode cX1_left 0 = .ok (.aload_n 0, 1) := dk_42 (dk_at dksX1_left_0 0 rfl rfl)
theorem dX1_left_1 : decode cX1_left 1 = .ok (.iload_n 1, 1) := dk_27 (dk_at dksX1_left_0 1 rfl rfl)
theorem dX1_left_2 : decode cX1_left 2 = .ok (.invokevirtual 258, 3) := dk_182 1 2 (dk_at dksX1_left_0 2 rfl rfl)
theorem dX1_left_5 : decode cX1_left 5 = .ok (.invokevirtual 261, 3) := dk_182 1 5 (dk_at dksX1_left_0 5 rfl rfl)
theorem dX1_left_8 : decode cX1_left 8 = .ok (.ireturn, 1) := dk_172 (dk_at dksX1_left_0 8 rfl rfl)
abbrev cX1_checkedRegion : ByteArray := prog_1_method_9_code
def yX1_checkedRegion : MethodName := ⟨RX1, "checkedRegion", "(I)LPolygonBoard$Region;"⟩
def dkwX1_checkedRegion_0 : List UInt8 := [42, 27, 182, 0, 46, 77, 44, 182, 0, 50, 154, 0, 7, 4, 167, 0, 4, 3, 184, 0, 54, 44, 176]
abbrev dktX1_checkedRegion_0 : List UInt8 := dkwX1_checkedRegion_0 ++ []
theorem dksX1_checkedRegion_0 : cX1_checkedRegion.data.toList.drop 0 = dktX1_checkedRegion_0 := by decide +kernel
theorem dX1_checkedRegion_0 : decode cX1_checkedRegion 0 = .ok (.aload_n 0, 1) := dk_42 (dk_at dksX1_checkedRegion_0 0 rfl rfl)
theorem dX1_checkedRegion_1 : decode cX1_checkedRegion 1 = .ok (.iload_n 1, 1) := dk_27 (dk_at dksX1_checkedRegion_0 1 rfl rfl)
theorem dX1_checkedRegion_2 : decode cX1_checkedRegion 2 = .ok (.invokevirtual 46, 3) := dk_182 0 46 (dk_at dksX1_checkedRegion_0 2 rfl rfl)
theorem dX1_checkedRegion_5 : decode cX1_checkedRegion 5 = .ok (.astore_n 2, 1) := dk_77 (dk_at dksX1_checkedRegion_0 5 rfl rfl)
theorem dX1_checkedRegion_6 : decode cX1_checkedRegion 6 = .ok (.aload_n 2, 1) := dk_44 (dk_at dksX1_checkedRegion_0 6 rfl rfl)
theorem dX1_checkedRegion_7 : decode cX1_checkedRegion 7 = .ok (.invokevirtual 50, 3) := dk_182 0 50 (dk_at dksX1_checkedRegion_0 7 rfl rfl)
theorem dX1_checkedRegion_10 : decode cX1_checkedRegion 10 = .ok (.ifCond .ne 7, 3) := dk_154 0 7 (dk_at dksX1_checkedRegion_0 10 rfl rfl)
theorem dX1_checkedRegion_13 : decode cX1_checkedRegion 13 = .ok (.iconst 1, 1) := dk_4 (dk_at dksX1_checkedRegion_0 13 rfl rfl)
theorem dX1_checkedRegion_14 : decode cX1_checkedRegion 14 = .ok (.goto 4, 3) := dk_167 0 4 (dk_at dksX1_checkedRegion_0 14 rfl rfl)
theorem dX1_checkedRegion_17 : decode cX1_checkedRegion 17 = .ok (.iconst 0, 1) := dk_3 (dk_at dksX1_checkedRegion_0 17 rfl rfl)
theorem dX1_checkedRegion_18 : decode cX1_checkedRegion 18 = .ok (.invokestatic 54, 3) := dk_184 0 54 (dk_at dksX1_checkedRegion_0 18 rfl rfl)
theorem dX1_checkedRegion_21 : decode cX1_checkedRegion 21 = .ok (.aload_n 2, 1) := dk_44 (dk_at dksX1_checkedRegion_0 21 rfl rfl)
theorem dX1_checkedRegion_22 : decode cX1_checkedRegion 22 = .ok (.areturn, 1) := dk_176 (dk_at dksX1_checkedRegion_0 22 rfl rfl)
abbrev cX1_right : ByteArray := prog_1_method_46_code
def yX1_right : MethodName := ⟨RX1, "right", "(I)I"⟩
def dkwX1_right_0 : List UInt8 := [42, 27, 182, 1, 2, 182, 1, 8, 172]
abbrev dktX1_right_0 : List UInt8 := dkwX1_right_0 ++ []
theorem dksX1_right_0 : cX1_right.data.toList.drop 0 = dktX1_right_0 := by decide +kernel
theorem dX1_right_0 : decode cX1_right 0 = .ok (.aload_n 0, 1) := dk_42 (dk_at dksX1_right_0 0 rfl rfl)
theorem dX1_right_1 : decode cX1_right 1 = .ok (.iload_n 1, 1) := dk_27 (dk_at dksX1_right_0 1 rfl rfl)
theorem dX1_right_2 : decode cX1_right 2 = .ok (.invokevirtual 258, 3) := dk_182 1 2 (dk_at dksX1_right_0 2 rfl rfl)
theorem dX1_right_5 : decode cX1_right 5 = .ok (.invokevirtual 264, 3) := dk_182 1 8 (dk_at dksX1_right_0 5 rfl rfl)
theorem dX1_right_8 : decode cX1_right 8 = .ok (.ireturn, 1) := dk_172 (dk_at dksX1_right_0 8 rfl rfl)
abbrev cX1_bottom : ByteArray := prog_1_method_47_code
def yX1_bottom : MethodName := ⟨RX1, "bottom", "(I)I"⟩
def dkwX1_bottom_0 : List UInt8 := [42, 27, 182, 1, 2, 182, 1, 11, 172]
abbrev dktX1_bottom_0 : List UInt8 := dkwX1_bottom_0 ++ []
theorem dksX1_bottom_0 : cX1_bottom.data.toList.drop 0 = dktX1_bottom_0 := by decide +kernel
theorem dX1_bottom_0 : decode cX1_bottom 0 = .ok (.aload_n 0, 1) := dk_42 (dk_at dksX1_bottom_0 0 rfl rfl)
theorem dX1_bottom_1 : decode cX1_bottom 1 = .ok (.iload_n 1, 1) := dk_27 (dk_at dksX1_bottom_0 1 rfl rfl)
theorem dX1_bottom_2 : decode cX1_bottom 2 = .ok (.invokevirtual 258, 3) := dk_182 1 2 (dk_at dksX1_bottom_0 2 rfl rfl)
theorem dX1_bottom_5 : decode cX1_bottom 5 = .ok (.invokevirtual 267, 3) := dk_182 1 11 (dk_at dksX1_bottom_0 5 rfl rfl)
theorem dX1_bottom_8 : decode cX1_bottom 8 = .ok (.ireturn, 1) := dk_172 (dk_at dksX1_bottom_0 8 rfl rfl)
abbrev cX1_top : ByteArray := prog_1_method_48_code
def yX1_top : MethodName := ⟨RX1, "top", "(I)I"⟩
def dkwX1_top_0 : List UInt8 := [42, 27, 182, 1, 2, 182, 1, 14, 172]
abbrev dktX1_top_0 : List UInt8 := dkwX1_top_0 ++ []
theorem dksX1_top_0 : cX1_top.data.toList.drop 0 = dktX1_top_0 := by decide +kernel
theorem dX1_top_0 : decode cX1_top 0 = .ok (.aload_n 0, 1) := dk_42 (dk_at dksX1_top_0 0 rfl rfl)
theorem dX1_top_1 : decode cX1_top 1 = .ok (.iload_n 1, 1) := dk_27 (dk_at dksX1_top_0 1 rfl rfl)
theorem dX1_top_2 : decode cX1_top 2 = .ok (.invokevirtual 258, 3) := dk_182 1 2 (dk_at dksX1_top_0 2 rfl rfl)
theorem dX1_top_5 : decode cX1_top 5 = .ok (.invokevirtual 270, 3) := dk_182 1 14 (dk_at dksX1_top_0 5 rfl rfl)
theorem dX1_top_8 : decode cX1_top 8 = .ok (.ireturn, 1) := dk_172 (dk_at dksX1_top_0 8 rfl rfl)
abbrev cX1_largestRectangle : ByteArray := prog_1_method_49_code
def yX1_largestRectangle : MethodName := ⟨RX1, "largestRectangle", "(I)I"⟩
def dkwX1_largestRectangle_0 : List UInt8 := [187, 1, 17, 89, 42, 27, 182, 0, 46, 183, 1, 19, 180, 1, 20, 172]
abbrev dktX1_largestRectangle_0 : List UInt8 := dkwX1_largestRectangle_0 ++ []
theorem dksX1_largestRectangle_0 : cX1_largestRectangle.data.toList.drop 0 = dktX1_largestRectangle_0 := by decide +kernel
theorem dX1_largestRectangle_0 : decode cX1_largestRectangle 0 = .ok (.new 273, 3) := dk_187 1 17 (dk_at dksX1_largestRectangle_0 0 rfl rfl)
theorem dX1_largestRectangle_3 : decode cX1_largestRectangle 3 = .ok (.dup, 1) := dk_89 (dk_at dksX1_largestRectangle_0 3 rfl rfl)
theorem dX1_largestRectangle_4 : decode cX1_largestRectangle 4 = .ok (.aload_n 0, 1) := dk_42 (dk_at dksX1_largestRectangle_0 4 rfl rfl)
theorem dX1_largestRectangle_5 : decode cX1_largestRectangle 5 = .ok (.iload_n 1, 1) := dk_27 (dk_at dksX1_largestRectangle_0 5 rfl rfl)
theorem dX1_largestRectangle_6 : decode cX1_largestRectangle 6 = .ok (.invokevirtual 46, 3) := dk_182 0 46 (dk_at dksX1_largestRectangle_0 6 rfl rfl)
theorem dX1_largestRectangle_9 : decode cX1_largestRectangle 9 = .ok (.invokespecial 275, 3) := dk_183 1 19 (dk_at dksX1_largestRectangle_0 9 rfl rfl)
theorem dX1_largestRectangle_12 : decode cX1_largestRectangle 12 = .ok (.getfield 276, 3) := dk_180 1 20 (dk_at dksX1_largestRectangle_0 12 rfl rfl)
theorem dX1_largestRectangle_15 : decode cX1_largestRectangle 15 = .ok (.ireturn, 1) := dk_172 (dk_at dksX1_largestRectangle_0 15 rfl rfl)
abbrev cX1_largestRectangleByCells : ByteArray := prog_1_method_50_code
def yX1_largestRectangleByCells : MethodName := ⟨RX1, "largestRectangleByCells", "(I)I"⟩
def dkwX1_largestRectangleByCells_0 : List UInt8 := [42, 27, 182, 0, 46, 184, 0, 164, 182, 1, 23, 172]
abbrev dktX1_largestRectangleByCells_0 : List UInt8 := dkwX1_largestRectangleByCells_0 ++ []
theorem dksX1_largestRectangleByCells_0 : cX1_largestRectangleByCells.data.toList.drop 0 = dktX1_largestRectangleByCells_0 := by decide +kernel
theorem dX1_largestRectangleByCells_0 : decode cX1_largestRectangleByCells 0 = .ok (.aload_n 0, 1) := dk_42 (dk_at dksX1_largestRectangleByCells_0 0 rfl rfl)
theorem dX1_largestRectangleByCells_1 : decode cX1_largestRectangleByCells 1 = .ok (.iload_n 1, 1) := dk_27 (dk_at dksX1_largestRectangleByCells_0 1 rfl rfl)
theorem dX1_largestRectangleByCells_2 : decode cX1_largestRectangleByCells 2 = .ok (.invokevirtual 46, 3) := dk_182 0 46 (dk_at dksX1_largestRectangleByCells_0 2 rfl rfl)
theorem dX1_largestRectangleByCells_5 : decode cX1_largestRectangleByCells 5 = .ok (.invokestatic 164, 3) := dk_184 0 164 (dk_at dksX1_largestRectangleByCells_0 5 rfl rfl)
theorem dX1_largestRectangleByCells_8 : decode cX1_largestRectangleByCells 8 = .ok (.invokevirtual 279, 3) := dk_182 1 23 (dk_at dksX1_largestRectangleByCells_0 8 rfl rfl)
theorem dX1_largestRectangleByCells_11 : decode cX1_largestRectangleByCells 11 = .ok (.ireturn, 1) := dk_172 (dk_at dksX1_largestRectangleByCells_0 11 rfl rfl)
abbrev cX1_largestSquare : ByteArray := prog_1_method_51_code
def yX1_largestSquare : MethodName := ⟨RX1, "largestSquare", "(I)I"⟩
def dkwX1_largestSquare_0 : List UInt8 := [187, 1, 17, 89, 42, 27, 182, 0, 46, 183, 1, 19, 180, 1, 26, 172]
abbrev dktX1_largestSquare_0 : List UInt8 := dkwX1_largestSquare_0 ++ []
theorem dksX1_largestSquare_0 : cX1_largestSquare.data.toList.drop 0 = dktX1_largestSquare_0 := by decide +kernel
theorem dX1_largestSquare_0 : decode cX1_largestSquare 0 = .ok (.new 273, 3) := dk_187 1 17 (dk_at dksX1_largestSquare_0 0 rfl rfl)
theorem dX1_largestSquare_3 : decode cX1_largestSquare 3 = .ok (.dup, 1) := dk_89 (dk_at dksX1_largestSquare_0 3 rfl rfl)
theorem dX1_largestSquare_4 : decode cX1_largestSquare 4 = .ok (.aload_n 0, 1) := dk_42 (dk_at dksX1_largestSquare_0 4 rfl rfl)
theorem dX1_largestSquare_5 : decode cX1_largestSquare 5 = .ok (.iload_n 1, 1) := dk_27 (dk_at dksX1_largestSquare_0 5 rfl rfl)
theorem dX1_largestSquare_6 : decode cX1_largestSquare 6 = .ok (.invokevirtual 46, 3) := dk_182 0 46 (dk_at dksX1_largestSquare_0 6 rfl rfl)
theorem dX1_largestSquare_9 : decode cX1_largestSquare 9 = .ok (.invokespecial 275, 3) := dk_183 1 19 (dk_at dksX1_largestSquare_0 9 rfl rfl)
theorem dX1_largestSquare_12 : decode cX1_largestSquare 12 = .ok (.getfield 282, 3) := dk_180 1 26 (dk_at dksX1_largestSquare_0 12 rfl rfl)
theorem dX1_largestSquare_15 : decode cX1_largestSquare 15 = .ok (.ireturn, 1) := dk_172 (dk_at dksX1_largestSquare_0 15 rfl rfl)
abbrev cX1_largestSquareByCells : ByteArray := prog_1_method_52_code
def yX1_largestSquareByCells : MethodName := ⟨RX1, "largestSquareByCells", "(I)I"⟩
def dkwX1_largestSquareByCells_0 : List UInt8 := [42, 27, 182, 0, 46, 184, 0, 164, 182, 1, 29, 172]
abbrev dktX1_largestSquareByCells_0 : List UInt8 := dkwX1_largestSquareByCells_0 ++ []
theorem dksX1_largestSquareByCells_0 : cX1_largestSquareByCells.data.toList.drop 0 = dktX1_largestSquareByCells_0 := by decide +kernel
theorem dX1_largestSquareByCells_0 : decode cX1_largestSquareByCells 0 = .ok (.aload_n 0, 1) := dk_42 (dk_at dksX1_largestSquareByCells_0 0 rfl rfl)
theorem dX1_largestSquareByCells_1 : decode cX1_largestSquareByCells 1 = .ok (.iload_n 1, 1) := dk_27 (dk_at dksX1_largestSquareByCells_0 1 rfl rfl)
theorem dX1_largestSquareByCells_2 : decode cX1_largestSquareByCells 2 = .ok (.invokevirtual 46, 3) := dk_182 0 46 (dk_at dksX1_largestSquareByCells_0 2 rfl rfl)
theorem dX1_largestSquareByCells_5 : decode cX1_largestSquareByCells 5 = .ok (.invokestatic 164, 3) := dk_184 0 164 (dk_at dksX1_largestSquareByCells_0 5 rfl rfl)
theorem dX1_largestSquareByCells_8 : decode cX1_largestSquareByCells 8 = .ok (.invokevirtual 285, 3) := dk_182 1 29 (dk_at dksX1_largestSquareByCells_0 8 rfl rfl)
theorem dX1_largestSquareByCells_11 : decode cX1_largestSquareByCells 11 = .ok (.ireturn, 1) := dk_172 (dk_at dksX1_largestSquareByCells_0 11 rfl rfl)
abbrev cX1_steps : ByteArray := prog_1_method_56_code
def yX1_steps : MethodName := ⟨RX1, "steps", "(IIIII)I"⟩
def dkwX1_steps_1 : List UInt8 := [16, 24, 21, 5, 104, 21, 4, 96, 46, 184, 1, 68, 172]
abbrev dktX1_steps_1 : List UInt8 := dkwX1_steps_1 ++ []
def dkwX1_steps_0 : List UInt8 := [42, 27, 28, 29, 21, 4, 21, 5, 182, 1, 60, 58, 6, 25, 6, 16, 24, 29, 104, 28, 96, 184, 1, 64]
abbrev dktX1_steps_0 : List UInt8 := dkwX1_steps_0 ++ dktX1_steps_1
theorem dksX1_steps_0 : cX1_steps.data.toList.drop 0 = dktX1_steps_0 := by decide +kernel
theorem dksX1_steps_1 : cX1_steps.data.toList.drop 24 = dktX1_steps_1 := dk_seg dksX1_steps_0 24 rfl rfl
theorem dX1_steps_0 : decode cX1_steps 0 = .ok (.aload_n 0, 1) := dk_42 (dk_at dksX1_steps_0 0 rfl rfl)
theorem dX1_steps_1 : decode cX1_steps 1 = .ok (.iload_n 1, 1) := dk_27 (dk_at dksX1_steps_0 1 rfl rfl)
theorem dX1_steps_2 : decode cX1_steps 2 = .ok (.iload_n 2, 1) := dk_28 (dk_at dksX1_steps_0 2 rfl rfl)
theorem dX1_steps_3 : decode cX1_steps 3 = .ok (.iload_n 3, 1) := dk_29 (dk_at dksX1_steps_0 3 rfl rfl)
theorem dX1_steps_4 : decode cX1_steps 4 = .ok (.iload 4, 2) := dk_21 4 (dk_at dksX1_steps_0 4 rfl rfl)
theorem dX1_steps_6 : decode cX1_steps 6 = .ok (.iload 5, 2) := dk_21 5 (dk_at dksX1_steps_0 6 rfl rfl)
theorem dX1_steps_8 : decode cX1_steps 8 = .ok (.invokevirtual 316, 3) := dk_182 1 60 (dk_at dksX1_steps_0 8 rfl rfl)
theorem dX1_steps_11 : decode cX1_steps 11 = .ok (.astore 6, 2) := dk_58 6 (dk_at dksX1_steps_0 11 rfl rfl)
theorem dX1_steps_13 : decode cX1_steps 13 = .ok (.aload 6, 2) := dk_25 6 (dk_at dksX1_steps_0 13 rfl rfl)
theorem dX1_steps_15 : decode cX1_steps 15 = .ok (.bipush 24, 2) := dk_16 24 (dk_at dksX1_steps_0 15 rfl rfl)
theorem dX1_steps_17 : decode cX1_steps 17 = .ok (.iload_n 3, 1) := dk_29 (dk_at dksX1_steps_0 17 rfl rfl)
theorem dX1_steps_18 : decode cX1_steps 18 = .ok (.imul, 1) := dk_104 (dk_at dksX1_steps_0 18 rfl rfl)
theorem dX1_steps_19 : decode cX1_steps 19 = .ok (.iload_n 2, 1) := dk_28 (dk_at dksX1_steps_0 19 rfl rfl)
theorem dX1_steps_20 : decode cX1_steps 20 = .ok (.iadd, 1) := dk_96 (dk_at dksX1_steps_0 20 rfl rfl)
theorem dX1_steps_21 : decode cX1_steps 21 = .ok (.invokestatic 320, 3) := dk_184 1 64 (dk_at dksX1_steps_0 21 rfl rfl)
theorem dX1_steps_24 : decode cX1_steps 24 = .ok (.bipush 24, 2) := dk_16 24 (dk_at dksX1_steps_1 0 rfl rfl)
theorem dX1_steps_26 : decode cX1_steps 26 = .ok (.iload 5, 2) := dk_21 5 (dk_at dksX1_steps_1 2 rfl rfl)
theorem dX1_steps_28 : decode cX1_steps 28 = .ok (.imul, 1) := dk_104 (dk_at dksX1_steps_1 4 rfl rfl)
theorem dX1_steps_29 : decode cX1_steps 29 = .ok (.iload 4, 2) := dk_21 4 (dk_at dksX1_steps_1 5 rfl rfl)
theorem dX1_steps_31 : decode cX1_steps 31 = .ok (.iadd, 1) := dk_96 (dk_at dksX1_steps_1 7 rfl rfl)
theorem dX1_steps_32 : decode cX1_steps 32 = .ok (.iaload, 1) := dk_46 (dk_at dksX1_steps_1 8 rfl rfl)
theorem dX1_steps_33 : decode cX1_steps 33 = .ok (.invokestatic 324, 3) := dk_184 1 68 (dk_at dksX1_steps_1 9 rfl rfl)
theorem dX1_steps_36 : decode cX1_steps 36 = .ok (.ireturn, 1) := dk_172 (dk_at dksX1_steps_1 12 rfl rfl)
abbrev cX1_checkedCells : ByteArray := prog_1_method_53_code
def yX1_checkedCells : MethodName := ⟨RX1, "checkedCells", "(IIIII)LPolygonBoard$Cells;"⟩
def dkwX1_checkedCells_2 : List UInt8 := [21, 4, 21, 5, 182, 0, 201, 153, 0, 7, 4, 167, 0, 4, 3, 184, 0, 54, 25, 6, 184, 0, 164, 176]
abbrev dktX1_checkedCells_2 : List UInt8 := dkwX1_checkedCells_2 ++ []
def dkwX1_checkedCells_1 : List UInt8 := [153, 0, 7, 4, 167, 0, 4, 3, 184, 0, 70, 25, 6, 28, 29, 182, 0, 201, 153, 0, 19, 25, 6]
abbrev dktX1_checkedCells_1 : List UInt8 := dkwX1_checkedCells_1 ++ dktX1_checkedCells_2
def dkwX1_checkedCells_0 : List UInt8 := [42, 27, 182, 0, 46, 58, 6, 28, 29, 184, 0, 186, 153, 0, 17, 21, 4, 21, 5, 184, 0, 186]
abbrev dktX1_checkedCells_0 : List UInt8 := dkwX1_checkedCells_0 ++ dktX1_checkedCells_1
theorem dksX1_checkedCells_0 : cX1_checkedCells.data.toList.drop 0 = dktX1_checkedCells_0 := by decide +kernel
theorem dksX1_checkedCells_1 : cX1_checkedCells.data.toList.drop 22 = dktX1_checkedCells_1 := dk_seg dksX1_checkedCells_0 22 rfl rfl
theorem dksX1_checkedCells_2 : cX1_checkedCells.data.toList.drop 45 = dktX1_checkedCells_2 := dk_seg dksX1_checkedCells_1 23 rfl rfl
theorem dX1_checkedCells_0 : decode cX1_checkedCells 0 = .ok (.aload_n 0, 1) := dk_42 (dk_at dksX1_checkedCells_0 0 rfl rfl)
theorem dX1_checkedCells_1 : decode cX1_checkedCells 1 = .ok (.iload_n 1, 1) := dk_27 (dk_at dksX1_checkedCells_0 1 rfl rfl)
theorem dX1_checkedCells_2 : decode cX1_checkedCells 2 = .ok (.invokevirtual 46, 3) := dk_182 0 46 (dk_at dksX1_checkedCells_0 2 rfl rfl)
theorem dX1_checkedCells_5 : decode cX1_checkedCells 5 = .ok (.astore 6, 2) := dk_58 6 (dk_at dksX1_checkedCells_0 5 rfl rfl)
theorem dX1_checkedCells_7 : decode cX1_checkedCells 7 = .ok (.iload_n 2, 1) := dk_28 (dk_at dksX1_checkedCells_0 7 rfl rfl)
theorem dX1_checkedCells_8 : decode cX1_checkedCells 8 = .ok (.iload_n 3, 1) := dk_29 (dk_at dksX1_checkedCells_0 8 rfl rfl)
theorem dX1_checkedCells_9 : decode cX1_checkedCells 9 = .ok (.invokestatic 186, 3) := dk_184 0 186 (dk_at dksX1_checkedCells_0 9 rfl rfl)
theorem dX1_checkedCells_12 : decode cX1_checkedCells 12 = .ok (.ifCond .eq 17, 3) := dk_153 0 17 (dk_at dksX1_checkedCells_0 12 rfl rfl)
theorem dX1_checkedCells_15 : decode cX1_checkedCells 15 = .ok (.iload 4, 2) := dk_21 4 (dk_at dksX1_checkedCells_0 15 rfl rfl)
theorem dX1_checkedCells_17 : decode cX1_checkedCells 17 = .ok (.iload 5, 2) := dk_21 5 (dk_at dksX1_checkedCells_0 17 rfl rfl)
theorem dX1_checkedCells_19 : decode cX1_checkedCells 19 = .ok (.invokestatic 186, 3) := dk_184 0 186 (dk_at dksX1_checkedCells_0 19 rfl rfl)
theorem dX1_checkedCells_22 : decode cX1_checkedCells 22 = .ok (.ifCond .eq 7, 3) := dk_153 0 7 (dk_at dksX1_checkedCells_1 0 rfl rfl)
theorem dX1_checkedCells_25 : decode cX1_checkedCells 25 = .ok (.iconst 1, 1) := dk_4 (dk_at dksX1_checkedCells_1 3 rfl rfl)
theorem dX1_checkedCells_26 : decode cX1_checkedCells 26 = .ok (.goto 4, 3) := dk_167 0 4 (dk_at dksX1_checkedCells_1 4 rfl rfl)
theorem dX1_checkedCells_29 : decode cX1_checkedCells 29 = .ok (.iconst 0, 1) := dk_3 (dk_at dksX1_checkedCells_1 7 rfl rfl)
theorem dX1_checkedCells_30 : decode cX1_checkedCells 30 = .ok (.invokestatic 70, 3) := dk_184 0 70 (dk_at dksX1_checkedCells_1 8 rfl rfl)
theorem dX1_checkedCells_33 : decode cX1_checkedCells 33 = .ok (.aload 6, 2) := dk_25 6 (dk_at dksX1_checkedCells_1 11 rfl rfl)
theorem dX1_checkedCells_35 : decode cX1_checkedCells 35 = .ok (.iload_n 2, 1) := dk_28 (dk_at dksX1_checkedCells_1 13 rfl rfl)
theorem dX1_checkedCells_36 : decode cX1_checkedCells 36 = .ok (.iload_n 3, 1) := dk_29 (dk_at dksX1_checkedCells_1 14 rfl rfl)
theorem dX1_checkedCells_37 : decode cX1_checkedCells 37 = .ok (.invokevirtual 201, 3) := dk_182 0 201 (dk_at dksX1_checkedCells_1 15 rfl rfl)
theorem dX1_checkedCells_40 : decode cX1_checkedCells 40 = .ok (.ifCond .eq 19, 3) := dk_153 0 19 (dk_at dksX1_checkedCells_1 18 rfl rfl)
theorem dX1_checkedCells_43 : decode cX1_checkedCells 43 = .ok (.aload 6, 2) := dk_25 6 (dk_at dksX1_checkedCells_1 21 rfl rfl)
theorem dX1_checkedCells_45 : decode cX1_checkedCells 45 = .ok (.iload 4, 2) := dk_21 4 (dk_at dksX1_checkedCells_2 0 rfl rfl)
theorem dX1_checkedCells_47 : decode cX1_checkedCells 47 = .ok (.iload 5, 2) := dk_21 5 (dk_at dksX1_checkedCells_2 2 rfl rfl)
theorem dX1_checkedCells_49 : decode cX1_checkedCells 49 = .ok (.invokevirtual 201, 3) := dk_182 0 201 (dk_at dksX1_checkedCells_2 4 rfl rfl)
theorem dX1_checkedCells_52 : decode cX1_checkedCells 52 = .ok (.ifCond .eq 7, 3) := dk_153 0 7 (dk_at dksX1_checkedCells_2 7 rfl rfl)
theorem dX1_checkedCells_55 : decode cX1_checkedCells 55 = .ok (.iconst 1, 1) := dk_4 (dk_at dksX1_checkedCells_2 10 rfl rfl)
theorem dX1_checkedCells_56 : decode cX1_checkedCells 56 = .ok (.goto 4, 3) := dk_167 0 4 (dk_at dksX1_checkedCells_2 11 rfl rfl)
theorem dX1_checkedCells_59 : decode cX1_checkedCells 59 = .ok (.iconst 0, 1) := dk_3 (dk_at dksX1_checkedCells_2 14 rfl rfl)
theorem dX1_checkedCells_60 : decode cX1_checkedCells 60 = .ok (.invokestatic 54, 3) := dk_184 0 54 (dk_at dksX1_checkedCells_2 15 rfl rfl)
theorem dX1_checkedCells_63 : decode cX1_checkedCells 63 = .ok (.aload 6, 2) := dk_25 6 (dk_at dksX1_checkedCells_2 18 rfl rfl)
theorem dX1_checkedCells_65 : decode cX1_checkedCells 65 = .ok (.invokestatic 164, 3) := dk_184 0 164 (dk_at dksX1_checkedCells_2 20 rfl rfl)
theorem dX1_checkedCells_68 : decode cX1_checkedCells 68 = .ok (.areturn, 1) := dk_176 (dk_at dksX1_checkedCells_2 23 rfl rfl)
abbrev cX1_stepsFrom : ByteArray := prog_1_method_55_code
def yX1_stepsFrom : MethodName := ⟨RX1, "stepsFrom", "(LPolygonBoard$Cells;I)[I"⟩
def dkwX1_stepsFrom_7 : List UInt8 := [44, 176]
abbrev dktX1_stepsFrom_7 : List UInt8 := dkwX1_stepsFrom_7 ++ []
def dkwX1_stepsFrom_6 : List UInt8 := [45, 16, 24, 21, 7, 104, 21, 6, 96, 184, 1, 35, 182, 1, 41, 132, 5, 1, 167, 255, 165, 167, 255, 140]
abbrev dktX1_stepsFrom_6 : List UInt8 := dkwX1_stepsFrom_6 ++ dktX1_stepsFrom_7
def dkwX1_stepsFrom_5 : List UInt8 := [21, 6, 96, 46, 2, 160, 0, 34, 44, 16, 24, 21, 7, 104, 21, 6, 96, 44, 21, 4, 46, 4, 96, 79]
abbrev dktX1_stepsFrom_5 : List UInt8 := dkwX1_stepsFrom_5 ++ dktX1_stepsFrom_6
def dkwX1_stepsFrom_4 : List UInt8 := [184, 1, 56, 96, 54, 7, 42, 21, 6, 21, 7, 182, 1, 59, 153, 0, 48, 44, 16, 24, 21, 7, 104]
abbrev dktX1_stepsFrom_4 : List UInt8 := dkwX1_stepsFrom_4 ++ dktX1_stepsFrom_5
def dkwX1_stepsFrom_3 : List UInt8 := [162, 0, 91, 21, 4, 16, 24, 112, 21, 5, 184, 1, 52, 96, 54, 6, 21, 4, 16, 24, 108, 21, 5]
abbrev dktX1_stepsFrom_3 : List UInt8 := dkwX1_stepsFrom_3 ++ dktX1_stepsFrom_4
def dkwX1_stepsFrom_2 : List UInt8 := [182, 1, 45, 154, 0, 115, 45, 182, 1, 46, 192, 1, 36, 182, 1, 49, 54, 4, 3, 54, 5, 21, 5, 7]
abbrev dktX1_stepsFrom_2 : List UInt8 := dkwX1_stepsFrom_2 ++ dktX1_stepsFrom_3
def dkwX1_stepsFrom_1 : List UInt8 := [167, 255, 242, 187, 1, 32, 89, 183, 1, 34, 78, 44, 27, 3, 79, 45, 27, 184, 1, 35, 182, 1, 41, 45]
abbrev dktX1_stepsFrom_1 : List UInt8 := dkwX1_stepsFrom_1 ++ dktX1_stepsFrom_2
def dkwX1_stepsFrom_0 : List UInt8 := [17, 2, 64, 188, 10, 77, 3, 62, 29, 17, 2, 64, 162, 0, 13, 44, 29, 2, 79, 132, 3, 1]
abbrev dktX1_stepsFrom_0 : List UInt8 := dkwX1_stepsFrom_0 ++ dktX1_stepsFrom_1
theorem dksX1_stepsFrom_0 : cX1_stepsFrom.data.toList.drop 0 = dktX1_stepsFrom_0 := by decide +kernel
theorem dksX1_stepsFrom_1 : cX1_stepsFrom.data.toList.drop 22 = dktX1_stepsFrom_1 := dk_seg dksX1_stepsFrom_0 22 rfl rfl
theorem dksX1_stepsFrom_2 : cX1_stepsFrom.data.toList.drop 46 = dktX1_stepsFrom_2 := dk_seg dksX1_stepsFrom_1 24 rfl rfl
theorem dksX1_stepsFrom_3 : cX1_stepsFrom.data.toList.drop 70 = dktX1_stepsFrom_3 := dk_seg dksX1_stepsFrom_2 24 rfl rfl
theorem dksX1_stepsFrom_4 : cX1_stepsFrom.data.toList.drop 93 = dktX1_stepsFrom_4 := dk_seg dksX1_stepsFrom_3 23 rfl rfl
theorem dksX1_stepsFrom_5 : cX1_stepsFrom.data.toList.drop 116 = dktX1_stepsFrom_5 := dk_seg dksX1_stepsFrom_4 23 rfl rfl
theorem dksX1_stepsFrom_6 : cX1_stepsFrom.data.toList.drop 140 = dktX1_stepsFrom_6 := dk_seg dksX1_stepsFrom_5 24 rfl rfl
theorem dksX1_stepsFrom_7 : cX1_stepsFrom.data.toList.drop 164 = dktX1_stepsFrom_7 := dk_seg dksX1_stepsFrom_6 24 rfl rfl
theorem dX1_stepsFrom_0 : decode cX1_stepsFrom 0 = .ok (.sipush 576, 3) := dk_17 2 64 (dk_at dksX1_stepsFrom_0 0 rfl rfl)
theorem dX1_stepsFrom_3 : decode cX1_stepsFrom 3 = .ok (.newarray .int, 2) := dk_188_10 (dk_at dksX1_stepsFrom_0 3 rfl rfl)
theorem dX1_stepsFrom_5 : decode cX1_stepsFrom 5 = .ok (.astore_n 2, 1) := dk_77 (dk_at dksX1_stepsFrom_0 5 rfl rfl)
theorem dX1_stepsFrom_6 : decode cX1_stepsFrom 6 = .ok (.iconst 0, 1) := dk_3 (dk_at dksX1_stepsFrom_0 6 rfl rfl)
theorem dX1_stepsFrom_7 : decode cX1_stepsFrom 7 = .ok (.istore_n 3, 1) := dk_62 (dk_at dksX1_stepsFrom_0 7 rfl rfl)
theorem dX1_stepsFrom_8 : decode cX1_stepsFrom 8 = .ok (.iload_n 3, 1) := dk_29 (dk_at dksX1_stepsFrom_0 8 rfl rfl)
theorem dX1_stepsFrom_9 : decode cX1_stepsFrom 9 = .ok (.sipush 576, 3) := dk_17 2 64 (dk_at dksX1_stepsFrom_0 9 rfl rfl)
theorem dX1_stepsFrom_12 : decode cX1_stepsFrom 12 = .ok (.if_icmp .ge 13, 3) := dk_162 0 13 (dk_at dksX1_stepsFrom_0 12 rfl rfl)
theorem dX1_stepsFrom_15 : decode cX1_stepsFrom 15 = .ok (.aload_n 2, 1) := dk_44 (dk_at dksX1_stepsFrom_0 15 rfl rfl)
theorem dX1_stepsFrom_16 : decode cX1_stepsFrom 16 = .ok (.iload_n 3, 1) := dk_29 (dk_at dksX1_stepsFrom_0 16 rfl rfl)
theorem dX1_stepsFrom_17 : decode cX1_stepsFrom 17 = .ok (.iconst (-1), 1) := dk_2 (dk_at dksX1_stepsFrom_0 17 rfl rfl)
theorem dX1_stepsFrom_18 : decode cX1_stepsFrom 18 = .ok (.iastore, 1) := dk_79 (dk_at dksX1_stepsFrom_0 18 rfl rfl)
theorem dX1_stepsFrom_19 : decode cX1_stepsFrom 19 = .ok (.iinc 3 1, 3) := dk_132 3 1 (dk_at dksX1_stepsFrom_0 19 rfl rfl)
theorem dX1_stepsFrom_22 : decode cX1_stepsFrom 22 = .ok (.goto (-14), 3) := dk_167 255 242 (dk_at dksX1_stepsFrom_1 0 rfl rfl)
theorem dX1_stepsFrom_25 : decode cX1_stepsFrom 25 = .ok (.new 288, 3) := dk_187 1 32 (dk_at dksX1_stepsFrom_1 3 rfl rfl)
theorem dX1_stepsFrom_28 : decode cX1_stepsFrom 28 = .ok (.dup, 1) := dk_89 (dk_at dksX1_stepsFrom_1 6 rfl rfl)
theorem dX1_stepsFrom_29 : decode cX1_stepsFrom 29 = .ok (.invokespecial 290, 3) := dk_183 1 34 (dk_at dksX1_stepsFrom_1 7 rfl rfl)
theorem dX1_stepsFrom_32 : decode cX1_stepsFrom 32 = .ok (.astore_n 3, 1) := dk_78 (dk_at dksX1_stepsFrom_1 10 rfl rfl)
theorem dX1_stepsFrom_33 : decode cX1_stepsFrom 33 = .ok (.aload_n 2, 1) := dk_44 (dk_at dksX1_stepsFrom_1 11 rfl rfl)
theorem dX1_stepsFrom_34 : decode cX1_stepsFrom 34 = .ok (.iload_n 1, 1) := dk_27 (dk_at dksX1_stepsFrom_1 12 rfl rfl)
theorem dX1_stepsFrom_35 : decode cX1_stepsFrom 35 = .ok (.iconst 0, 1) := dk_3 (dk_at dksX1_stepsFrom_1 13 rfl rfl)
theorem dX1_stepsFrom_36 : decode cX1_stepsFrom 36 = .ok (.iastore, 1) := dk_79 (dk_at dksX1_stepsFrom_1 14 rfl rfl)
theorem dX1_stepsFrom_37 : decode cX1_stepsFrom 37 = .ok (.aload_n 3, 1) := dk_45 (dk_at dksX1_stepsFrom_1 15 rfl rfl)
theorem dX1_stepsFrom_38 : decode cX1_stepsFrom 38 = .ok (.iload_n 1, 1) := dk_27 (dk_at dksX1_stepsFrom_1 16 rfl rfl)
theorem dX1_stepsFrom_39 : decode cX1_stepsFrom 39 = .ok (.invokestatic 291, 3) := dk_184 1 35 (dk_at dksX1_stepsFrom_1 17 rfl rfl)
theorem dX1_stepsFrom_42 : decode cX1_stepsFrom 42 = .ok (.invokevirtual 297, 3) := dk_182 1 41 (dk_at dksX1_stepsFrom_1 20 rfl rfl)
theorem dX1_stepsFrom_45 : decode cX1_stepsFrom 45 = .ok (.aload_n 3, 1) := dk_45 (dk_at dksX1_stepsFrom_1 23 rfl rfl)
theorem dX1_stepsFrom_46 : decode cX1_stepsFrom 46 = .ok (.invokevirtual 301, 3) := dk_182 1 45 (dk_at dksX1_stepsFrom_2 0 rfl rfl)
theorem dX1_stepsFrom_49 : decode cX1_stepsFrom 49 = .ok (.ifCond .ne 115, 3) := dk_154 0 115 (dk_at dksX1_stepsFrom_2 3 rfl rfl)
theorem dX1_stepsFrom_52 : decode cX1_stepsFrom 52 = .ok (.aload_n 3, 1) := dk_45 (dk_at dksX1_stepsFrom_2 6 rfl rfl)
theorem dX1_stepsFrom_53 : decode cX1_stepsFrom 53 = .ok (.invokevirtual 302, 3) := dk_182 1 46 (dk_at dksX1_stepsFrom_2 7 rfl rfl)
theorem dX1_stepsFrom_56 : decode cX1_stepsFrom 56 = .ok (.checkcast 292, 3) := dk_192 1 36 (dk_at dksX1_stepsFrom_2 10 rfl rfl)
theorem dX1_stepsFrom_59 : decode cX1_stepsFrom 59 = .ok (.invokevirtual 305, 3) := dk_182 1 49 (dk_at dksX1_stepsFrom_2 13 rfl rfl)
theorem dX1_stepsFrom_62 : decode cX1_stepsFrom 62 = .ok (.istore 4, 2) := dk_54 4 (dk_at dksX1_stepsFrom_2 16 rfl rfl)
theorem dX1_stepsFrom_64 : decode cX1_stepsFrom 64 = .ok (.iconst 0, 1) := dk_3 (dk_at dksX1_stepsFrom_2 18 rfl rfl)
theorem dX1_stepsFrom_65 : decode cX1_stepsFrom 65 = .ok (.istore 5, 2) := dk_54 5 (dk_at dksX1_stepsFrom_2 19 rfl rfl)
theorem dX1_stepsFrom_67 : decode cX1_stepsFrom 67 = .ok (.iload 5, 2) := dk_21 5 (dk_at dksX1_stepsFrom_2 21 rfl rfl)
theorem dX1_stepsFrom_69 : decode cX1_stepsFrom 69 = .ok (.iconst 4, 1) := dk_7 (dk_at dksX1_stepsFrom_2 23 rfl rfl)
theorem dX1_stepsFrom_70 : decode cX1_stepsFrom 70 = .ok (.if_icmp .ge 91, 3) := dk_162 0 91 (dk_at dksX1_stepsFrom_3 0 rfl rfl)
theorem dX1_stepsFrom_73 : decode cX1_stepsFrom 73 = .ok (.iload 4, 2) := dk_21 4 (dk_at dksX1_stepsFrom_3 3 rfl rfl)
theorem dX1_stepsFrom_75 : decode cX1_stepsFrom 75 = .ok (.bipush 24, 2) := dk_16 24 (dk_at dksX1_stepsFrom_3 5 rfl rfl)
theorem dX1_stepsFrom_77 : decode cX1_stepsFrom 77 = .ok (.irem, 1) := dk_112 (dk_at dksX1_stepsFrom_3 7 rfl rfl)
theorem dX1_stepsFrom_78 : decode cX1_stepsFrom 78 = .ok (.iload 5, 2) := dk_21 5 (dk_at dksX1_stepsFrom_3 8 rfl rfl)
theorem dX1_stepsFrom_80 : decode cX1_stepsFrom 80 = .ok (.invokestatic 308, 3) := dk_184 1 52 (dk_at dksX1_stepsFrom_3 10 rfl rfl)
theorem dX1_stepsFrom_83 : decode cX1_stepsFrom 83 = .ok (.iadd, 1) := dk_96 (dk_at dksX1_stepsFrom_3 13 rfl rfl)
theorem dX1_stepsFrom_84 : decode cX1_stepsFrom 84 = .ok (.istore 6, 2) := dk_54 6 (dk_at dksX1_stepsFrom_3 14 rfl rfl)
theorem dX1_stepsFrom_86 : decode cX1_stepsFrom 86 = .ok (.iload 4, 2) := dk_21 4 (dk_at dksX1_stepsFrom_3 16 rfl rfl)
theorem dX1_stepsFrom_88 : decode cX1_stepsFrom 88 = .ok (.bipush 24, 2) := dk_16 24 (dk_at dksX1_stepsFrom_3 18 rfl rfl)
theorem dX1_stepsFrom_90 : decode cX1_stepsFrom 90 = .ok (.idiv, 1) := dk_108 (dk_at dksX1_stepsFrom_3 20 rfl rfl)
theorem dX1_stepsFrom_91 : decode cX1_stepsFrom 91 = .ok (.iload 5, 2) := dk_21 5 (dk_at dksX1_stepsFrom_3 21 rfl rfl)
theorem dX1_stepsFrom_93 : decode cX1_stepsFrom 93 = .ok (.invokestatic 312, 3) := dk_184 1 56 (dk_at dksX1_stepsFrom_4 0 rfl rfl)
theorem dX1_stepsFrom_96 : decode cX1_stepsFrom 96 = .ok (.iadd, 1) := dk_96 (dk_at dksX1_stepsFrom_4 3 rfl rfl)
theorem dX1_stepsFrom_97 : decode cX1_stepsFrom 97 = .ok (.istore 7, 2) := dk_54 7 (dk_at dksX1_stepsFrom_4 4 rfl rfl)
theorem dX1_stepsFrom_99 : decode cX1_stepsFrom 99 = .ok (.aload_n 0, 1) := dk_42 (dk_at dksX1_stepsFrom_4 6 rfl rfl)
theorem dX1_stepsFrom_100 : decode cX1_stepsFrom 100 = .ok (.iload 6, 2) := dk_21 6 (dk_at dksX1_stepsFrom_4 7 rfl rfl)
theorem dX1_stepsFrom_102 : decode cX1_stepsFrom 102 = .ok (.iload 7, 2) := dk_21 7 (dk_at dksX1_stepsFrom_4 9 rfl rfl)
theorem dX1_stepsFrom_104 : decode cX1_stepsFrom 104 = .ok (.invokevirtual 315, 3) := dk_182 1 59 (dk_at dksX1_stepsFrom_4 11 rfl rfl)
theorem dX1_stepsFrom_107 : decode cX1_stepsFrom 107 = .ok (.ifCond .eq 48, 3) := dk_153 0 48 (dk_at dksX1_stepsFrom_4 14 rfl rfl)
theorem dX1_stepsFrom_110 : decode cX1_stepsFrom 110 = .ok (.aload_n 2, 1) := dk_44 (dk_at dksX1_stepsFrom_4 17 rfl rfl)
theorem dX1_stepsFrom_111 : decode cX1_stepsFrom 111 = .ok (.bipush 24, 2) := dk_16 24 (dk_at dksX1_stepsFrom_4 18 rfl rfl)
theorem dX1_stepsFrom_113 : decode cX1_stepsFrom 113 = .ok (.iload 7, 2) := dk_21 7 (dk_at dksX1_stepsFrom_4 20 rfl rfl)
theorem dX1_stepsFrom_115 : decode cX1_stepsFrom 115 = .ok (.imul, 1) := dk_104 (dk_at dksX1_stepsFrom_4 22 rfl rfl)
theorem dX1_stepsFrom_116 : decode cX1_stepsFrom 116 = .ok (.iload 6, 2) := dk_21 6 (dk_at dksX1_stepsFrom_5 0 rfl rfl)
theorem dX1_stepsFrom_118 : decode cX1_stepsFrom 118 = .ok (.iadd, 1) := dk_96 (dk_at dksX1_stepsFrom_5 2 rfl rfl)
theorem dX1_stepsFrom_119 : decode cX1_stepsFrom 119 = .ok (.iaload, 1) := dk_46 (dk_at dksX1_stepsFrom_5 3 rfl rfl)
theorem dX1_stepsFrom_120 : decode cX1_stepsFrom 120 = .ok (.iconst (-1), 1) := dk_2 (dk_at dksX1_stepsFrom_5 4 rfl rfl)
theorem dX1_stepsFrom_121 : decode cX1_stepsFrom 121 = .ok (.if_icmp .ne 34, 3) := dk_160 0 34 (dk_at dksX1_stepsFrom_5 5 rfl rfl)
theorem dX1_stepsFrom_124 : decode cX1_stepsFrom 124 = .ok (.aload_n 2, 1) := dk_44 (dk_at dksX1_stepsFrom_5 8 rfl rfl)
theorem dX1_stepsFrom_125 : decode cX1_stepsFrom 125 = .ok (.bipush 24, 2) := dk_16 24 (dk_at dksX1_stepsFrom_5 9 rfl rfl)
theorem dX1_stepsFrom_127 : decode cX1_stepsFrom 127 = .ok (.iload 7, 2) := dk_21 7 (dk_at dksX1_stepsFrom_5 11 rfl rfl)
theorem dX1_stepsFrom_129 : decode cX1_stepsFrom 129 = .ok (.imul, 1) := dk_104 (dk_at dksX1_stepsFrom_5 13 rfl rfl)
theorem dX1_stepsFrom_130 : decode cX1_stepsFrom 130 = .ok (.iload 6, 2) := dk_21 6 (dk_at dksX1_stepsFrom_5 14 rfl rfl)
theorem dX1_stepsFrom_132 : decode cX1_stepsFrom 132 = .ok (.iadd, 1) := dk_96 (dk_at dksX1_stepsFrom_5 16 rfl rfl)
theorem dX1_stepsFrom_133 : decode cX1_stepsFrom 133 = .ok (.aload_n 2, 1) := dk_44 (dk_at dksX1_stepsFrom_5 17 rfl rfl)
theorem dX1_stepsFrom_134 : decode cX1_stepsFrom 134 = .ok (.iload 4, 2) := dk_21 4 (dk_at dksX1_stepsFrom_5 18 rfl rfl)
theorem dX1_stepsFrom_136 : decode cX1_stepsFrom 136 = .ok (.iaload, 1) := dk_46 (dk_at dksX1_stepsFrom_5 20 rfl rfl)
theorem dX1_stepsFrom_137 : decode cX1_stepsFrom 137 = .ok (.iconst 1, 1) := dk_4 (dk_at dksX1_stepsFrom_5 21 rfl rfl)
theorem dX1_stepsFrom_138 : decode cX1_stepsFrom 138 = .ok (.iadd, 1) := dk_96 (dk_at dksX1_stepsFrom_5 22 rfl rfl)
theorem dX1_stepsFrom_139 : decode cX1_stepsFrom 139 = .ok (.iastore, 1) := dk_79 (dk_at dksX1_stepsFrom_5 23 rfl rfl)
theorem dX1_stepsFrom_140 : decode cX1_stepsFrom 140 = .ok (.aload_n 3, 1) := dk_45 (dk_at dksX1_stepsFrom_6 0 rfl rfl)
theorem dX1_stepsFrom_141 : decode cX1_stepsFrom 141 = .ok (.bipush 24, 2) := dk_16 24 (dk_at dksX1_stepsFrom_6 1 rfl rfl)
theorem dX1_stepsFrom_143 : decode cX1_stepsFrom 143 = .ok (.iload 7, 2) := dk_21 7 (dk_at dksX1_stepsFrom_6 3 rfl rfl)
theorem dX1_stepsFrom_145 : decode cX1_stepsFrom 145 = .ok (.imul, 1) := dk_104 (dk_at dksX1_stepsFrom_6 5 rfl rfl)
theorem dX1_stepsFrom_146 : decode cX1_stepsFrom 146 = .ok (.iload 6, 2) := dk_21 6 (dk_at dksX1_stepsFrom_6 6 rfl rfl)
theorem dX1_stepsFrom_148 : decode cX1_stepsFrom 148 = .ok (.iadd, 1) := dk_96 (dk_at dksX1_stepsFrom_6 8 rfl rfl)
theorem dX1_stepsFrom_149 : decode cX1_stepsFrom 149 = .ok (.invokestatic 291, 3) := dk_184 1 35 (dk_at dksX1_stepsFrom_6 9 rfl rfl)
theorem dX1_stepsFrom_152 : decode cX1_stepsFrom 152 = .ok (.invokevirtual 297, 3) := dk_182 1 41 (dk_at dksX1_stepsFrom_6 12 rfl rfl)
theorem dX1_stepsFrom_155 : decode cX1_stepsFrom 155 = .ok (.iinc 5 1, 3) := dk_132 5 1 (dk_at dksX1_stepsFrom_6 15 rfl rfl)
theorem dX1_stepsFrom_158 : decode cX1_stepsFrom 158 = .ok (.goto (-91), 3) := dk_167 255 165 (dk_at dksX1_stepsFrom_6 18 rfl rfl)
theorem dX1_stepsFrom_161 : decode cX1_stepsFrom 161 = .ok (.goto (-116), 3) := dk_167 255 140 (dk_at dksX1_stepsFrom_6 21 rfl rfl)
theorem dX1_stepsFrom_164 : decode cX1_stepsFrom 164 = .ok (.aload_n 2, 1) := dk_44 (dk_at dksX1_stepsFrom_7 0 rfl rfl)
theorem dX1_stepsFrom_165 : decode cX1_stepsFrom 165 = .ok (.areturn, 1) := dk_176 (dk_at dksX1_stepsFrom_7 1 rfl rfl)
abbrev cX1_found : ByteArray := prog_1_method_54_code
def yX1_found : MethodName := ⟨RX1, "found", "(I)I"⟩
def dkwX1_found_0 : List UInt8 := [26, 2, 159, 0, 7, 4, 167, 0, 4, 3, 184, 0, 54, 26, 172]
abbrev dktX1_found_0 : List UInt8 := dkwX1_found_0 ++ []
theorem dksX1_found_0 : cX1_found.data.toList.drop 0 = dktX1_found_0 := by decide +kernel
theorem dX1_found_0 : decode cX1_found 0 = .ok (.iload_n 0, 1) := dk_26 (dk_at dksX1_found_0 0 rfl rfl)
theorem dX1_found_1 : decode cX1_found 1 = .ok (.iconst (-1), 1) := dk_2 (dk_at dksX1_found_0 1 rfl rfl)
theorem dX1_found_2 : decode cX1_found 2 = .ok (.if_icmp .eq 7, 3) := dk_159 0 7 (dk_at dksX1_found_0 2 rfl rfl)
theorem dX1_found_5 : decode cX1_found 5 = .ok (.iconst 1, 1) := dk_4 (dk_at dksX1_found_0 5 rfl rfl)
theorem dX1_found_6 : decode cX1_found 6 = .ok (.goto 4, 3) := dk_167 0 4 (dk_at dksX1_found_0 6 rfl rfl)
theorem dX1_found_9 : decode cX1_found 9 = .ok (.iconst 0, 1) := dk_3 (dk_at dksX1_found_0 9 rfl rfl)
theorem dX1_found_10 : decode cX1_found 10 = .ok (.invokestatic 54, 3) := dk_184 0 54 (dk_at dksX1_found_0 10 rfl rfl)
theorem dX1_found_13 : decode cX1_found 13 = .ok (.iload_n 0, 1) := dk_26 (dk_at dksX1_found_0 13 rfl rfl)
theorem dX1_found_14 : decode cX1_found 14 = .ok (.ireturn, 1) := dk_172 (dk_at dksX1_found_0 14 rfl rfl)
abbrev cX1_stepsByRows : ByteArray := prog_1_method_57_code
def yX1_stepsByRows : MethodName := ⟨RX1, "stepsByRows", "(IIIII)I"⟩
def dkwX1_stepsByRows_3 : List UInt8 := [21, 8, 167, 0, 4, 2, 184, 1, 68, 172]
abbrev dktX1_stepsByRows_3 : List UInt8 := dkwX1_stepsByRows_3 ++ []
def dkwX1_stepsByRows_2 : List UInt8 := [182, 1, 75, 54, 9, 132, 8, 1, 167, 255, 226, 25, 7, 21, 4, 21, 5, 182, 1, 59, 153, 0, 8]
abbrev dktX1_stepsByRows_2 : List UInt8 := dkwX1_stepsByRows_2 ++ dktX1_stepsByRows_3
def dkwX1_stepsByRows_1 : List UInt8 := [54, 9, 21, 9, 153, 0, 31, 25, 7, 21, 4, 21, 5, 182, 1, 59, 154, 0, 19, 25, 7, 25, 6, 3]
abbrev dktX1_stepsByRows_1 : List UInt8 := dkwX1_stepsByRows_1 ++ dktX1_stepsByRows_2
def dkwX1_stepsByRows_0 : List UInt8 := [42, 27, 28, 29, 21, 4, 21, 5, 182, 1, 60, 58, 6, 28, 29, 184, 1, 71, 58, 7, 3, 54, 8, 4]
abbrev dktX1_stepsByRows_0 : List UInt8 := dkwX1_stepsByRows_0 ++ dktX1_stepsByRows_1
theorem dksX1_stepsByRows_0 : cX1_stepsByRows.data.toList.drop 0 = dktX1_stepsByRows_0 := by decide +kernel
theorem dksX1_stepsByRows_1 : cX1_stepsByRows.data.toList.drop 24 = dktX1_stepsByRows_1 := dk_seg dksX1_stepsByRows_0 24 rfl rfl
theorem dksX1_stepsByRows_2 : cX1_stepsByRows.data.toList.drop 48 = dktX1_stepsByRows_2 := dk_seg dksX1_stepsByRows_1 24 rfl rfl
theorem dksX1_stepsByRows_3 : cX1_stepsByRows.data.toList.drop 71 = dktX1_stepsByRows_3 := dk_seg dksX1_stepsByRows_2 23 rfl rfl
theorem dX1_stepsByRows_0 : decode cX1_stepsByRows 0 = .ok (.aload_n 0, 1) := dk_42 (dk_at dksX1_stepsByRows_0 0 rfl rfl)
theorem dX1_stepsByRows_1 : decode cX1_stepsByRows 1 = .ok (.iload_n 1, 1) := dk_27 (dk_at dksX1_stepsByRows_0 1 rfl rfl)
theorem dX1_stepsByRows_2 : decode cX1_stepsByRows 2 = .ok (.iload_n 2, 1) := dk_28 (dk_at dksX1_stepsByRows_0 2 rfl rfl)
theorem dX1_stepsByRows_3 : decode cX1_stepsByRows 3 = .ok (.iload_n 3, 1) := dk_29 (dk_at dksX1_stepsByRows_0 3 rfl rfl)
theorem dX1_stepsByRows_4 : decode cX1_stepsByRows 4 = .ok (.iload 4, 2) := dk_21 4 (dk_at dksX1_stepsByRows_0 4 rfl rfl)
theorem dX1_stepsByRows_6 : decode cX1_stepsByRows 6 = .ok (.iload 5, 2) := dk_21 5 (dk_at dksX1_stepsByRows_0 6 rfl rfl)
theorem dX1_stepsByRows_8 : decode cX1_stepsByRows 8 = .ok (.invokevirtual 316, 3) := dk_182 1 60 (dk_at dksX1_stepsByRows_0 8 rfl rfl)
theorem dX1_stepsByRows_11 : decode cX1_stepsByRows 11 = .ok (.astore 6, 2) := dk_58 6 (dk_at dksX1_stepsByRows_0 11 rfl rfl)
theorem dX1_stepsByRows_13 : decode cX1_stepsByRows 13 = .ok (.iload_n 2, 1) := dk_28 (dk_at dksX1_stepsByRows_0 13 rfl rfl)
theorem dX1_stepsByRows_14 : decode cX1_stepsByRows 14 = .ok (.iload_n 3, 1) := dk_29 (dk_at dksX1_stepsByRows_0 14 rfl rfl)
theorem dX1_stepsByRows_15 : decode cX1_stepsByRows 15 = .ok (.invokestatic 327, 3) := dk_184 1 71 (dk_at dksX1_stepsByRows_0 15 rfl rfl)
theorem dX1_stepsByRows_18 : decode cX1_stepsByRows 18 = .ok (.astore 7, 2) := dk_58 7 (dk_at dksX1_stepsByRows_0 18 rfl rfl)
theorem dX1_stepsByRows_20 : decode cX1_stepsByRows 20 = .ok (.iconst 0, 1) := dk_3 (dk_at dksX1_stepsByRows_0 20 rfl rfl)
theorem dX1_stepsByRows_21 : decode cX1_stepsByRows 21 = .ok (.istore 8, 2) := dk_54 8 (dk_at dksX1_stepsByRows_0 21 rfl rfl)
theorem dX1_stepsByRows_23 : decode cX1_stepsByRows 23 = .ok (.iconst 1, 1) := dk_4 (dk_at dksX1_stepsByRows_0 23 rfl rfl)
theorem dX1_stepsByRows_24 : decode cX1_stepsByRows 24 = .ok (.istore 9, 2) := dk_54 9 (dk_at dksX1_stepsByRows_1 0 rfl rfl)
theorem dX1_stepsByRows_26 : decode cX1_stepsByRows 26 = .ok (.iload 9, 2) := dk_21 9 (dk_at dksX1_stepsByRows_1 2 rfl rfl)
theorem dX1_stepsByRows_28 : decode cX1_stepsByRows 28 = .ok (.ifCond .eq 31, 3) := dk_153 0 31 (dk_at dksX1_stepsByRows_1 4 rfl rfl)
theorem dX1_stepsByRows_31 : decode cX1_stepsByRows 31 = .ok (.aload 7, 2) := dk_25 7 (dk_at dksX1_stepsByRows_1 7 rfl rfl)
theorem dX1_stepsByRows_33 : decode cX1_stepsByRows 33 = .ok (.iload 4, 2) := dk_21 4 (dk_at dksX1_stepsByRows_1 9 rfl rfl)
theorem dX1_stepsByRows_35 : decode cX1_stepsByRows 35 = .ok (.iload 5, 2) := dk_21 5 (dk_at dksX1_stepsByRows_1 11 rfl rfl)
theorem dX1_stepsByRows_37 : decode cX1_stepsByRows 37 = .ok (.invokevirtual 315, 3) := dk_182 1 59 (dk_at dksX1_stepsByRows_1 13 rfl rfl)
theorem dX1_stepsByRows_40 : decode cX1_stepsByRows 40 = .ok (.ifCond .ne 19, 3) := dk_154 0 19 (dk_at dksX1_stepsByRows_1 16 rfl rfl)
theorem dX1_stepsByRows_43 : decode cX1_stepsByRows 43 = .ok (.aload 7, 2) := dk_25 7 (dk_at dksX1_stepsByRows_1 19 rfl rfl)
theorem dX1_stepsByRows_45 : decode cX1_stepsByRows 45 = .ok (.aload 6, 2) := dk_25 6 (dk_at dksX1_stepsByRows_1 21 rfl rfl)
theorem dX1_stepsByRows_47 : decode cX1_stepsByRows 47 = .ok (.iconst 0, 1) := dk_3 (dk_at dksX1_stepsByRows_1 23 rfl rfl)
theorem dX1_stepsByRows_48 : decode cX1_stepsByRows 48 = .ok (.invokevirtual 331, 3) := dk_182 1 75 (dk_at dksX1_stepsByRows_2 0 rfl rfl)
theorem dX1_stepsByRows_51 : decode cX1_stepsByRows 51 = .ok (.istore 9, 2) := dk_54 9 (dk_at dksX1_stepsByRows_2 3 rfl rfl)
theorem dX1_stepsByRows_53 : decode cX1_stepsByRows 53 = .ok (.iinc 8 1, 3) := dk_132 8 1 (dk_at dksX1_stepsByRows_2 5 rfl rfl)
theorem dX1_stepsByRows_56 : decode cX1_stepsByRows 56 = .ok (.goto (-30), 3) := dk_167 255 226 (dk_at dksX1_stepsByRows_2 8 rfl rfl)
theorem dX1_stepsByRows_59 : decode cX1_stepsByRows 59 = .ok (.aload 7, 2) := dk_25 7 (dk_at dksX1_stepsByRows_2 11 rfl rfl)
theorem dX1_stepsByRows_61 : decode cX1_stepsByRows 61 = .ok (.iload 4, 2) := dk_21 4 (dk_at dksX1_stepsByRows_2 13 rfl rfl)
theorem dX1_stepsByRows_63 : decode cX1_stepsByRows 63 = .ok (.iload 5, 2) := dk_21 5 (dk_at dksX1_stepsByRows_2 15 rfl rfl)
theorem dX1_stepsByRows_65 : decode cX1_stepsByRows 65 = .ok (.invokevirtual 315, 3) := dk_182 1 59 (dk_at dksX1_stepsByRows_2 17 rfl rfl)
theorem dX1_stepsByRows_68 : decode cX1_stepsByRows 68 = .ok (.ifCond .eq 8, 3) := dk_153 0 8 (dk_at dksX1_stepsByRows_2 20 rfl rfl)
theorem dX1_stepsByRows_71 : decode cX1_stepsByRows 71 = .ok (.iload 8, 2) := dk_21 8 (dk_at dksX1_stepsByRows_3 0 rfl rfl)
theorem dX1_stepsByRows_73 : decode cX1_stepsByRows 73 = .ok (.goto 4, 3) := dk_167 0 4 (dk_at dksX1_stepsByRows_3 2 rfl rfl)
theorem dX1_stepsByRows_76 : decode cX1_stepsByRows 76 = .ok (.iconst (-1), 1) := dk_2 (dk_at dksX1_stepsByRows_3 5 rfl rfl)
theorem dX1_stepsByRows_77 : decode cX1_stepsByRows 77 = .ok (.invokestatic 324, 3) := dk_184 1 68 (dk_at dksX1_stepsByRows_3 6 rfl rfl)
theorem dX1_stepsByRows_80 : decode cX1_stepsByRows 80 = .ok (.ireturn, 1) := dk_172 (dk_at dksX1_stepsByRows_3 9 rfl rfl)
abbrev cX1_outlineCount : ByteArray := prog_1_method_60_code
def yX1_outlineCount : MethodName := ⟨RX1, "outlineCount", "(I)I"⟩
def dkwX1_outlineCount_0 : List UInt8 := [187, 0, 231, 89, 42, 27, 182, 0, 46, 183, 0, 233, 180, 0, 235, 185, 0, 212, 1, 0, 172]
abbrev dktX1_outlineCount_0 : List UInt8 := dkwX1_outlineCount_0 ++ []
theorem dksX1_outlineCount_0 : cX1_outlineCount.data.toList.drop 0 = dktX1_outlineCount_0 := by decide +kernel
theorem dX1_outlineCount_0 : decode cX1_outlineCount 0 = .ok (.new 231, 3) := dk_187 0 231 (dk_at dksX1_outlineCount_0 0 rfl rfl)
theorem dX1_outlineCount_3 : decode cX1_outlineCount 3 = .ok (.dup, 1) := dk_89 (dk_at dksX1_outlineCount_0 3 rfl rfl)
theorem dX1_outlineCount_4 : decode cX1_outlineCount 4 = .ok (.aload_n 0, 1) := dk_42 (dk_at dksX1_outlineCount_0 4 rfl rfl)
theorem dX1_outlineCount_5 : decode cX1_outlineCount 5 = .ok (.iload_n 1, 1) := dk_27 (dk_at dksX1_outlineCount_0 5 rfl rfl)
theorem dX1_outlineCount_6 : decode cX1_outlineCount 6 = .ok (.invokevirtual 46, 3) := dk_182 0 46 (dk_at dksX1_outlineCount_0 6 rfl rfl)
theorem dX1_outlineCount_9 : decode cX1_outlineCount 9 = .ok (.invokespecial 233, 3) := dk_183 0 233 (dk_at dksX1_outlineCount_0 9 rfl rfl)
theorem dX1_outlineCount_12 : decode cX1_outlineCount 12 = .ok (.getfield 235, 3) := dk_180 0 235 (dk_at dksX1_outlineCount_0 12 rfl rfl)
theorem dX1_outlineCount_15 : decode cX1_outlineCount 15 = .ok (.invokeinterface 212 1, 5) := by decide +kernel
theorem dX1_outlineCount_20 : decode cX1_outlineCount 20 = .ok (.ireturn, 1) := dk_172 (dk_at dksX1_outlineCount_0 20 rfl rfl)
abbrev cX1_cornerCount : ByteArray := prog_1_method_61_code
def yX1_cornerCount : MethodName := ⟨RX1, "cornerCount", "(II)I"⟩
def dkwX1_cornerCount_0 : List UInt8 := [42, 27, 28, 182, 1, 79, 180, 1, 83, 185, 0, 212, 1, 0, 172]
abbrev dktX1_cornerCount_0 : List UInt8 := dkwX1_cornerCount_0 ++ []
theorem dksX1_cornerCount_0 : cX1_cornerCount.data.toList.drop 0 = dktX1_cornerCount_0 := by decide +kernel
theorem dX1_cornerCount_0 : decode cX1_cornerCount 0 = .ok (.aload_n 0, 1) := dk_42 (dk_at dksX1_cornerCount_0 0 rfl rfl)
theorem dX1_cornerCount_1 : decode cX1_cornerCount 1 = .ok (.iload_n 1, 1) := dk_27 (dk_at dksX1_cornerCount_0 1 rfl rfl)
theorem dX1_cornerCount_2 : decode cX1_cornerCount 2 = .ok (.iload_n 2, 1) := dk_28 (dk_at dksX1_cornerCount_0 2 rfl rfl)
theorem dX1_cornerCount_3 : decode cX1_cornerCount 3 = .ok (.invokevirtual 335, 3) := dk_182 1 79 (dk_at dksX1_cornerCount_0 3 rfl rfl)
theorem dX1_cornerCount_6 : decode cX1_cornerCount 6 = .ok (.getfield 339, 3) := dk_180 1 83 (dk_at dksX1_cornerCount_0 6 rfl rfl)
theorem dX1_cornerCount_9 : decode cX1_cornerCount 9 = .ok (.invokeinterface 212 1, 5) := by decide +kernel
theorem dX1_cornerCount_14 : decode cX1_cornerCount 14 = .ok (.ireturn, 1) := dk_172 (dk_at dksX1_cornerCount_0 14 rfl rfl)
abbrev cX1_outline : ByteArray := prog_1_method_58_code
def yX1_outline : MethodName := ⟨RX1, "outline", "(II)LPolygonBoard$Outline;"⟩
def dkwX1_outline_1 : List UInt8 := [4, 100, 184, 0, 31, 184, 0, 54, 45, 28, 185, 0, 42, 2, 0, 192, 0, 251, 176]
abbrev dktX1_outline_1 : List UInt8 := dkwX1_outline_1 ++ []
def dkwX1_outline_0 : List UInt8 := [187, 0, 231, 89, 42, 27, 182, 0, 46, 183, 0, 233, 180, 0, 235, 78, 28, 3, 45, 185, 0, 212, 1, 0]
abbrev dktX1_outline_0 : List UInt8 := dkwX1_outline_0 ++ dktX1_outline_1
theorem dksX1_outline_0 : cX1_outline.data.toList.drop 0 = dktX1_outline_0 := by decide +kernel
theorem dksX1_outline_1 : cX1_outline.data.toList.drop 24 = dktX1_outline_1 := dk_seg dksX1_outline_0 24 rfl rfl
theorem dX1_outline_0 : decode cX1_outline 0 = .ok (.new 231, 3) := dk_187 0 231 (dk_at dksX1_outline_0 0 rfl rfl)
theorem dX1_outline_3 : decode cX1_outline 3 = .ok (.dup, 1) := dk_89 (dk_at dksX1_outline_0 3 rfl rfl)
theorem dX1_outline_4 : decode cX1_outline 4 = .ok (.aload_n 0, 1) := dk_42 (dk_at dksX1_outline_0 4 rfl rfl)
theorem dX1_outline_5 : decode cX1_outline 5 = .ok (.iload_n 1, 1) := dk_27 (dk_at dksX1_outline_0 5 rfl rfl)
theorem dX1_outline_6 : decode cX1_outline 6 = .ok (.invokevirtual 46, 3) := dk_182 0 46 (dk_at dksX1_outline_0 6 rfl rfl)
theorem dX1_outline_9 : decode cX1_outline 9 = .ok (.invokespecial 233, 3) := dk_183 0 233 (dk_at dksX1_outline_0 9 rfl rfl)
theorem dX1_outline_12 : decode cX1_outline 12 = .ok (.getfield 235, 3) := dk_180 0 235 (dk_at dksX1_outline_0 12 rfl rfl)
theorem dX1_outline_15 : decode cX1_outline 15 = .ok (.astore_n 3, 1) := dk_78 (dk_at dksX1_outline_0 15 rfl rfl)
theorem dX1_outline_16 : decode cX1_outline 16 = .ok (.iload_n 2, 1) := dk_28 (dk_at dksX1_outline_0 16 rfl rfl)
theorem dX1_outline_17 : decode cX1_outline 17 = .ok (.iconst 0, 1) := dk_3 (dk_at dksX1_outline_0 17 rfl rfl)
theorem dX1_outline_18 : decode cX1_outline 18 = .ok (.aload_n 3, 1) := dk_45 (dk_at dksX1_outline_0 18 rfl rfl)
theorem dX1_outline_19 : decode cX1_outline 19 = .ok (.invokeinterface 212 1, 5) := by decide +kernel
theorem dX1_outline_24 : decode cX1_outline 24 = .ok (.iconst 1, 1) := dk_4 (dk_at dksX1_outline_1 0 rfl rfl)
theorem dX1_outline_25 : decode cX1_outline 25 = .ok (.isub, 1) := dk_100 (dk_at dksX1_outline_1 1 rfl rfl)
theorem dX1_outline_26 : decode cX1_outline 26 = .ok (.invokestatic 31, 3) := dk_184 0 31 (dk_at dksX1_outline_1 2 rfl rfl)
theorem dX1_outline_29 : decode cX1_outline 29 = .ok (.invokestatic 54, 3) := dk_184 0 54 (dk_at dksX1_outline_1 5 rfl rfl)
theorem dX1_outline_32 : decode cX1_outline 32 = .ok (.aload_n 3, 1) := dk_45 (dk_at dksX1_outline_1 8 rfl rfl)
theorem dX1_outline_33 : decode cX1_outline 33 = .ok (.iload_n 2, 1) := dk_28 (dk_at dksX1_outline_1 9 rfl rfl)
theorem dX1_outline_34 : decode cX1_outline 34 = .ok (.invokeinterface 42 2, 5) := by decide +kernel
theorem dX1_outline_39 : decode cX1_outline 39 = .ok (.checkcast 251, 3) := dk_192 0 251 (dk_at dksX1_outline_1 15 rfl rfl)
theorem dX1_outline_42 : decode cX1_outline 42 = .ok (.areturn, 1) := dk_176 (dk_at dksX1_outline_1 18 rfl rfl)
abbrev cX1_cornerX : ByteArray := prog_1_method_62_code
def yX1_cornerX : MethodName := ⟨RX1, "cornerX", "(III)I"⟩
def dkwX1_cornerX_0 : List UInt8 := [42, 27, 28, 29, 182, 1, 86, 180, 1, 83, 29, 185, 0, 42, 2, 0, 192, 1, 36, 182, 1, 49, 172]
abbrev dktX1_cornerX_0 : List UInt8 := dkwX1_cornerX_0 ++ []
theorem dksX1_cornerX_0 : cX1_cornerX.data.toList.drop 0 = dktX1_cornerX_0 := by decide +kernel
theorem dX1_cornerX_0 : decode cX1_cornerX 0 = .ok (.aload_n 0, 1) := dk_42 (dk_at dksX1_cornerX_0 0 rfl rfl)
theorem dX1_cornerX_1 : decode cX1_cornerX 1 = .ok (.iload_n 1, 1) := dk_27 (dk_at dksX1_cornerX_0 1 rfl rfl)
theorem dX1_cornerX_2 : decode cX1_cornerX 2 = .ok (.iload_n 2, 1) := dk_28 (dk_at dksX1_cornerX_0 2 rfl rfl)
theorem dX1_cornerX_3 : decode cX1_cornerX 3 = .ok (.iload_n 3, 1) := dk_29 (dk_at dksX1_cornerX_0 3 rfl rfl)
theorem dX1_cornerX_4 : decode cX1_cornerX 4 = .ok (.invokevirtual 342, 3) := dk_182 1 86 (dk_at dksX1_cornerX_0 4 rfl rfl)
theorem dX1_cornerX_7 : decode cX1_cornerX 7 = .ok (.getfield 339, 3) := dk_180 1 83 (dk_at dksX1_cornerX_0 7 rfl rfl)
theorem dX1_cornerX_10 : decode cX1_cornerX 10 = .ok (.iload_n 3, 1) := dk_29 (dk_at dksX1_cornerX_0 10 rfl rfl)
theorem dX1_cornerX_11 : decode cX1_cornerX 11 = .ok (.invokeinterface 42 2, 5) := by decide +kernel
theorem dX1_cornerX_16 : decode cX1_cornerX 16 = .ok (.checkcast 292, 3) := dk_192 1 36 (dk_at dksX1_cornerX_0 16 rfl rfl)
theorem dX1_cornerX_19 : decode cX1_cornerX 19 = .ok (.invokevirtual 305, 3) := dk_182 1 49 (dk_at dksX1_cornerX_0 19 rfl rfl)
theorem dX1_cornerX_22 : decode cX1_cornerX 22 = .ok (.ireturn, 1) := dk_172 (dk_at dksX1_cornerX_0 22 rfl rfl)
abbrev cX1_outlineWith : ByteArray := prog_1_method_59_code
def yX1_outlineWith : MethodName := ⟨RX1, "outlineWith", "(III)LPolygonBoard$Outline;"⟩
def dkwX1_outlineWith_1 : List UInt8 := [184, 0, 31, 184, 0, 54, 25, 4, 176]
abbrev dktX1_outlineWith_1 : List UInt8 := dkwX1_outlineWith_1 ++ []
def dkwX1_outlineWith_0 : List UInt8 := [42, 27, 28, 182, 1, 79, 58, 4, 29, 3, 25, 4, 180, 1, 83, 185, 0, 212, 1, 0, 4, 100]
abbrev dktX1_outlineWith_0 : List UInt8 := dkwX1_outlineWith_0 ++ dktX1_outlineWith_1
theorem dksX1_outlineWith_0 : cX1_outlineWith.data.toList.drop 0 = dktX1_outlineWith_0 := by decide +kernel
theorem dksX1_outlineWith_1 : cX1_outlineWith.data.toList.drop 22 = dktX1_outlineWith_1 := dk_seg dksX1_outlineWith_0 22 rfl rfl
theorem dX1_outlineWith_0 : decode cX1_outlineWith 0 = .ok (.aload_n 0, 1) := dk_42 (dk_at dksX1_outlineWith_0 0 rfl rfl)
theorem dX1_outlineWith_1 : decode cX1_outlineWith 1 = .ok (.iload_n 1, 1) := dk_27 (dk_at dksX1_outlineWith_0 1 rfl rfl)
theorem dX1_outlineWith_2 : decode cX1_outlineWith 2 = .ok (.iload_n 2, 1) := dk_28 (dk_at dksX1_outlineWith_0 2 rfl rfl)
theorem dX1_outlineWith_3 : decode cX1_outlineWith 3 = .ok (.invokevirtual 335, 3) := dk_182 1 79 (dk_at dksX1_outlineWith_0 3 rfl rfl)
theorem dX1_outlineWith_6 : decode cX1_outlineWith 6 = .ok (.astore 4, 2) := dk_58 4 (dk_at dksX1_outlineWith_0 6 rfl rfl)
theorem dX1_outlineWith_8 : decode cX1_outlineWith 8 = .ok (.iload_n 3, 1) := dk_29 (dk_at dksX1_outlineWith_0 8 rfl rfl)
theorem dX1_outlineWith_9 : decode cX1_outlineWith 9 = .ok (.iconst 0, 1) := dk_3 (dk_at dksX1_outlineWith_0 9 rfl rfl)
theorem dX1_outlineWith_10 : decode cX1_outlineWith 10 = .ok (.aload 4, 2) := dk_25 4 (dk_at dksX1_outlineWith_0 10 rfl rfl)
theorem dX1_outlineWith_12 : decode cX1_outlineWith 12 = .ok (.getfield 339, 3) := dk_180 1 83 (dk_at dksX1_outlineWith_0 12 rfl rfl)
theorem dX1_outlineWith_15 : decode cX1_outlineWith 15 = .ok (.invokeinterface 212 1, 5) := by decide +kernel
theorem dX1_outlineWith_20 : decode cX1_outlineWith 20 = .ok (.iconst 1, 1) := dk_4 (dk_at dksX1_outlineWith_0 20 rfl rfl)
theorem dX1_outlineWith_21 : decode cX1_outlineWith 21 = .ok (.isub, 1) := dk_100 (dk_at dksX1_outlineWith_0 21 rfl rfl)
theorem dX1_outlineWith_22 : decode cX1_outlineWith 22 = .ok (.invokestatic 31, 3) := dk_184 0 31 (dk_at dksX1_outlineWith_1 0 rfl rfl)
theorem dX1_outlineWith_25 : decode cX1_outlineWith 25 = .ok (.invokestatic 54, 3) := dk_184 0 54 (dk_at dksX1_outlineWith_1 3 rfl rfl)
theorem dX1_outlineWith_28 : decode cX1_outlineWith 28 = .ok (.aload 4, 2) := dk_25 4 (dk_at dksX1_outlineWith_1 6 rfl rfl)
theorem dX1_outlineWith_30 : decode cX1_outlineWith 30 = .ok (.areturn, 1) := dk_176 (dk_at dksX1_outlineWith_1 8 rfl rfl)
abbrev cX1_cornerY : ByteArray := prog_1_method_63_code
def yX1_cornerY : MethodName := ⟨RX1, "cornerY", "(III)I"⟩
def dkwX1_cornerY_0 : List UInt8 := [42, 27, 28, 29, 182, 1, 86, 180, 1, 90, 29, 185, 0, 42, 2, 0, 192, 1, 36, 182, 1, 49, 172]
abbrev dktX1_cornerY_0 : List UInt8 := dkwX1_cornerY_0 ++ []
theorem dksX1_cornerY_0 : cX1_cornerY.data.toList.drop 0 = dktX1_cornerY_0 := by decide +kernel
theorem dX1_cornerY_0 : decode cX1_cornerY 0 = .ok (.aload_n 0, 1) := dk_42 (dk_at dksX1_cornerY_0 0 rfl rfl)
theorem dX1_cornerY_1 : decode cX1_cornerY 1 = .ok (.iload_n 1, 1) := dk_27 (dk_at dksX1_cornerY_0 1 rfl rfl)
theorem dX1_cornerY_2 : decode cX1_cornerY 2 = .ok (.iload_n 2, 1) := dk_28 (dk_at dksX1_cornerY_0 2 rfl rfl)
theorem dX1_cornerY_3 : decode cX1_cornerY 3 = .ok (.iload_n 3, 1) := dk_29 (dk_at dksX1_cornerY_0 3 rfl rfl)
theorem dX1_cornerY_4 : decode cX1_cornerY 4 = .ok (.invokevirtual 342, 3) := dk_182 1 86 (dk_at dksX1_cornerY_0 4 rfl rfl)
theorem dX1_cornerY_7 : decode cX1_cornerY 7 = .ok (.getfield 346, 3) := dk_180 1 90 (dk_at dksX1_cornerY_0 7 rfl rfl)
theorem dX1_cornerY_10 : decode cX1_cornerY 10 = .ok (.iload_n 3, 1) := dk_29 (dk_at dksX1_cornerY_0 10 rfl rfl)
theorem dX1_cornerY_11 : decode cX1_cornerY 11 = .ok (.invokeinterface 42 2, 5) := by decide +kernel
theorem dX1_cornerY_16 : decode cX1_cornerY 16 = .ok (.checkcast 292, 3) := dk_192 1 36 (dk_at dksX1_cornerY_0 16 rfl rfl)
theorem dX1_cornerY_19 : decode cX1_cornerY 19 = .ok (.invokevirtual 305, 3) := dk_182 1 49 (dk_at dksX1_cornerY_0 19 rfl rfl)
theorem dX1_cornerY_22 : decode cX1_cornerY 22 = .ok (.ireturn, 1) := dk_172 (dk_at dksX1_cornerY_0 22 rfl rfl)
abbrev cX1_signedArea : ByteArray := prog_1_method_64_code
def yX1_signedArea : MethodName := ⟨RX1, "signedArea", "(II)I"⟩
def dkwX1_signedArea_0 : List UInt8 := [42, 27, 28, 182, 1, 79, 180, 0, 253, 172]
abbrev dktX1_signedArea_0 : List UInt8 := dkwX1_signedArea_0 ++ []
theorem dksX1_signedArea_0 : cX1_signedArea.data.toList.drop 0 = dktX1_signedArea_0 := by decide +kernel
theorem dX1_signedArea_0 : decode cX1_signedArea 0 = .ok (.aload_n 0, 1) := dk_42 (dk_at dksX1_signedArea_0 0 rfl rfl)
theorem dX1_signedArea_1 : decode cX1_signedArea 1 = .ok (.iload_n 1, 1) := dk_27 (dk_at dksX1_signedArea_0 1 rfl rfl)
theorem dX1_signedArea_2 : decode cX1_signedArea 2 = .ok (.iload_n 2, 1) := dk_28 (dk_at dksX1_signedArea_0 2 rfl rfl)
theorem dX1_signedArea_3 : decode cX1_signedArea 3 = .ok (.invokevirtual 335, 3) := dk_182 1 79 (dk_at dksX1_signedArea_0 3 rfl rfl)
theorem dX1_signedArea_6 : decode cX1_signedArea 6 = .ok (.getfield 253, 3) := dk_180 0 253 (dk_at dksX1_signedArea_0 6 rfl rfl)
theorem dX1_signedArea_9 : decode cX1_signedArea 9 = .ok (.ireturn, 1) := dk_172 (dk_at dksX1_signedArea_0 9 rfl rfl)
abbrev cX1_moment : ByteArray := prog_1_method_65_code
def yX1_moment : MethodName := ⟨RX1, "moment", "(I)J"⟩
def dkwX1_moment_0 : List UInt8 := [187, 1, 93, 89, 183, 1, 95, 77, 44, 42, 27, 182, 0, 46, 182, 1, 96, 44, 180, 1, 97, 173]
abbrev dktX1_moment_0 : List UInt8 := dkwX1_moment_0 ++ []
theorem dksX1_moment_0 : cX1_moment.data.toList.drop 0 = dktX1_moment_0 := by decide +kernel
theorem dX1_moment_0 : decode cX1_moment 0 = .ok (.new 349, 3) := dk_187 1 93 (dk_at dksX1_moment_0 0 rfl rfl)
theorem dX1_moment_3 : decode cX1_moment 3 = .ok (.dup, 1) := dk_89 (dk_at dksX1_moment_0 3 rfl rfl)
theorem dX1_moment_4 : decode cX1_moment 4 = .ok (.invokespecial 351, 3) := dk_183 1 95 (dk_at dksX1_moment_0 4 rfl rfl)
theorem dX1_moment_7 : decode cX1_moment 7 = .ok (.astore_n 2, 1) := dk_77 (dk_at dksX1_moment_0 7 rfl rfl)
theorem dX1_moment_8 : decode cX1_moment 8 = .ok (.aload_n 2, 1) := dk_44 (dk_at dksX1_moment_0 8 rfl rfl)
theorem dX1_moment_9 : decode cX1_moment 9 = .ok (.aload_n 0, 1) := dk_42 (dk_at dksX1_moment_0 9 rfl rfl)
theorem dX1_moment_10 : decode cX1_moment 10 = .ok (.iload_n 1, 1) := dk_27 (dk_at dksX1_moment_0 10 rfl rfl)
theorem dX1_moment_11 : decode cX1_moment 11 = .ok (.invokevirtual 46, 3) := dk_182 0 46 (dk_at dksX1_moment_0 11 rfl rfl)
theorem dX1_moment_14 : decode cX1_moment 14 = .ok (.invokevirtual 352, 3) := dk_182 1 96 (dk_at dksX1_moment_0 14 rfl rfl)
theorem dX1_moment_17 : decode cX1_moment 17 = .ok (.aload_n 2, 1) := dk_44 (dk_at dksX1_moment_0 17 rfl rfl)
theorem dX1_moment_18 : decode cX1_moment 18 = .ok (.getfield 353, 3) := dk_180 1 97 (dk_at dksX1_moment_0 18 rfl rfl)
theorem dX1_moment_21 : decode cX1_moment 21 = .ok (.lreturn, 1) := dk_173 (dk_at dksX1_moment_0 21 rfl rfl)
abbrev cX1_momentByCells : ByteArray := prog_1_method_66_code
def yX1_momentByCells : MethodName := ⟨RX1, "momentByCells", "(I)J"⟩
def dkwX1_momentByCells_0 : List UInt8 := [42, 27, 182, 0, 46, 184, 0, 164, 182, 1, 101, 173]
abbrev dktX1_momentByCells_0 : List UInt8 := dkwX1_momentByCells_0 ++ []
theorem dksX1_momentByCells_0 : cX1_momentByCells.data.toList.drop 0 = dktX1_momentByCells_0 := by decide +kernel
theorem dX1_momentByCells_0 : decode cX1_momentByCells 0 = .ok (.aload_n 0, 1) := dk_42 (dk_at dksX1_momentByCells_0 0 rfl rfl)
theorem dX1_momentByCells_1 : decode cX1_momentByCells 1 = .ok (.iload_n 1, 1) := dk_27 (dk_at dksX1_momentByCells_0 1 rfl rfl)
theorem dX1_momentByCells_2 : decode cX1_momentByCells 2 = .ok (.invokevirtual 46, 3) := dk_182 0 46 (dk_at dksX1_momentByCells_0 2 rfl rfl)
theorem dX1_momentByCells_5 : decode cX1_momentByCells 5 = .ok (.invokestatic 164, 3) := dk_184 0 164 (dk_at dksX1_momentByCells_0 5 rfl rfl)
theorem dX1_momentByCells_8 : decode cX1_momentByCells 8 = .ok (.invokevirtual 357, 3) := dk_182 1 101 (dk_at dksX1_momentByCells_0 8 rfl rfl)
theorem dX1_momentByCells_11 : decode cX1_momentByCells 11 = .ok (.lreturn, 1) := dk_173 (dk_at dksX1_momentByCells_0 11 rfl rfl)
abbrev cX1_middleX : ByteArray := prog_1_method_68_code
def yX1_middleX : MethodName := ⟨RX1, "middleX", "(I)D"⟩
def dkwX1_middleX_0 : List UInt8 := [42, 27, 182, 1, 112, 77, 44, 44, 180, 1, 116, 182, 1, 119, 175]
abbrev dktX1_middleX_0 : List UInt8 := dkwX1_middleX_0 ++ []
theorem dksX1_middleX_0 : cX1_middleX.data.toList.drop 0 = dktX1_middleX_0 := by decide +kernel
theorem dX1_middleX_0 : decode cX1_middleX 0 = .ok (.aload_n 0, 1) := dk_42 (dk_at dksX1_middleX_0 0 rfl rfl)
theorem dX1_middleX_1 : decode cX1_middleX 1 = .ok (.iload_n 1, 1) := dk_27 (dk_at dksX1_middleX_0 1 rfl rfl)
theorem dX1_middleX_2 : decode cX1_middleX 2 = .ok (.invokevirtual 368, 3) := dk_182 1 112 (dk_at dksX1_middleX_0 2 rfl rfl)
theorem dX1_middleX_5 : decode cX1_middleX 5 = .ok (.astore_n 2, 1) := dk_77 (dk_at dksX1_middleX_0 5 rfl rfl)
theorem dX1_middleX_6 : decode cX1_middleX 6 = .ok (.aload_n 2, 1) := dk_44 (dk_at dksX1_middleX_0 6 rfl rfl)
theorem dX1_middleX_7 : decode cX1_middleX 7 = .ok (.aload_n 2, 1) := dk_44 (dk_at dksX1_middleX_0 7 rfl rfl)
theorem dX1_middleX_8 : decode cX1_middleX 8 = .ok (.getfield 372, 3) := dk_180 1 116 (dk_at dksX1_middleX_0 8 rfl rfl)
theorem dX1_middleX_11 : decode cX1_middleX 11 = .ok (.invokevirtual 375, 3) := dk_182 1 119 (dk_at dksX1_middleX_0 11 rfl rfl)
theorem dX1_middleX_14 : decode cX1_middleX 14 = .ok (.dreturn, 1) := dk_175 (dk_at dksX1_middleX_0 14 rfl rfl)
abbrev cX1_middleOf : ByteArray := prog_1_method_67_code
def yX1_middleOf : MethodName := ⟨RX1, "middleOf", "(I)LPolygonBoard$MiddleScan;"⟩
def dkwX1_middleOf_1 : List UInt8 := [187, 1, 109, 89, 183, 1, 111, 191, 44, 176]
abbrev dktX1_middleOf_1 : List UInt8 := dkwX1_middleOf_1 ++ []
def dkwX1_middleOf_0 : List UInt8 := [187, 1, 104, 89, 183, 1, 106, 77, 44, 42, 27, 182, 0, 46, 182, 1, 107, 44, 180, 1, 108, 154, 0, 11]
abbrev dktX1_middleOf_0 : List UInt8 := dkwX1_middleOf_0 ++ dktX1_middleOf_1
theorem dksX1_middleOf_0 : cX1_middleOf.data.toList.drop 0 = dktX1_middleOf_0 := by decide +kernel
theorem dksX1_middleOf_1 : cX1_middleOf.data.toList.drop 24 = dktX1_middleOf_1 := dk_seg dksX1_middleOf_0 24 rfl rfl
theorem dX1_middleOf_0 : decode cX1_middleOf 0 = .ok (.new 360, 3) := dk_187 1 104 (dk_at dksX1_middleOf_0 0 rfl rfl)
theorem dX1_middleOf_3 : decode cX1_middleOf 3 = .ok (.dup, 1) := dk_89 (dk_at dksX1_middleOf_0 3 rfl rfl)
theorem dX1_middleOf_4 : decode cX1_middleOf 4 = .ok (.invokespecial 362, 3) := dk_183 1 106 (dk_at dksX1_middleOf_0 4 rfl rfl)
theorem dX1_middleOf_7 : decode cX1_middleOf 7 = .ok (.astore_n 2, 1) := dk_77 (dk_at dksX1_middleOf_0 7 rfl rfl)
theorem dX1_middleOf_8 : decode cX1_middleOf 8 = .ok (.aload_n 2, 1) := dk_44 (dk_at dksX1_middleOf_0 8 rfl rfl)
theorem dX1_middleOf_9 : decode cX1_middleOf 9 = .ok (.aload_n 0, 1) := dk_42 (dk_at dksX1_middleOf_0 9 rfl rfl)
theorem dX1_middleOf_10 : decode cX1_middleOf 10 = .ok (.iload_n 1, 1) := dk_27 (dk_at dksX1_middleOf_0 10 rfl rfl)
theorem dX1_middleOf_11 : decode cX1_middleOf 11 = .ok (.invokevirtual 46, 3) := dk_182 0 46 (dk_at dksX1_middleOf_0 11 rfl rfl)
theorem dX1_middleOf_14 : decode cX1_middleOf 14 = .ok (.invokevirtual 363, 3) := dk_182 1 107 (dk_at dksX1_middleOf_0 14 rfl rfl)
theorem dX1_middleOf_17 : decode cX1_middleOf 17 = .ok (.aload_n 2, 1) := dk_44 (dk_at dksX1_middleOf_0 17 rfl rfl)
theorem dX1_middleOf_18 : decode cX1_middleOf 18 = .ok (.getfield 364, 3) := dk_180 1 108 (dk_at dksX1_middleOf_0 18 rfl rfl)
theorem dX1_middleOf_21 : decode cX1_middleOf 21 = .ok (.ifCond .ne 11, 3) := dk_154 0 11 (dk_at dksX1_middleOf_0 21 rfl rfl)
theorem dX1_middleOf_24 : decode cX1_middleOf 24 = .ok (.new 365, 3) := dk_187 1 109 (dk_at dksX1_middleOf_1 0 rfl rfl)
theorem dX1_middleOf_27 : decode cX1_middleOf 27 = .ok (.dup, 1) := dk_89 (dk_at dksX1_middleOf_1 3 rfl rfl)
theorem dX1_middleOf_28 : decode cX1_middleOf 28 = .ok (.invokespecial 367, 3) := dk_183 1 111 (dk_at dksX1_middleOf_1 4 rfl rfl)
theorem dX1_middleOf_31 : decode cX1_middleOf 31 = .ok (.athrow, 1) := dk_191 (dk_at dksX1_middleOf_1 7 rfl rfl)
theorem dX1_middleOf_32 : decode cX1_middleOf 32 = .ok (.aload_n 2, 1) := dk_44 (dk_at dksX1_middleOf_1 8 rfl rfl)
theorem dX1_middleOf_33 : decode cX1_middleOf 33 = .ok (.areturn, 1) := dk_176 (dk_at dksX1_middleOf_1 9 rfl rfl)
abbrev cX1_middleY : ByteArray := prog_1_method_69_code
def yX1_middleY : MethodName := ⟨RX1, "middleY", "(I)D"⟩
def dkwX1_middleY_0 : List UInt8 := [42, 27, 182, 1, 112, 77, 44, 44, 180, 1, 123, 182, 1, 119, 175]
abbrev dktX1_middleY_0 : List UInt8 := dkwX1_middleY_0 ++ []
theorem dksX1_middleY_0 : cX1_middleY.data.toList.drop 0 = dktX1_middleY_0 := by decide +kernel
theorem dX1_middleY_0 : decode cX1_middleY 0 = .ok (.aload_n 0, 1) := dk_42 (dk_at dksX1_middleY_0 0 rfl rfl)
theorem dX1_middleY_1 : decode cX1_middleY 1 = .ok (.iload_n 1, 1) := dk_27 (dk_at dksX1_middleY_0 1 rfl rfl)
theorem dX1_middleY_2 : decode cX1_middleY 2 = .ok (.invokevirtual 368, 3) := dk_182 1 112 (dk_at dksX1_middleY_0 2 rfl rfl)
theorem dX1_middleY_5 : decode cX1_middleY 5 = .ok (.astore_n 2, 1) := dk_77 (dk_at dksX1_middleY_0 5 rfl rfl)
theorem dX1_middleY_6 : decode cX1_middleY 6 = .ok (.aload_n 2, 1) := dk_44 (dk_at dksX1_middleY_0 6 rfl rfl)
theorem dX1_middleY_7 : decode cX1_middleY 7 = .ok (.aload_n 2, 1) := dk_44 (dk_at dksX1_middleY_0 7 rfl rfl)
theorem dX1_middleY_8 : decode cX1_middleY 8 = .ok (.getfield 379, 3) := dk_180 1 123 (dk_at dksX1_middleY_0 8 rfl rfl)
theorem dX1_middleY_11 : decode cX1_middleY 11 = .ok (.invokevirtual 375, 3) := dk_182 1 119 (dk_at dksX1_middleY_0 11 rfl rfl)
theorem dX1_middleY_14 : decode cX1_middleY 14 = .ok (.dreturn, 1) := dk_175 (dk_at dksX1_middleY_0 14 rfl rfl)
abbrev cX1_fullness : ByteArray := prog_1_method_70_code
def yX1_fullness : MethodName := ⟨RX1, "fullness", "(I)F"⟩
def dkwX1_fullness_2 : List UInt8 := [134, 110, 174]
abbrev dktX1_fullness_2 : List UInt8 := dkwX1_fullness_2 ++ []
def dkwX1_fullness_1 : List UInt8 := [182, 1, 8, 45, 182, 1, 5, 100, 45, 182, 1, 14, 45, 182, 1, 11, 100, 104, 54, 4, 28, 134, 21, 4]
abbrev dktX1_fullness_1 : List UInt8 := dkwX1_fullness_1 ++ dktX1_fullness_2
def dkwX1_fullness_0 : List UInt8 := [42, 27, 182, 1, 112, 180, 1, 108, 61, 42, 180, 0, 10, 27, 185, 0, 42, 2, 0, 192, 0, 16, 78, 45]
abbrev dktX1_fullness_0 : List UInt8 := dkwX1_fullness_0 ++ dktX1_fullness_1
theorem dksX1_fullness_0 : cX1_fullness.data.toList.drop 0 = dktX1_fullness_0 := by decide +kernel
theorem dksX1_fullness_1 : cX1_fullness.data.toList.drop 24 = dktX1_fullness_1 := dk_seg dksX1_fullness_0 24 rfl rfl
theorem dksX1_fullness_2 : cX1_fullness.data.toList.drop 48 = dktX1_fullness_2 := dk_seg dksX1_fullness_1 24 rfl rfl
theorem dX1_fullness_0 : decode cX1_fullness 0 = .ok (.aload_n 0, 1) := dk_42 (dk_at dksX1_fullness_0 0 rfl rfl)
theorem dX1_fullness_1 : decode cX1_fullness 1 = .ok (.iload_n 1, 1) := dk_27 (dk_at dksX1_fullness_0 1 rfl rfl)
theorem dX1_fullness_2 : decode cX1_fullness 2 = .ok (.invokevirtual 368, 3) := dk_182 1 112 (dk_at dksX1_fullness_0 2 rfl rfl)
theorem dX1_fullness_5 : decode cX1_fullness 5 = .ok (.getfield 364, 3) := dk_180 1 108 (dk_at dksX1_fullness_0 5 rfl rfl)
theorem dX1_fullness_8 : decode cX1_fullness 8 = .ok (.istore_n 2, 1) := dk_61 (dk_at dksX1_fullness_0 8 rfl rfl)
theorem dX1_fullness_9 : decode cX1_fullness 9 = .ok (.aload_n 0, 1) := dk_42 (dk_at dksX1_fullness_0 9 rfl rfl)
theorem dX1_fullness_10 : decode cX1_fullness 10 = .ok (.getfield 10, 3) := dk_180 0 10 (dk_at dksX1_fullness_0 10 rfl rfl)
theorem dX1_fullness_13 : decode cX1_fullness 13 = .ok (.iload_n 1, 1) := dk_27 (dk_at dksX1_fullness_0 13 rfl rfl)
theorem dX1_fullness_14 : decode cX1_fullness 14 = .ok (.invokeinterface 42 2, 5) := by decide +kernel
theorem dX1_fullness_19 : decode cX1_fullness 19 = .ok (.checkcast 16, 3) := dk_192 0 16 (dk_at dksX1_fullness_0 19 rfl rfl)
theorem dX1_fullness_22 : decode cX1_fullness 22 = .ok (.astore_n 3, 1) := dk_78 (dk_at dksX1_fullness_0 22 rfl rfl)
theorem dX1_fullness_23 : decode cX1_fullness 23 = .ok (.aload_n 3, 1) := dk_45 (dk_at dksX1_fullness_0 23 rfl rfl)
theorem dX1_fullness_24 : decode cX1_fullness 24 = .ok (.invokevirtual 264, 3) := dk_182 1 8 (dk_at dksX1_fullness_1 0 rfl rfl)
theorem dX1_fullness_27 : decode cX1_fullness 27 = .ok (.aload_n 3, 1) := dk_45 (dk_at dksX1_fullness_1 3 rfl rfl)
theorem dX1_fullness_28 : decode cX1_fullness 28 = .ok (.invokevirtual 261, 3) := dk_182 1 5 (dk_at dksX1_fullness_1 4 rfl rfl)
theorem dX1_fullness_31 : decode cX1_fullness 31 = .ok (.isub, 1) := dk_100 (dk_at dksX1_fullness_1 7 rfl rfl)
theorem dX1_fullness_32 : decode cX1_fullness 32 = .ok (.aload_n 3, 1) := dk_45 (dk_at dksX1_fullness_1 8 rfl rfl)
theorem dX1_fullness_33 : decode cX1_fullness 33 = .ok (.invokevirtual 270, 3) := dk_182 1 14 (dk_at dksX1_fullness_1 9 rfl rfl)
theorem dX1_fullness_36 : decode cX1_fullness 36 = .ok (.aload_n 3, 1) := dk_45 (dk_at dksX1_fullness_1 12 rfl rfl)
theorem dX1_fullness_37 : decode cX1_fullness 37 = .ok (.invokevirtual 267, 3) := dk_182 1 11 (dk_at dksX1_fullness_1 13 rfl rfl)
theorem dX1_fullness_40 : decode cX1_fullness 40 = .ok (.isub, 1) := dk_100 (dk_at dksX1_fullness_1 16 rfl rfl)
theorem dX1_fullness_41 : decode cX1_fullness 41 = .ok (.imul, 1) := dk_104 (dk_at dksX1_fullness_1 17 rfl rfl)
theorem dX1_fullness_42 : decode cX1_fullness 42 = .ok (.istore 4, 2) := dk_54 4 (dk_at dksX1_fullness_1 18 rfl rfl)
theorem dX1_fullness_44 : decode cX1_fullness 44 = .ok (.iload_n 2, 1) := dk_28 (dk_at dksX1_fullness_1 20 rfl rfl)
theorem dX1_fullness_45 : decode cX1_fullness 45 = .ok (.i2f, 1) := dk_134 (dk_at dksX1_fullness_1 21 rfl rfl)
theorem dX1_fullness_46 : decode cX1_fullness 46 = .ok (.iload 4, 2) := dk_21 4 (dk_at dksX1_fullness_1 22 rfl rfl)
theorem dX1_fullness_48 : decode cX1_fullness 48 = .ok (.i2f, 1) := dk_134 (dk_at dksX1_fullness_2 0 rfl rfl)
theorem dX1_fullness_49 : decode cX1_fullness 49 = .ok (.fdiv, 1) := dk_110 (dk_at dksX1_fullness_2 1 rfl rfl)
theorem dX1_fullness_50 : decode cX1_fullness 50 = .ok (.freturn, 1) := dk_174 (dk_at dksX1_fullness_2 2 rfl rfl)
theorem q51 : (Jvm.Cond.initialized "PolygonBoard") ∈ lw_all := lw_g (lw_at lw_m1 1 rfl) rfl
theorem q94 : (Jvm.Cond.instantiable "PolygonBoard" (2 : Nat)) ∈ lw_all := lw_g (lw_at lw_m1 44 rfl) rfl
theorem q96 : (Jvm.Cond.instanceMethod ({ cls := "PolygonBoard", name := "<init>", desc := "()V" } : Jvm.MethodName)) ∈ lw_all := lw_g (lw_at lw_m1 46 rfl) rfl
theorem q97 : (Jvm.Cond.code ({ cls := "PolygonBoard", name := "<init>", desc := "()V" } : Jvm.MethodName) prog_1_method_1_code (2 : Nat) (Option.none : Option Jvm.ClassFile.FieldType)) ∈ lw_all := lw_g (lw_at lw_m1 47 rfl) rfl
theorem q98 : (Jvm.Cond.methodLink "PolygonBoard" (1 : Nat) ({ cls := "java/lang/Object", name := "<init>", desc := "()V" } : Jvm.MethodName)) ∈ lw_all := lw_g (lw_at lw_m1 48 rfl) rfl
theorem q101 : (Jvm.Cond.classLink "PolygonBoard" (7 : Nat) "java/util/ArrayList") ∈ lw_all := lw_g (lw_at lw_m1 51 rfl) rfl
theorem q103 : (Jvm.Cond.methodLink "PolygonBoard" (9 : Nat) ({ cls := "java/util/ArrayList", name := "<init>", desc := "()V" } : Jvm.MethodName)) ∈ lw_all := lw_g (lw_at lw_m1 53 rfl) rfl
theorem q130 : (Jvm.Cond.classLink "PolygonBoard" (16 : Nat) "PolygonBoard$Region") ∈ lw_all := lw_g (lw_at lw_m1 80 rfl) rfl
theorem q132 : (Jvm.Cond.methodLinkNest "PolygonBoard" (18 : Nat) ({ cls := "PolygonBoard$Region", name := "<init>", desc := "()V" } : Jvm.MethodName) "PolygonBoard") ∈ lw_tbl := lw_at lw_m1 82 rfl
theorem q141 : (Jvm.Cond.fieldLinkNest "PolygonBoard" (209 : Nat) "PolygonBoard$Region" "bands" "Ljava/util/List;" "PolygonBoard") ∈ lw_tbl := lw_at lw_m1 91 rfl
theorem q145 : (Jvm.Cond.interfaceEntry "PolygonBoard" (19 : Nat)) ∈ lw_tbl := lw_at lw_m1 95 rfl
theorem q146 : (Jvm.Cond.methodLink "PolygonBoard" (19 : Nat) ({ cls := "java/util/List", name := "add", desc := "(Ljava/lang/Object;)Z" } : Jvm.MethodName)) ∈ lw_all := lw_g (lw_at lw_m1 96 rfl) rfl
theorem q183 : (Jvm.Cond.selects "PolygonBoard" ({ cls := "java/lang/Object", name := "getClass", desc := "()Ljava/lang/Class;" } : Jvm.MethodName) ({ cls := "java/lang/Object", name := "getClass", desc := "()Ljava/lang/Class;" } : Jvm.MethodName)) ∈ lw_all := lw_g (lw_at lw_m1 133 rfl) rfl
theorem q227 : (Jvm.Cond.fieldLink "PolygonBoard" (10 : Nat) "PolygonBoard" "sheets" "Ljava/util/List;") ∈ lw_all := lw_g (lw_at lw_m1 177 rfl) rfl
theorem q228 : (Jvm.Cond.fieldLink "PolygonBoard" (107 : Nat) "PolygonBoard" "path" "LPolygonBoard$Path;") ∈ lw_all := lw_g (lw_at lw_m1 178 rfl) rfl
theorem q229 : (Jvm.Cond.laysFinal "PolygonBoard" "PolygonBoard" "sheets" "Ljava/util/List;") ∈ lw_all := lw_g (lw_at lw_m1 179 rfl) rfl
theorem q230 : (Jvm.Cond.soleField "PolygonBoard" "sheets") ∈ lw_all := lw_g (lw_at lw_m1 180 rfl) rfl
theorem q231 : (Jvm.Cond.lays "PolygonBoard" "PolygonBoard" "path" "LPolygonBoard$Path;") ∈ lw_all := lw_g (lw_at lw_m1 181 rfl) rfl
theorem q232 : (Jvm.Cond.soleField "PolygonBoard" "path") ∈ lw_all := lw_g (lw_at lw_m1 182 rfl) rfl
theorem q233 : (Jvm.Cond.superclass "PolygonBoard" "java/lang/Object") ∈ lw_all := lw_g (lw_at lw_m1 183 rfl) rfl
theorem q235 : (Jvm.Cond.instanceMethod ({ cls := "PolygonBoard", name := "pointCount", desc := "()I" } : Jvm.MethodName)) ∈ lw_all := lw_g (lw_at lw_m1 185 rfl) rfl
theorem q236 : (Jvm.Cond.selects "PolygonBoard" ({ cls := "PolygonBoard", name := "pointCount", desc := "()I" } : Jvm.MethodName) ({ cls := "PolygonBoard", name := "pointCount", desc := "()I" } : Jvm.MethodName)) ∈ lw_all := lw_g (lw_at lw_m1 186 rfl) rfl
theorem q237 : (Jvm.Cond.code ({ cls := "PolygonBoard", name := "pointCount", desc := "()I" } : Jvm.MethodName) prog_1_method_20_code (1 : Nat) (Option.some Jvm.ClassFile.FieldType.int)) ∈ lw_all := lw_g (lw_at lw_m1 187 rfl) rfl
theorem q322 : (Jvm.Cond.instanceMethod ({ cls := "PolygonBoard", name := "fill", desc := "(IIIII)I" } : Jvm.MethodName)) ∈ lw_all := lw_g (lw_at lw_m2 32 rfl) rfl
theorem q323 : (Jvm.Cond.selects "PolygonBoard" ({ cls := "PolygonBoard", name := "fill", desc := "(IIIII)I" } : Jvm.MethodName) ({ cls := "PolygonBoard", name := "fill", desc := "(IIIII)I" } : Jvm.MethodName)) ∈ lw_all := lw_g (lw_at lw_m2 33 rfl) rfl
theorem q324 : (Jvm.Cond.code ({ cls := "PolygonBoard", name := "fill", desc := "(IIIII)I" } : Jvm.MethodName) prog_1_method_13_code (6 : Nat) (Option.some Jvm.ClassFile.FieldType.int)) ∈ lw_all := lw_g (lw_at lw_m2 34 rfl) rfl
theorem q325 : (Jvm.Cond.methodLink "PolygonBoard" (46 : Nat) ({ cls := "PolygonBoard", name := "region", desc := "(I)LPolygonBoard$Region;" } : Jvm.MethodName)) ∈ lw_all := lw_g (lw_at lw_m2 35 rfl) rfl
theorem q326 : (Jvm.Cond.privateMethod ({ cls := "PolygonBoard", name := "region", desc := "(I)LPolygonBoard$Region;" } : Jvm.MethodName)) ∈ lw_tbl := lw_at lw_m2 36 rfl
theorem q327 : (Jvm.Cond.instanceMethod ({ cls := "PolygonBoard", name := "region", desc := "(I)LPolygonBoard$Region;" } : Jvm.MethodName)) ∈ lw_all := lw_g (lw_at lw_m2 37 rfl) rfl
theorem q328 : (Jvm.Cond.code ({ cls := "PolygonBoard", name := "region", desc := "(I)LPolygonBoard$Region;" } : Jvm.MethodName) prog_1_method_8_code (2 : Nat) (Option.some (Jvm.ClassFile.FieldType.object "PolygonBoard$Region"))) ∈ lw_all := lw_g (lw_at lw_m2 38 rfl) rfl
theorem q329 : (Jvm.Cond.methodLink "PolygonBoard" (35 : Nat) ({ cls := "PolygonBoard", name := "isSheet", desc := "(I)Z" } : Jvm.MethodName)) ∈ lw_all := lw_g (lw_at lw_m2 39 rfl) rfl
theorem q330 : (Jvm.Cond.static ({ cls := "PolygonBoard", name := "isSheet", desc := "(I)Z" } : Jvm.MethodName)) ∈ lw_all := lw_g (lw_at lw_m2 40 rfl) rfl
theorem q331 : (Jvm.Cond.code ({ cls := "PolygonBoard", name := "isSheet", desc := "(I)Z" } : Jvm.MethodName) prog_1_method_5_code (1 : Nat) (Option.some Jvm.ClassFile.FieldType.boolean)) ∈ lw_all := lw_g (lw_at lw_m2 41 rfl) rfl
theorem q332 : (Jvm.Cond.methodLink "PolygonBoard" (31 : Nat) ({ cls := "PolygonBoard", name := "isBetween", desc := "(III)Z" } : Jvm.MethodName)) ∈ lw_all := lw_g (lw_at lw_m2 42 rfl) rfl
theorem q333 : (Jvm.Cond.static ({ cls := "PolygonBoard", name := "isBetween", desc := "(III)Z" } : Jvm.MethodName)) ∈ lw_all := lw_g (lw_at lw_m2 43 rfl) rfl
theorem q334 : (Jvm.Cond.code ({ cls := "PolygonBoard", name := "isBetween", desc := "(III)Z" } : Jvm.MethodName) prog_1_method_4_code (3 : Nat) (Option.some Jvm.ClassFile.FieldType.boolean)) ∈ lw_all := lw_g (lw_at lw_m2 44 rfl) rfl
theorem q335 : (Jvm.Cond.classLink "PolygonBoard" (39 : Nat) "java/lang/IndexOutOfBoundsException") ∈ lw_all := lw_g (lw_at lw_m2 45 rfl) rfl
theorem q344 : (Jvm.Cond.methodLink "PolygonBoard" (41 : Nat) ({ cls := "java/lang/IndexOutOfBoundsException", name := "<init>", desc := "()V" } : Jvm.MethodName)) ∈ lw_all := lw_g (lw_at lw_m2 54 rfl) rfl
theorem q356 : (Jvm.Cond.interfaceEntry "PolygonBoard" (42 : Nat)) ∈ lw_tbl := lw_at lw_m2 66 rfl
theorem q357 : (Jvm.Cond.methodLink "PolygonBoard" (42 : Nat) ({ cls := "java/util/List", name := "get", desc := "(I)Ljava/lang/Object;" } : Jvm.MethodName)) ∈ lw_all := lw_g (lw_at lw_m2 67 rfl) rfl
theorem q375 : (Jvm.Cond.methodLink "PolygonBoard" (81 : Nat) ({ cls := "PolygonBoard", name := "checkRectangle", desc := "(IIII)V" } : Jvm.MethodName)) ∈ lw_all := lw_g (lw_at lw_m2 85 rfl) rfl
theorem q376 : (Jvm.Cond.static ({ cls := "PolygonBoard", name := "checkRectangle", desc := "(IIII)V" } : Jvm.MethodName)) ∈ lw_all := lw_g (lw_at lw_m2 86 rfl) rfl
theorem q377 : (Jvm.Cond.code ({ cls := "PolygonBoard", name := "checkRectangle", desc := "(IIII)V" } : Jvm.MethodName) prog_1_method_11_code (4 : Nat) (Option.none : Option Jvm.ClassFile.FieldType)) ∈ lw_all := lw_g (lw_at lw_m2 87 rfl) rfl
theorem q378 : (Jvm.Cond.methodLink "PolygonBoard" (66 : Nat) ({ cls := "PolygonBoard", name := "isPoint", desc := "(II)Z" } : Jvm.MethodName)) ∈ lw_all := lw_g (lw_at lw_m2 88 rfl) rfl
theorem q379 : (Jvm.Cond.static ({ cls := "PolygonBoard", name := "isPoint", desc := "(II)Z" } : Jvm.MethodName)) ∈ lw_all := lw_g (lw_at lw_m2 89 rfl) rfl
theorem q380 : (Jvm.Cond.code ({ cls := "PolygonBoard", name := "isPoint", desc := "(II)Z" } : Jvm.MethodName) prog_1_method_6_code (2 : Nat) (Option.some Jvm.ClassFile.FieldType.boolean)) ∈ lw_all := lw_g (lw_at lw_m2 90 rfl) rfl
theorem q381 : (Jvm.Cond.methodLink "PolygonBoard" (70 : Nat) ({ cls := "PolygonBoard", name := "checkArgument", desc := "(Z)V" } : Jvm.MethodName)) ∈ lw_all := lw_g (lw_at lw_m2 91 rfl) rfl
theorem q382 : (Jvm.Cond.static ({ cls := "PolygonBoard", name := "checkArgument", desc := "(Z)V" } : Jvm.MethodName)) ∈ lw_all := lw_g (lw_at lw_m2 92 rfl) rfl
theorem q383 : (Jvm.Cond.code ({ cls := "PolygonBoard", name := "checkArgument", desc := "(Z)V" } : Jvm.MethodName) prog_1_method_2_code (1 : Nat) (Option.none : Option Jvm.ClassFile.FieldType)) ∈ lw_all := lw_g (lw_at lw_m2 93 rfl) rfl
theorem q384 : (Jvm.Cond.classLink "PolygonBoard" (25 : Nat) "java/lang/IllegalArgumentException") ∈ lw_all := lw_g (lw_at lw_m2 94 rfl) rfl
theorem q393 : (Jvm.Cond.methodLink "PolygonBoard" (27 : Nat) ({ cls := "java/lang/IllegalArgumentException", name := "<init>", desc := "()V" } : Jvm.MethodName)) ∈ lw_all := lw_g (lw_at lw_m2 103 rfl) rfl
theorem q399 : (Jvm.Cond.methodLink "PolygonBoard" (85 : Nat) ({ cls := "PolygonBoard$Region", name := "rectangle", desc := "(IIII)LPolygonBoard$Region;" } : Jvm.MethodName)) ∈ lw_all := lw_g (lw_at lw_m2 109 rfl) rfl
theorem q481 : (Jvm.Cond.fieldLink "PolygonBoard" (89 : Nat) "PolygonBoard$Operation" "UNION" "LPolygonBoard$Operation;") ∈ lw_all := lw_g (lw_at lw_m2 191 rfl) rfl
theorem q483 : (Jvm.Cond.methodLink "PolygonBoard" (95 : Nat) ({ cls := "PolygonBoard", name := "change", desc := "(ILPolygonBoard$Region;LPolygonBoard$Operation;)I" } : Jvm.MethodName)) ∈ lw_all := lw_g (lw_at lw_m2 193 rfl) rfl
theorem q484 : (Jvm.Cond.privateMethod ({ cls := "PolygonBoard", name := "change", desc := "(ILPolygonBoard$Region;LPolygonBoard$Operation;)I" } : Jvm.MethodName)) ∈ lw_tbl := lw_at lw_m2 194 rfl
theorem q485 : (Jvm.Cond.instanceMethod ({ cls := "PolygonBoard", name := "change", desc := "(ILPolygonBoard$Region;LPolygonBoard$Operation;)I" } : Jvm.MethodName)) ∈ lw_all := lw_g (lw_at lw_m2 195 rfl) rfl
theorem q486 : (Jvm.Cond.code ({ cls := "PolygonBoard", name := "change", desc := "(ILPolygonBoard$Region;LPolygonBoard$Operation;)I" } : Jvm.MethodName) prog_1_method_12_code (5 : Nat) (Option.some Jvm.ClassFile.FieldType.int)) ∈ lw_all := lw_g (lw_at lw_m2 196 rfl) rfl
theorem q487 : (Jvm.Cond.methodLink "PolygonBoard" (62 : Nat) ({ cls := "PolygonBoard$Region", name := "area", desc := "()I" } : Jvm.MethodName)) ∈ lw_all := lw_g (lw_at lw_m2 197 rfl) rfl
theorem q503 : (Jvm.Cond.fieldLinkNest "PolygonBoard" (221 : Nat) "PolygonBoard$Scan" "rectangles" "I" "PolygonBoard") ∈ lw_tbl := lw_at lw_m2 213 rfl
theorem q664 : (Jvm.Cond.methodLink "PolygonBoard" (73 : Nat) ({ cls := "PolygonBoard$Region", name := "combine", desc := "(LPolygonBoard$Region;LPolygonBoard$Operation;)LPolygonBoard$Region;" } : Jvm.MethodName)) ∈ lw_all := lw_g (lw_at lw_m3 134 rfl) rfl
theorem q716 : (Jvm.Cond.methodLink "PolygonBoard" (77 : Nat) ({ cls := "PolygonBoard", name := "put", desc := "(ILPolygonBoard$Region;)I" } : Jvm.MethodName)) ∈ lw_all := lw_g (lw_at lw_m3 186 rfl) rfl
theorem q717 : (Jvm.Cond.privateMethod ({ cls := "PolygonBoard", name := "put", desc := "(ILPolygonBoard$Region;)I" } : Jvm.MethodName)) ∈ lw_tbl := lw_at lw_m3 187 rfl
theorem q718 : (Jvm.Cond.instanceMethod ({ cls := "PolygonBoard", name := "put", desc := "(ILPolygonBoard$Region;)I" } : Jvm.MethodName)) ∈ lw_all := lw_g (lw_at lw_m3 188 rfl) rfl
theorem q719 : (Jvm.Cond.code ({ cls := "PolygonBoard", name := "put", desc := "(ILPolygonBoard$Region;)I" } : Jvm.MethodName) prog_1_method_10_code (3 : Nat) (Option.some Jvm.ClassFile.FieldType.int)) ∈ lw_all := lw_g (lw_at lw_m3 189 rfl) rfl
theorem q720 : (Jvm.Cond.interfaceEntry "PolygonBoard" (58 : Nat)) ∈ lw_tbl := lw_at lw_m3 190 rfl
theorem q721 : (Jvm.Cond.methodLink "PolygonBoard" (58 : Nat) ({ cls := "java/util/List", name := "set", desc := "(ILjava/lang/Object;)Ljava/lang/Object;" } : Jvm.MethodName)) ∈ lw_all := lw_g (lw_at lw_m3 191 rfl) rfl
theorem q733 : (Jvm.Cond.instanceMethod ({ cls := "PolygonBoard", name := "erase", desc := "(IIIII)I" } : Jvm.MethodName)) ∈ lw_all := lw_g (lw_at lw_m3 203 rfl) rfl
theorem q734 : (Jvm.Cond.selects "PolygonBoard" ({ cls := "PolygonBoard", name := "erase", desc := "(IIIII)I" } : Jvm.MethodName) ({ cls := "PolygonBoard", name := "erase", desc := "(IIIII)I" } : Jvm.MethodName)) ∈ lw_all := lw_g (lw_at lw_m3 204 rfl) rfl
theorem q735 : (Jvm.Cond.code ({ cls := "PolygonBoard", name := "erase", desc := "(IIIII)I" } : Jvm.MethodName) prog_1_method_14_code (6 : Nat) (Option.some Jvm.ClassFile.FieldType.int)) ∈ lw_all := lw_g (lw_at lw_m3 205 rfl) rfl
theorem q736 : (Jvm.Cond.fieldLink "PolygonBoard" (99 : Nat) "PolygonBoard$Operation" "DIFFERENCE" "LPolygonBoard$Operation;") ∈ lw_all := lw_g (lw_at lw_m3 206 rfl) rfl
theorem q742 : (Jvm.Cond.instanceMethod ({ cls := "PolygonBoard", name := "clear", desc := "(I)I" } : Jvm.MethodName)) ∈ lw_all := lw_g (lw_at lw_m3 212 rfl) rfl
theorem q743 : (Jvm.Cond.selects "PolygonBoard" ({ cls := "PolygonBoard", name := "clear", desc := "(I)I" } : Jvm.MethodName) ({ cls := "PolygonBoard", name := "clear", desc := "(I)I" } : Jvm.MethodName)) ∈ lw_all := lw_g (lw_at lw_m3 213 rfl) rfl
theorem q744 : (Jvm.Cond.code ({ cls := "PolygonBoard", name := "clear", desc := "(I)I" } : Jvm.MethodName) prog_1_method_15_code (3 : Nat) (Option.some Jvm.ClassFile.FieldType.int)) ∈ lw_all := lw_g (lw_at lw_m3 214 rfl) rfl
theorem q749 : (Jvm.Cond.instanceMethod ({ cls := "PolygonBoard", name := "moveTo", desc := "(II)I" } : Jvm.MethodName)) ∈ lw_all := lw_g (lw_at lw_m3 219 rfl) rfl
theorem q750 : (Jvm.Cond.selects "PolygonBoard" ({ cls := "PolygonBoard", name := "moveTo", desc := "(II)I" } : Jvm.MethodName) ({ cls := "PolygonBoard", name := "moveTo", desc := "(II)I" } : Jvm.MethodName)) ∈ lw_all := lw_g (lw_at lw_m3 220 rfl) rfl
theorem q751 : (Jvm.Cond.code ({ cls := "PolygonBoard", name := "moveTo", desc := "(II)I" } : Jvm.MethodName) prog_1_method_16_code (3 : Nat) (Option.some Jvm.ClassFile.FieldType.int)) ∈ lw_all := lw_g (lw_at lw_m3 221 rfl) rfl
theorem q752 : (Jvm.Cond.classLink "PolygonBoard" (102 : Nat) "PolygonBoard$Path") ∈ lw_all := lw_g (lw_at lw_m3 222 rfl) rfl
theorem q754 : (Jvm.Cond.methodLink "PolygonBoard" (104 : Nat) ({ cls := "PolygonBoard$Path", name := "<init>", desc := "(II)V" } : Jvm.MethodName)) ∈ lw_all := lw_g (lw_at lw_m3 224 rfl) rfl
theorem q765 : (Jvm.Cond.fieldLinkNest "PolygonBoard" (111 : Nat) "PolygonBoard$Path" "count" "I" "PolygonBoard") ∈ lw_tbl := lw_at lw_m3 235 rfl
theorem q778 : (Jvm.Cond.instanceMethod ({ cls := "PolygonBoard", name := "lineTo", desc := "(II)I" } : Jvm.MethodName)) ∈ lw_all := lw_g (lw_at lw_m4 8 rfl) rfl
theorem q779 : (Jvm.Cond.selects "PolygonBoard" ({ cls := "PolygonBoard", name := "lineTo", desc := "(II)I" } : Jvm.MethodName) ({ cls := "PolygonBoard", name := "lineTo", desc := "(II)I" } : Jvm.MethodName)) ∈ lw_all := lw_g (lw_at lw_m4 9 rfl) rfl
theorem q780 : (Jvm.Cond.code ({ cls := "PolygonBoard", name := "lineTo", desc := "(II)I" } : Jvm.MethodName) prog_1_method_18_code (3 : Nat) (Option.some Jvm.ClassFile.FieldType.int)) ∈ lw_all := lw_g (lw_at lw_m4 10 rfl) rfl
theorem q781 : (Jvm.Cond.methodLink "PolygonBoard" (118 : Nat) ({ cls := "PolygonBoard", name := "checkPath", desc := "(Z)V" } : Jvm.MethodName)) ∈ lw_all := lw_g (lw_at lw_m4 11 rfl) rfl
theorem q782 : (Jvm.Cond.privateMethod ({ cls := "PolygonBoard", name := "checkPath", desc := "(Z)V" } : Jvm.MethodName)) ∈ lw_tbl := lw_at lw_m4 12 rfl
theorem q783 : (Jvm.Cond.instanceMethod ({ cls := "PolygonBoard", name := "checkPath", desc := "(Z)V" } : Jvm.MethodName)) ∈ lw_all := lw_g (lw_at lw_m4 13 rfl) rfl
theorem q784 : (Jvm.Cond.code ({ cls := "PolygonBoard", name := "checkPath", desc := "(Z)V" } : Jvm.MethodName) prog_1_method_17_code (2 : Nat) (Option.none : Option Jvm.ClassFile.FieldType)) ∈ lw_all := lw_g (lw_at lw_m4 14 rfl) rfl
theorem q785 : (Jvm.Cond.classLink "PolygonBoard" (115 : Nat) "java/lang/IllegalStateException") ∈ lw_all := lw_g (lw_at lw_m4 15 rfl) rfl
theorem q794 : (Jvm.Cond.methodLink "PolygonBoard" (117 : Nat) ({ cls := "java/lang/IllegalStateException", name := "<init>", desc := "()V" } : Jvm.MethodName)) ∈ lw_all := lw_g (lw_at lw_m4 24 rfl) rfl
theorem q800 : (Jvm.Cond.methodLink "PolygonBoard" (121 : Nat) ({ cls := "PolygonBoard$Path", name := "isStraightFrom", desc := "(III)Z" } : Jvm.MethodName)) ∈ lw_all := lw_g (lw_at lw_m4 30 rfl) rfl
theorem q804 : (Jvm.Cond.methodLink "PolygonBoard" (124 : Nat) ({ cls := "PolygonBoard$Path", name := "add", desc := "(II)V" } : Jvm.MethodName)) ∈ lw_all := lw_g (lw_at lw_m4 34 rfl) rfl
theorem q809 : (Jvm.Cond.instanceMethod ({ cls := "PolygonBoard", name := "closePath", desc := "(IZ)I" } : Jvm.MethodName)) ∈ lw_all := lw_g (lw_at lw_m4 39 rfl) rfl
theorem q810 : (Jvm.Cond.selects "PolygonBoard" ({ cls := "PolygonBoard", name := "closePath", desc := "(IZ)I" } : Jvm.MethodName) ({ cls := "PolygonBoard", name := "closePath", desc := "(IZ)I" } : Jvm.MethodName)) ∈ lw_all := lw_g (lw_at lw_m4 40 rfl) rfl
theorem q811 : (Jvm.Cond.code ({ cls := "PolygonBoard", name := "closePath", desc := "(IZ)I" } : Jvm.MethodName) prog_1_method_19_code (4 : Nat) (Option.some Jvm.ClassFile.FieldType.int)) ∈ lw_all := lw_g (lw_at lw_m4 41 rfl) rfl
theorem q812 : (Jvm.Cond.methodLink "PolygonBoard" (126 : Nat) ({ cls := "PolygonBoard$Path", name := "canClose", desc := "()Z" } : Jvm.MethodName)) ∈ lw_all := lw_g (lw_at lw_m4 42 rfl) rfl
theorem q817 : (Jvm.Cond.methodLink "PolygonBoard" (129 : Nat) ({ cls := "PolygonBoard$Path", name := "filled", desc := "(Z)LPolygonBoard$Region;" } : Jvm.MethodName)) ∈ lw_all := lw_g (lw_at lw_m4 47 rfl) rfl
theorem q839 : (Jvm.Cond.instanceMethod ({ cls := "PolygonBoard", name := "combine", desc := "(CIII)I" } : Jvm.MethodName)) ∈ lw_all := lw_g (lw_at lw_m4 69 rfl) rfl
theorem q840 : (Jvm.Cond.selects "PolygonBoard" ({ cls := "PolygonBoard", name := "combine", desc := "(CIII)I" } : Jvm.MethodName) ({ cls := "PolygonBoard", name := "combine", desc := "(CIII)I" } : Jvm.MethodName)) ∈ lw_all := lw_g (lw_at lw_m4 70 rfl) rfl
theorem q841 : (Jvm.Cond.code ({ cls := "PolygonBoard", name := "combine", desc := "(CIII)I" } : Jvm.MethodName) prog_1_method_21_code (8 : Nat) (Option.some Jvm.ClassFile.FieldType.int)) ∈ lw_all := lw_g (lw_at lw_m4 71 rfl) rfl
theorem q842 : (Jvm.Cond.methodLink "PolygonBoard" (133 : Nat) ({ cls := "PolygonBoard$Operation", name := "of", desc := "(C)LPolygonBoard$Operation;" } : Jvm.MethodName)) ∈ lw_all := lw_g (lw_at lw_m4 72 rfl) rfl
theorem q862 : (Jvm.Cond.instanceMethod ({ cls := "PolygonBoard", name := "grow", desc := "(III)I" } : Jvm.MethodName)) ∈ lw_all := lw_g (lw_at lw_m4 92 rfl) rfl
theorem q863 : (Jvm.Cond.selects "PolygonBoard" ({ cls := "PolygonBoard", name := "grow", desc := "(III)I" } : Jvm.MethodName) ({ cls := "PolygonBoard", name := "grow", desc := "(III)I" } : Jvm.MethodName)) ∈ lw_all := lw_g (lw_at lw_m4 93 rfl) rfl
theorem q864 : (Jvm.Cond.code ({ cls := "PolygonBoard", name := "grow", desc := "(III)I" } : Jvm.MethodName) prog_1_method_24_code (5 : Nat) (Option.some Jvm.ClassFile.FieldType.int)) ∈ lw_all := lw_g (lw_at lw_m4 94 rfl) rfl
theorem q865 : (Jvm.Cond.methodLink "PolygonBoard" (137 : Nat) ({ cls := "PolygonBoard", name := "regionFor", desc := "(II)LPolygonBoard$Region;" } : Jvm.MethodName)) ∈ lw_all := lw_g (lw_at lw_m4 95 rfl) rfl
theorem q866 : (Jvm.Cond.privateMethod ({ cls := "PolygonBoard", name := "regionFor", desc := "(II)LPolygonBoard$Region;" } : Jvm.MethodName)) ∈ lw_tbl := lw_at lw_m4 96 rfl
theorem q867 : (Jvm.Cond.instanceMethod ({ cls := "PolygonBoard", name := "regionFor", desc := "(II)LPolygonBoard$Region;" } : Jvm.MethodName)) ∈ lw_all := lw_g (lw_at lw_m4 97 rfl) rfl
theorem q868 : (Jvm.Cond.code ({ cls := "PolygonBoard", name := "regionFor", desc := "(II)LPolygonBoard$Region;" } : Jvm.MethodName) prog_1_method_22_code (3 : Nat) (Option.some (Jvm.ClassFile.FieldType.object "PolygonBoard$Region"))) ∈ lw_all := lw_g (lw_at lw_m4 98 rfl) rfl
theorem q869 : (Jvm.Cond.methodLink "PolygonBoard" (141 : Nat) ({ cls := "PolygonBoard", name := "checkDistance", desc := "(I)V" } : Jvm.MethodName)) ∈ lw_all := lw_g (lw_at lw_m4 99 rfl) rfl
theorem q870 : (Jvm.Cond.static ({ cls := "PolygonBoard", name := "checkDistance", desc := "(I)V" } : Jvm.MethodName)) ∈ lw_all := lw_g (lw_at lw_m4 100 rfl) rfl
theorem q871 : (Jvm.Cond.code ({ cls := "PolygonBoard", name := "checkDistance", desc := "(I)V" } : Jvm.MethodName) prog_1_method_23_code (1 : Nat) (Option.none : Option Jvm.ClassFile.FieldType)) ∈ lw_all := lw_g (lw_at lw_m4 101 rfl) rfl
theorem q872 : (Jvm.Cond.methodLink "PolygonBoard" (145 : Nat) ({ cls := "PolygonBoard$Region", name := "grown", desc := "(I)LPolygonBoard$Region;" } : Jvm.MethodName)) ∈ lw_all := lw_g (lw_at lw_m4 102 rfl) rfl
theorem q896 : (Jvm.Cond.methodLink "PolygonBoard" (148 : Nat) ({ cls := "PolygonBoard$Region", name := "clipped", desc := "()LPolygonBoard$Region;" } : Jvm.MethodName)) ∈ lw_all := lw_g (lw_at lw_m4 126 rfl) rfl
theorem q908 : (Jvm.Cond.instanceMethod ({ cls := "PolygonBoard", name := "shrink", desc := "(III)I" } : Jvm.MethodName)) ∈ lw_all := lw_g (lw_at lw_m4 138 rfl) rfl
theorem q909 : (Jvm.Cond.selects "PolygonBoard" ({ cls := "PolygonBoard", name := "shrink", desc := "(III)I" } : Jvm.MethodName) ({ cls := "PolygonBoard", name := "shrink", desc := "(III)I" } : Jvm.MethodName)) ∈ lw_all := lw_g (lw_at lw_m4 139 rfl) rfl
theorem q910 : (Jvm.Cond.code ({ cls := "PolygonBoard", name := "shrink", desc := "(III)I" } : Jvm.MethodName) prog_1_method_25_code (5 : Nat) (Option.some Jvm.ClassFile.FieldType.int)) ∈ lw_all := lw_g (lw_at lw_m4 140 rfl) rfl
theorem q911 : (Jvm.Cond.methodLink "PolygonBoard" (152 : Nat) ({ cls := "PolygonBoard$Region", name := "shrunk", desc := "(I)LPolygonBoard$Region;" } : Jvm.MethodName)) ∈ lw_all := lw_g (lw_at lw_m4 141 rfl) rfl
theorem q921 : (Jvm.Cond.instanceMethod ({ cls := "PolygonBoard", name := "move", desc := "(IIII)I" } : Jvm.MethodName)) ∈ lw_all := lw_g (lw_at lw_m4 151 rfl) rfl
theorem q922 : (Jvm.Cond.selects "PolygonBoard" ({ cls := "PolygonBoard", name := "move", desc := "(IIII)I" } : Jvm.MethodName) ({ cls := "PolygonBoard", name := "move", desc := "(IIII)I" } : Jvm.MethodName)) ∈ lw_all := lw_g (lw_at lw_m4 152 rfl) rfl
theorem q923 : (Jvm.Cond.code ({ cls := "PolygonBoard", name := "move", desc := "(IIII)I" } : Jvm.MethodName) prog_1_method_26_code (6 : Nat) (Option.some Jvm.ClassFile.FieldType.int)) ∈ lw_all := lw_g (lw_at lw_m4 153 rfl) rfl
theorem q924 : (Jvm.Cond.methodLink "PolygonBoard" (155 : Nat) ({ cls := "PolygonBoard$Region", name := "moved", desc := "(II)LPolygonBoard$Region;" } : Jvm.MethodName)) ∈ lw_all := lw_g (lw_at lw_m4 154 rfl) rfl
theorem q937 : (Jvm.Cond.instanceMethod ({ cls := "PolygonBoard", name := "turn", desc := "(II)I" } : Jvm.MethodName)) ∈ lw_all := lw_g (lw_at lw_m4 167 rfl) rfl
theorem q938 : (Jvm.Cond.selects "PolygonBoard" ({ cls := "PolygonBoard", name := "turn", desc := "(II)I" } : Jvm.MethodName) ({ cls := "PolygonBoard", name := "turn", desc := "(II)I" } : Jvm.MethodName)) ∈ lw_all := lw_g (lw_at lw_m4 168 rfl) rfl
theorem q939 : (Jvm.Cond.code ({ cls := "PolygonBoard", name := "turn", desc := "(II)I" } : Jvm.MethodName) prog_1_method_27_code (3 : Nat) (Option.some Jvm.ClassFile.FieldType.int)) ∈ lw_all := lw_g (lw_at lw_m4 169 rfl) rfl
theorem q940 : (Jvm.Cond.methodLink "PolygonBoard" (158 : Nat) ({ cls := "PolygonBoard$Region", name := "turned", desc := "()LPolygonBoard$Region;" } : Jvm.MethodName)) ∈ lw_all := lw_g (lw_at lw_m4 170 rfl) rfl
theorem q953 : (Jvm.Cond.instanceMethod ({ cls := "PolygonBoard", name := "mirror", desc := "(II)I" } : Jvm.MethodName)) ∈ lw_all := lw_g (lw_at lw_m4 183 rfl) rfl
theorem q954 : (Jvm.Cond.selects "PolygonBoard" ({ cls := "PolygonBoard", name := "mirror", desc := "(II)I" } : Jvm.MethodName) ({ cls := "PolygonBoard", name := "mirror", desc := "(II)I" } : Jvm.MethodName)) ∈ lw_all := lw_g (lw_at lw_m4 184 rfl) rfl
theorem q955 : (Jvm.Cond.code ({ cls := "PolygonBoard", name := "mirror", desc := "(II)I" } : Jvm.MethodName) prog_1_method_28_code (3 : Nat) (Option.some Jvm.ClassFile.FieldType.int)) ∈ lw_all := lw_g (lw_at lw_m4 185 rfl) rfl
theorem q956 : (Jvm.Cond.methodLink "PolygonBoard" (161 : Nat) ({ cls := "PolygonBoard$Region", name := "mirrored", desc := "()LPolygonBoard$Region;" } : Jvm.MethodName)) ∈ lw_all := lw_g (lw_at lw_m4 186 rfl) rfl
theorem q968 : (Jvm.Cond.instanceMethod ({ cls := "PolygonBoard", name := "fillHoles", desc := "(II)I" } : Jvm.MethodName)) ∈ lw_all := lw_g (lw_at lw_m4 198 rfl) rfl
theorem q969 : (Jvm.Cond.selects "PolygonBoard" ({ cls := "PolygonBoard", name := "fillHoles", desc := "(II)I" } : Jvm.MethodName) ({ cls := "PolygonBoard", name := "fillHoles", desc := "(II)I" } : Jvm.MethodName)) ∈ lw_all := lw_g (lw_at lw_m4 199 rfl) rfl
theorem q970 : (Jvm.Cond.code ({ cls := "PolygonBoard", name := "fillHoles", desc := "(II)I" } : Jvm.MethodName) prog_1_method_29_code (5 : Nat) (Option.some Jvm.ClassFile.FieldType.int)) ∈ lw_all := lw_g (lw_at lw_m4 200 rfl) rfl
theorem q971 : (Jvm.Cond.methodLink "PolygonBoard" (164 : Nat) ({ cls := "PolygonBoard$Cells", name := "of", desc := "(LPolygonBoard$Region;)LPolygonBoard$Cells;" } : Jvm.MethodName)) ∈ lw_all := lw_g (lw_at lw_m4 201 rfl) rfl
theorem q988 : (Jvm.Cond.methodLink "PolygonBoard" (169 : Nat) ({ cls := "PolygonBoard$Cells", name := "others", desc := "()LPolygonBoard$Cells;" } : Jvm.MethodName)) ∈ lw_all := lw_g (lw_at lw_m4 218 rfl) rfl
theorem q993 : (Jvm.Cond.methodLink "PolygonBoard" (173 : Nat) ({ cls := "PolygonBoard$Cells", name := "inner", desc := "()LPolygonBoard$Cells;" } : Jvm.MethodName)) ∈ lw_all := lw_g (lw_at lw_m4 223 rfl) rfl
theorem q1025 : (Jvm.Cond.methodLink "PolygonBoard" (176 : Nat) ({ cls := "PolygonBoard$Cells", name := "toRegion", desc := "()LPolygonBoard$Region;" } : Jvm.MethodName)) ∈ lw_all := lw_g (lw_at lw_m5 15 rfl) rfl
theorem q1038 : (Jvm.Cond.static ({ cls := "PolygonBoard", name := "isCell", desc := "(II)Z" } : Jvm.MethodName)) ∈ lw_all := lw_g (lw_at lw_m5 28 rfl) rfl
theorem q1039 : (Jvm.Cond.code ({ cls := "PolygonBoard", name := "isCell", desc := "(II)Z" } : Jvm.MethodName) prog_1_method_7_code (2 : Nat) (Option.some Jvm.ClassFile.FieldType.boolean)) ∈ lw_all := lw_g (lw_at lw_m5 29 rfl) rfl
theorem q1047 : (Jvm.Cond.instanceMethod ({ cls := "PolygonBoard", name := "keepPart", desc := "(IIII)I" } : Jvm.MethodName)) ∈ lw_all := lw_g (lw_at lw_m5 37 rfl) rfl
theorem q1048 : (Jvm.Cond.selects "PolygonBoard" ({ cls := "PolygonBoard", name := "keepPart", desc := "(IIII)I" } : Jvm.MethodName) ({ cls := "PolygonBoard", name := "keepPart", desc := "(IIII)I" } : Jvm.MethodName)) ∈ lw_all := lw_g (lw_at lw_m5 38 rfl) rfl
theorem q1049 : (Jvm.Cond.code ({ cls := "PolygonBoard", name := "keepPart", desc := "(IIII)I" } : Jvm.MethodName) prog_1_method_31_code (8 : Nat) (Option.some Jvm.ClassFile.FieldType.int)) ∈ lw_all := lw_g (lw_at lw_m5 39 rfl) rfl
theorem q1050 : (Jvm.Cond.methodLink "PolygonBoard" (186 : Nat) ({ cls := "PolygonBoard", name := "isCell", desc := "(II)Z" } : Jvm.MethodName)) ∈ lw_all := lw_g (lw_at lw_m5 40 rfl) rfl
theorem q1051 : (Jvm.Cond.methodLink "PolygonBoard" (189 : Nat) ({ cls := "PolygonBoard", name := "partsOf", desc := "(LPolygonBoard$Region;)LPolygonBoard$PartScan;" } : Jvm.MethodName)) ∈ lw_all := lw_g (lw_at lw_m5 41 rfl) rfl
theorem q1052 : (Jvm.Cond.static ({ cls := "PolygonBoard", name := "partsOf", desc := "(LPolygonBoard$Region;)LPolygonBoard$PartScan;" } : Jvm.MethodName)) ∈ lw_all := lw_g (lw_at lw_m5 42 rfl) rfl
theorem q1053 : (Jvm.Cond.code ({ cls := "PolygonBoard", name := "partsOf", desc := "(LPolygonBoard$Region;)LPolygonBoard$PartScan;" } : Jvm.MethodName) prog_1_method_30_code (2 : Nat) (Option.some (Jvm.ClassFile.FieldType.object "PolygonBoard$PartScan"))) ∈ lw_all := lw_g (lw_at lw_m5 43 rfl) rfl
theorem q1054 : (Jvm.Cond.classLink "PolygonBoard" (179 : Nat) "PolygonBoard$PartScan") ∈ lw_all := lw_g (lw_at lw_m5 44 rfl) rfl
theorem q1056 : (Jvm.Cond.methodLinkNest "PolygonBoard" (181 : Nat) ({ cls := "PolygonBoard$PartScan", name := "<init>", desc := "()V" } : Jvm.MethodName) "PolygonBoard") ∈ lw_tbl := lw_at lw_m5 46 rfl
theorem q1064 : (Jvm.Cond.fieldLinkNest "PolygonBoard" (224 : Nat) "PolygonBoard$PartScan" "parts" "I" "PolygonBoard") ∈ lw_tbl := lw_at lw_m5 54 rfl
theorem q1070 : (Jvm.Cond.methodLink "PolygonBoard" (182 : Nat) ({ cls := "PolygonBoard$PartScan", name := "scan", desc := "(LPolygonBoard$Region;)V" } : Jvm.MethodName)) ∈ lw_all := lw_g (lw_at lw_m5 60 rfl) rfl
theorem q1073 : (Jvm.Cond.methodLink "PolygonBoard" (193 : Nat) ({ cls := "PolygonBoard$PartScan", name := "partAt", desc := "(II)LPolygonBoard$Rectangle;" } : Jvm.MethodName)) ∈ lw_all := lw_g (lw_at lw_m5 63 rfl) rfl
theorem q1082 : (Jvm.Cond.methodLink "PolygonBoard" (54 : Nat) ({ cls := "PolygonBoard", name := "checkElement", desc := "(Z)V" } : Jvm.MethodName)) ∈ lw_all := lw_g (lw_at lw_m5 72 rfl) rfl
theorem q1083 : (Jvm.Cond.static ({ cls := "PolygonBoard", name := "checkElement", desc := "(Z)V" } : Jvm.MethodName)) ∈ lw_all := lw_g (lw_at lw_m5 73 rfl) rfl
theorem q1084 : (Jvm.Cond.code ({ cls := "PolygonBoard", name := "checkElement", desc := "(Z)V" } : Jvm.MethodName) prog_1_method_3_code (1 : Nat) (Option.none : Option Jvm.ClassFile.FieldType)) ∈ lw_all := lw_g (lw_at lw_m5 74 rfl) rfl
theorem q1085 : (Jvm.Cond.classLink "PolygonBoard" (28 : Nat) "java/util/NoSuchElementException") ∈ lw_all := lw_g (lw_at lw_m5 75 rfl) rfl
theorem q1086 : (Jvm.Cond.methodLink "PolygonBoard" (30 : Nat) ({ cls := "java/util/NoSuchElementException", name := "<init>", desc := "()V" } : Jvm.MethodName)) ∈ lw_all := lw_g (lw_at lw_m5 76 rfl) rfl
theorem q1087 : (Jvm.Cond.methodLink "PolygonBoard" (197 : Nat) ({ cls := "PolygonBoard$PartScan", name := "regionOf", desc := "(LPolygonBoard$Rectangle;)LPolygonBoard$Region;" } : Jvm.MethodName)) ∈ lw_all := lw_g (lw_at lw_m5 77 rfl) rfl
theorem q1105 : (Jvm.Cond.instanceMethod ({ cls := "PolygonBoard", name := "contains", desc := "(III)Z" } : Jvm.MethodName)) ∈ lw_all := lw_g (lw_at lw_m5 95 rfl) rfl
theorem q1106 : (Jvm.Cond.selects "PolygonBoard" ({ cls := "PolygonBoard", name := "contains", desc := "(III)Z" } : Jvm.MethodName) ({ cls := "PolygonBoard", name := "contains", desc := "(III)Z" } : Jvm.MethodName)) ∈ lw_all := lw_g (lw_at lw_m5 96 rfl) rfl
theorem q1107 : (Jvm.Cond.code ({ cls := "PolygonBoard", name := "contains", desc := "(III)Z" } : Jvm.MethodName) prog_1_method_32_code (5 : Nat) (Option.some Jvm.ClassFile.FieldType.boolean)) ∈ lw_all := lw_g (lw_at lw_m5 97 rfl) rfl
theorem q1108 : (Jvm.Cond.methodLink "PolygonBoard" (201 : Nat) ({ cls := "PolygonBoard$Region", name := "contains", desc := "(II)Z" } : Jvm.MethodName)) ∈ lw_all := lw_g (lw_at lw_m5 98 rfl) rfl
theorem q1116 : (Jvm.Cond.instanceMethod ({ cls := "PolygonBoard", name := "area", desc := "(I)I" } : Jvm.MethodName)) ∈ lw_all := lw_g (lw_at lw_m5 106 rfl) rfl
theorem q1117 : (Jvm.Cond.selects "PolygonBoard" ({ cls := "PolygonBoard", name := "area", desc := "(I)I" } : Jvm.MethodName) ({ cls := "PolygonBoard", name := "area", desc := "(I)I" } : Jvm.MethodName)) ∈ lw_all := lw_g (lw_at lw_m5 107 rfl) rfl
theorem q1118 : (Jvm.Cond.code ({ cls := "PolygonBoard", name := "area", desc := "(I)I" } : Jvm.MethodName) prog_1_method_33_code (2 : Nat) (Option.some Jvm.ClassFile.FieldType.int)) ∈ lw_all := lw_g (lw_at lw_m5 108 rfl) rfl
theorem q1123 : (Jvm.Cond.instanceMethod ({ cls := "PolygonBoard", name := "areaByCells", desc := "(I)I" } : Jvm.MethodName)) ∈ lw_all := lw_g (lw_at lw_m5 113 rfl) rfl
theorem q1124 : (Jvm.Cond.selects "PolygonBoard" ({ cls := "PolygonBoard", name := "areaByCells", desc := "(I)I" } : Jvm.MethodName) ({ cls := "PolygonBoard", name := "areaByCells", desc := "(I)I" } : Jvm.MethodName)) ∈ lw_all := lw_g (lw_at lw_m5 114 rfl) rfl
theorem q1125 : (Jvm.Cond.code ({ cls := "PolygonBoard", name := "areaByCells", desc := "(I)I" } : Jvm.MethodName) prog_1_method_34_code (2 : Nat) (Option.some Jvm.ClassFile.FieldType.int)) ∈ lw_all := lw_g (lw_at lw_m5 115 rfl) rfl
theorem q1126 : (Jvm.Cond.methodLink "PolygonBoard" (204 : Nat) ({ cls := "PolygonBoard$Cells", name := "area", desc := "()I" } : Jvm.MethodName)) ∈ lw_all := lw_g (lw_at lw_m5 116 rfl) rfl
theorem q1140 : (Jvm.Cond.instanceMethod ({ cls := "PolygonBoard", name := "perimeter", desc := "(I)I" } : Jvm.MethodName)) ∈ lw_all := lw_g (lw_at lw_m5 130 rfl) rfl
theorem q1141 : (Jvm.Cond.selects "PolygonBoard" ({ cls := "PolygonBoard", name := "perimeter", desc := "(I)I" } : Jvm.MethodName) ({ cls := "PolygonBoard", name := "perimeter", desc := "(I)I" } : Jvm.MethodName)) ∈ lw_all := lw_g (lw_at lw_m5 131 rfl) rfl
theorem q1142 : (Jvm.Cond.code ({ cls := "PolygonBoard", name := "perimeter", desc := "(I)I" } : Jvm.MethodName) prog_1_method_35_code (2 : Nat) (Option.some Jvm.ClassFile.FieldType.int)) ∈ lw_all := lw_g (lw_at lw_m5 132 rfl) rfl
theorem q1143 : (Jvm.Cond.methodLink "PolygonBoard" (205 : Nat) ({ cls := "PolygonBoard$Region", name := "perimeter", desc := "()I" } : Jvm.MethodName)) ∈ lw_all := lw_g (lw_at lw_m5 133 rfl) rfl
theorem q1168 : (Jvm.Cond.instanceMethod ({ cls := "PolygonBoard", name := "perimeterByCells", desc := "(I)I" } : Jvm.MethodName)) ∈ lw_all := lw_g (lw_at lw_m5 158 rfl) rfl
theorem q1169 : (Jvm.Cond.selects "PolygonBoard" ({ cls := "PolygonBoard", name := "perimeterByCells", desc := "(I)I" } : Jvm.MethodName) ({ cls := "PolygonBoard", name := "perimeterByCells", desc := "(I)I" } : Jvm.MethodName)) ∈ lw_all := lw_g (lw_at lw_m5 159 rfl) rfl
theorem q1170 : (Jvm.Cond.code ({ cls := "PolygonBoard", name := "perimeterByCells", desc := "(I)I" } : Jvm.MethodName) prog_1_method_36_code (2 : Nat) (Option.some Jvm.ClassFile.FieldType.int)) ∈ lw_all := lw_g (lw_at lw_m5 160 rfl) rfl
theorem q1171 : (Jvm.Cond.methodLink "PolygonBoard" (208 : Nat) ({ cls := "PolygonBoard$Cells", name := "perimeter", desc := "()I" } : Jvm.MethodName)) ∈ lw_all := lw_g (lw_at lw_m5 161 rfl) rfl
theorem q1184 : (Jvm.Cond.instanceMethod ({ cls := "PolygonBoard", name := "bandCount", desc := "(I)I" } : Jvm.MethodName)) ∈ lw_all := lw_g (lw_at lw_m5 174 rfl) rfl
theorem q1185 : (Jvm.Cond.selects "PolygonBoard" ({ cls := "PolygonBoard", name := "bandCount", desc := "(I)I" } : Jvm.MethodName) ({ cls := "PolygonBoard", name := "bandCount", desc := "(I)I" } : Jvm.MethodName)) ∈ lw_all := lw_g (lw_at lw_m5 175 rfl) rfl
theorem q1186 : (Jvm.Cond.code ({ cls := "PolygonBoard", name := "bandCount", desc := "(I)I" } : Jvm.MethodName) prog_1_method_37_code (2 : Nat) (Option.some Jvm.ClassFile.FieldType.int)) ∈ lw_all := lw_g (lw_at lw_m5 176 rfl) rfl
theorem q1187 : (Jvm.Cond.interfaceEntry "PolygonBoard" (212 : Nat)) ∈ lw_tbl := lw_at lw_m5 177 rfl
theorem q1188 : (Jvm.Cond.methodLink "PolygonBoard" (212 : Nat) ({ cls := "java/util/List", name := "size", desc := "()I" } : Jvm.MethodName)) ∈ lw_all := lw_g (lw_at lw_m5 178 rfl) rfl
theorem q1193 : (Jvm.Cond.instanceMethod ({ cls := "PolygonBoard", name := "rectangleCount", desc := "(I)I" } : Jvm.MethodName)) ∈ lw_all := lw_g (lw_at lw_m5 183 rfl) rfl
theorem q1194 : (Jvm.Cond.selects "PolygonBoard" ({ cls := "PolygonBoard", name := "rectangleCount", desc := "(I)I" } : Jvm.MethodName) ({ cls := "PolygonBoard", name := "rectangleCount", desc := "(I)I" } : Jvm.MethodName)) ∈ lw_all := lw_g (lw_at lw_m5 184 rfl) rfl
theorem q1195 : (Jvm.Cond.code ({ cls := "PolygonBoard", name := "rectangleCount", desc := "(I)I" } : Jvm.MethodName) prog_1_method_38_code (3 : Nat) (Option.some Jvm.ClassFile.FieldType.int)) ∈ lw_all := lw_g (lw_at lw_m5 185 rfl) rfl
theorem q1196 : (Jvm.Cond.classLink "PolygonBoard" (215 : Nat) "PolygonBoard$AreaScan") ∈ lw_all := lw_g (lw_at lw_m5 186 rfl) rfl
theorem q1197 : (Jvm.Cond.methodLinkNest "PolygonBoard" (217 : Nat) ({ cls := "PolygonBoard$AreaScan", name := "<init>", desc := "()V" } : Jvm.MethodName) "PolygonBoard") ∈ lw_tbl := lw_at lw_m5 187 rfl
theorem q1198 : (Jvm.Cond.methodLink "PolygonBoard" (218 : Nat) ({ cls := "PolygonBoard$Scan", name := "scan", desc := "(LPolygonBoard$Region;)V" } : Jvm.MethodName)) ∈ lw_all := lw_g (lw_at lw_m5 188 rfl) rfl
theorem q1203 : (Jvm.Cond.instanceMethod ({ cls := "PolygonBoard", name := "partCount", desc := "(I)I" } : Jvm.MethodName)) ∈ lw_all := lw_g (lw_at lw_m5 193 rfl) rfl
theorem q1204 : (Jvm.Cond.selects "PolygonBoard" ({ cls := "PolygonBoard", name := "partCount", desc := "(I)I" } : Jvm.MethodName) ({ cls := "PolygonBoard", name := "partCount", desc := "(I)I" } : Jvm.MethodName)) ∈ lw_all := lw_g (lw_at lw_m5 194 rfl) rfl
theorem q1205 : (Jvm.Cond.code ({ cls := "PolygonBoard", name := "partCount", desc := "(I)I" } : Jvm.MethodName) prog_1_method_39_code (2 : Nat) (Option.some Jvm.ClassFile.FieldType.int)) ∈ lw_all := lw_g (lw_at lw_m5 195 rfl) rfl
theorem q1210 : (Jvm.Cond.instanceMethod ({ cls := "PolygonBoard", name := "partCountByCells", desc := "(I)I" } : Jvm.MethodName)) ∈ lw_all := lw_g (lw_at lw_m5 200 rfl) rfl
theorem q1211 : (Jvm.Cond.selects "PolygonBoard" ({ cls := "PolygonBoard", name := "partCountByCells", desc := "(I)I" } : Jvm.MethodName) ({ cls := "PolygonBoard", name := "partCountByCells", desc := "(I)I" } : Jvm.MethodName)) ∈ lw_all := lw_g (lw_at lw_m5 201 rfl) rfl
theorem q1212 : (Jvm.Cond.code ({ cls := "PolygonBoard", name := "partCountByCells", desc := "(I)I" } : Jvm.MethodName) prog_1_method_40_code (2 : Nat) (Option.some Jvm.ClassFile.FieldType.int)) ∈ lw_all := lw_g (lw_at lw_m5 202 rfl) rfl
theorem q1213 : (Jvm.Cond.methodLink "PolygonBoard" (227 : Nat) ({ cls := "PolygonBoard$Cells", name := "countParts", desc := "(Z)I" } : Jvm.MethodName)) ∈ lw_all := lw_g (lw_at lw_m5 203 rfl) rfl
theorem q1221 : (Jvm.Cond.instanceMethod ({ cls := "PolygonBoard", name := "holeCount", desc := "(I)I" } : Jvm.MethodName)) ∈ lw_all := lw_g (lw_at lw_m5 211 rfl) rfl
theorem q1222 : (Jvm.Cond.selects "PolygonBoard" ({ cls := "PolygonBoard", name := "holeCount", desc := "(I)I" } : Jvm.MethodName) ({ cls := "PolygonBoard", name := "holeCount", desc := "(I)I" } : Jvm.MethodName)) ∈ lw_all := lw_g (lw_at lw_m5 212 rfl) rfl
theorem q1223 : (Jvm.Cond.code ({ cls := "PolygonBoard", name := "holeCount", desc := "(I)I" } : Jvm.MethodName) prog_1_method_41_code (5 : Nat) (Option.some Jvm.ClassFile.FieldType.int)) ∈ lw_all := lw_g (lw_at lw_m5 213 rfl) rfl
theorem q1224 : (Jvm.Cond.classLink "PolygonBoard" (231 : Nat) "PolygonBoard$Tracer") ∈ lw_all := lw_g (lw_at lw_m5 214 rfl) rfl
theorem q1226 : (Jvm.Cond.methodLink "PolygonBoard" (233 : Nat) ({ cls := "PolygonBoard$Tracer", name := "<init>", desc := "(LPolygonBoard$Region;)V" } : Jvm.MethodName)) ∈ lw_all := lw_g (lw_at lw_m5 216 rfl) rfl
theorem q1251 : (Jvm.Cond.fieldLinkNest "PolygonBoard" (339 : Nat) "PolygonBoard$Outline" "xs" "Ljava/util/List;" "PolygonBoard") ∈ lw_tbl := lw_at lw_m6 1 rfl
theorem q1253 : (Jvm.Cond.fieldLinkNest "PolygonBoard" (346 : Nat) "PolygonBoard$Outline" "ys" "Ljava/util/List;" "PolygonBoard") ∈ lw_tbl := lw_at lw_m6 3 rfl
theorem q1255 : (Jvm.Cond.fieldLinkNest "PolygonBoard" (253 : Nat) "PolygonBoard$Outline" "area" "I" "PolygonBoard") ∈ lw_tbl := lw_at lw_m6 5 rfl
theorem q1308 : (Jvm.Cond.fieldLinkNest "PolygonBoard" (235 : Nat) "PolygonBoard$Tracer" "outlines" "Ljava/util/List;" "PolygonBoard") ∈ lw_tbl := lw_at lw_m6 58 rfl
theorem q1316 : (Jvm.Cond.interfaceEntry "PolygonBoard" (238 : Nat)) ∈ lw_tbl := lw_at lw_m6 66 rfl
theorem q1317 : (Jvm.Cond.methodLink "PolygonBoard" (238 : Nat) ({ cls := "java/util/List", name := "iterator", desc := "()Ljava/util/Iterator;" } : Jvm.MethodName)) ∈ lw_all := lw_g (lw_at lw_m6 67 rfl) rfl
theorem q1318 : (Jvm.Cond.interfaceEntry "PolygonBoard" (242 : Nat)) ∈ lw_tbl := lw_at lw_m6 68 rfl
theorem q1319 : (Jvm.Cond.methodLink "PolygonBoard" (242 : Nat) ({ cls := "java/util/Iterator", name := "hasNext", desc := "()Z" } : Jvm.MethodName)) ∈ lw_all := lw_g (lw_at lw_m6 69 rfl) rfl
theorem q1320 : (Jvm.Cond.interfaceEntry "PolygonBoard" (247 : Nat)) ∈ lw_tbl := lw_at lw_m6 70 rfl
theorem q1321 : (Jvm.Cond.methodLink "PolygonBoard" (247 : Nat) ({ cls := "java/util/Iterator", name := "next", desc := "()Ljava/lang/Object;" } : Jvm.MethodName)) ∈ lw_all := lw_g (lw_at lw_m6 71 rfl) rfl
theorem q1322 : (Jvm.Cond.classLink "PolygonBoard" (251 : Nat) "PolygonBoard$Outline") ∈ lw_all := lw_g (lw_at lw_m6 72 rfl) rfl
theorem q1327 : (Jvm.Cond.instanceMethod ({ cls := "PolygonBoard", name := "holeCountByCells", desc := "(I)I" } : Jvm.MethodName)) ∈ lw_all := lw_g (lw_at lw_m6 77 rfl) rfl
theorem q1328 : (Jvm.Cond.selects "PolygonBoard" ({ cls := "PolygonBoard", name := "holeCountByCells", desc := "(I)I" } : Jvm.MethodName) ({ cls := "PolygonBoard", name := "holeCountByCells", desc := "(I)I" } : Jvm.MethodName)) ∈ lw_all := lw_g (lw_at lw_m6 78 rfl) rfl
theorem q1329 : (Jvm.Cond.code ({ cls := "PolygonBoard", name := "holeCountByCells", desc := "(I)I" } : Jvm.MethodName) prog_1_method_42_code (2 : Nat) (Option.some Jvm.ClassFile.FieldType.int)) ∈ lw_all := lw_g (lw_at lw_m6 79 rfl) rfl
theorem q1334 : (Jvm.Cond.instanceMethod ({ cls := "PolygonBoard", name := "isSame", desc := "(II)Z" } : Jvm.MethodName)) ∈ lw_all := lw_g (lw_at lw_m6 84 rfl) rfl
theorem q1335 : (Jvm.Cond.selects "PolygonBoard" ({ cls := "PolygonBoard", name := "isSame", desc := "(II)Z" } : Jvm.MethodName) ({ cls := "PolygonBoard", name := "isSame", desc := "(II)Z" } : Jvm.MethodName)) ∈ lw_all := lw_g (lw_at lw_m6 85 rfl) rfl
theorem q1336 : (Jvm.Cond.code ({ cls := "PolygonBoard", name := "isSame", desc := "(II)Z" } : Jvm.MethodName) prog_1_method_43_code (4 : Nat) (Option.some Jvm.ClassFile.FieldType.boolean)) ∈ lw_all := lw_g (lw_at lw_m6 86 rfl) rfl
theorem q1337 : (Jvm.Cond.fieldLink "PolygonBoard" (255 : Nat) "PolygonBoard$Operation" "EXCLUSIVE" "LPolygonBoard$Operation;") ∈ lw_all := lw_g (lw_at lw_m6 87 rfl) rfl
theorem q1338 : (Jvm.Cond.methodLink "PolygonBoard" (50 : Nat) ({ cls := "PolygonBoard$Region", name := "isEmpty", desc := "()Z" } : Jvm.MethodName)) ∈ lw_all := lw_g (lw_at lw_m6 88 rfl) rfl
theorem q1343 : (Jvm.Cond.instanceMethod ({ cls := "PolygonBoard", name := "covers", desc := "(II)Z" } : Jvm.MethodName)) ∈ lw_all := lw_g (lw_at lw_m6 93 rfl) rfl
theorem q1344 : (Jvm.Cond.selects "PolygonBoard" ({ cls := "PolygonBoard", name := "covers", desc := "(II)Z" } : Jvm.MethodName) ({ cls := "PolygonBoard", name := "covers", desc := "(II)Z" } : Jvm.MethodName)) ∈ lw_all := lw_g (lw_at lw_m6 94 rfl) rfl
theorem q1345 : (Jvm.Cond.code ({ cls := "PolygonBoard", name := "covers", desc := "(II)Z" } : Jvm.MethodName) prog_1_method_44_code (4 : Nat) (Option.some Jvm.ClassFile.FieldType.boolean)) ∈ lw_all := lw_g (lw_at lw_m6 95 rfl) rfl
theorem q1350 : (Jvm.Cond.instanceMethod ({ cls := "PolygonBoard", name := "left", desc := "(I)I" } : Jvm.MethodName)) ∈ lw_all := lw_g (lw_at lw_m6 100 rfl) rfl
theorem q1351 : (Jvm.Cond.selects "PolygonBoard" ({ cls := "PolygonBoard", name := "left", desc := "(I)I" } : Jvm.MethodName) ({ cls := "PolygonBoard", name := "left", desc := "(I)I" } : Jvm.MethodName)) ∈ lw_all := lw_g (lw_at lw_m6 101 rfl) rfl
theorem q1352 : (Jvm.Cond.code ({ cls := "PolygonBoard", name := "left", desc := "(I)I" } : Jvm.MethodName) prog_1_method_45_code (2 : Nat) (Option.some Jvm.ClassFile.FieldType.int)) ∈ lw_all := lw_g (lw_at lw_m6 102 rfl) rfl
theorem q1353 : (Jvm.Cond.methodLink "PolygonBoard" (258 : Nat) ({ cls := "PolygonBoard", name := "checkedRegion", desc := "(I)LPolygonBoard$Region;" } : Jvm.MethodName)) ∈ lw_all := lw_g (lw_at lw_m6 103 rfl) rfl
theorem q1354 : (Jvm.Cond.privateMethod ({ cls := "PolygonBoard", name := "checkedRegion", desc := "(I)LPolygonBoard$Region;" } : Jvm.MethodName)) ∈ lw_tbl := lw_at lw_m6 104 rfl
theorem q1355 : (Jvm.Cond.instanceMethod ({ cls := "PolygonBoard", name := "checkedRegion", desc := "(I)LPolygonBoard$Region;" } : Jvm.MethodName)) ∈ lw_all := lw_g (lw_at lw_m6 105 rfl) rfl
theorem q1356 : (Jvm.Cond.code ({ cls := "PolygonBoard", name := "checkedRegion", desc := "(I)LPolygonBoard$Region;" } : Jvm.MethodName) prog_1_method_9_code (3 : Nat) (Option.some (Jvm.ClassFile.FieldType.object "PolygonBoard$Region"))) ∈ lw_all := lw_g (lw_at lw_m6 106 rfl) rfl
theorem q1357 : (Jvm.Cond.methodLink "PolygonBoard" (261 : Nat) ({ cls := "PolygonBoard$Region", name := "left", desc := "()I" } : Jvm.MethodName)) ∈ lw_all := lw_g (lw_at lw_m6 107 rfl) rfl
theorem q1366 : (Jvm.Cond.instanceMethod ({ cls := "PolygonBoard", name := "right", desc := "(I)I" } : Jvm.MethodName)) ∈ lw_all := lw_g (lw_at lw_m6 116 rfl) rfl
theorem q1367 : (Jvm.Cond.selects "PolygonBoard" ({ cls := "PolygonBoard", name := "right", desc := "(I)I" } : Jvm.MethodName) ({ cls := "PolygonBoard", name := "right", desc := "(I)I" } : Jvm.MethodName)) ∈ lw_all := lw_g (lw_at lw_m6 117 rfl) rfl
theorem q1368 : (Jvm.Cond.code ({ cls := "PolygonBoard", name := "right", desc := "(I)I" } : Jvm.MethodName) prog_1_method_46_code (2 : Nat) (Option.some Jvm.ClassFile.FieldType.int)) ∈ lw_all := lw_g (lw_at lw_m6 118 rfl) rfl
theorem q1369 : (Jvm.Cond.methodLink "PolygonBoard" (264 : Nat) ({ cls := "PolygonBoard$Region", name := "right", desc := "()I" } : Jvm.MethodName)) ∈ lw_all := lw_g (lw_at lw_m6 119 rfl) rfl
theorem q1378 : (Jvm.Cond.instanceMethod ({ cls := "PolygonBoard", name := "bottom", desc := "(I)I" } : Jvm.MethodName)) ∈ lw_all := lw_g (lw_at lw_m6 128 rfl) rfl
theorem q1379 : (Jvm.Cond.selects "PolygonBoard" ({ cls := "PolygonBoard", name := "bottom", desc := "(I)I" } : Jvm.MethodName) ({ cls := "PolygonBoard", name := "bottom", desc := "(I)I" } : Jvm.MethodName)) ∈ lw_all := lw_g (lw_at lw_m6 129 rfl) rfl
theorem q1380 : (Jvm.Cond.code ({ cls := "PolygonBoard", name := "bottom", desc := "(I)I" } : Jvm.MethodName) prog_1_method_47_code (2 : Nat) (Option.some Jvm.ClassFile.FieldType.int)) ∈ lw_all := lw_g (lw_at lw_m6 130 rfl) rfl
theorem q1381 : (Jvm.Cond.methodLink "PolygonBoard" (267 : Nat) ({ cls := "PolygonBoard$Region", name := "bottom", desc := "()I" } : Jvm.MethodName)) ∈ lw_all := lw_g (lw_at lw_m6 131 rfl) rfl
theorem q1389 : (Jvm.Cond.instanceMethod ({ cls := "PolygonBoard", name := "top", desc := "(I)I" } : Jvm.MethodName)) ∈ lw_all := lw_g (lw_at lw_m6 139 rfl) rfl
theorem q1390 : (Jvm.Cond.selects "PolygonBoard" ({ cls := "PolygonBoard", name := "top", desc := "(I)I" } : Jvm.MethodName) ({ cls := "PolygonBoard", name := "top", desc := "(I)I" } : Jvm.MethodName)) ∈ lw_all := lw_g (lw_at lw_m6 140 rfl) rfl
theorem q1391 : (Jvm.Cond.code ({ cls := "PolygonBoard", name := "top", desc := "(I)I" } : Jvm.MethodName) prog_1_method_48_code (2 : Nat) (Option.some Jvm.ClassFile.FieldType.int)) ∈ lw_all := lw_g (lw_at lw_m6 141 rfl) rfl
theorem q1392 : (Jvm.Cond.methodLink "PolygonBoard" (270 : Nat) ({ cls := "PolygonBoard$Region", name := "top", desc := "()I" } : Jvm.MethodName)) ∈ lw_all := lw_g (lw_at lw_m6 142 rfl) rfl
theorem q1397 : (Jvm.Cond.instanceMethod ({ cls := "PolygonBoard", name := "largestRectangle", desc := "(I)I" } : Jvm.MethodName)) ∈ lw_all := lw_g (lw_at lw_m6 147 rfl) rfl
theorem q1398 : (Jvm.Cond.selects "PolygonBoard" ({ cls := "PolygonBoard", name := "largestRectangle", desc := "(I)I" } : Jvm.MethodName) ({ cls := "PolygonBoard", name := "largestRectangle", desc := "(I)I" } : Jvm.MethodName)) ∈ lw_all := lw_g (lw_at lw_m6 148 rfl) rfl
theorem q1399 : (Jvm.Cond.code ({ cls := "PolygonBoard", name := "largestRectangle", desc := "(I)I" } : Jvm.MethodName) prog_1_method_49_code (2 : Nat) (Option.some Jvm.ClassFile.FieldType.int)) ∈ lw_all := lw_g (lw_at lw_m6 149 rfl) rfl
theorem q1400 : (Jvm.Cond.classLink "PolygonBoard" (273 : Nat) "PolygonBoard$RangeSearch") ∈ lw_all := lw_g (lw_at lw_m6 150 rfl) rfl
theorem q1402 : (Jvm.Cond.methodLink "PolygonBoard" (275 : Nat) ({ cls := "PolygonBoard$RangeSearch", name := "<init>", desc := "(LPolygonBoard$Region;)V" } : Jvm.MethodName)) ∈ lw_all := lw_g (lw_at lw_m6 152 rfl) rfl
theorem q1427 : (Jvm.Cond.fieldLinkNest "PolygonBoard" (276 : Nat) "PolygonBoard$RangeSearch" "largestArea" "I" "PolygonBoard") ∈ lw_tbl := lw_at lw_m6 177 rfl
theorem q1429 : (Jvm.Cond.fieldLinkNest "PolygonBoard" (282 : Nat) "PolygonBoard$RangeSearch" "largestSide" "I" "PolygonBoard") ∈ lw_tbl := lw_at lw_m6 179 rfl
theorem q1439 : (Jvm.Cond.instanceMethod ({ cls := "PolygonBoard", name := "largestRectangleByCells", desc := "(I)I" } : Jvm.MethodName)) ∈ lw_all := lw_g (lw_at lw_m6 189 rfl) rfl
theorem q1440 : (Jvm.Cond.selects "PolygonBoard" ({ cls := "PolygonBoard", name := "largestRectangleByCells", desc := "(I)I" } : Jvm.MethodName) ({ cls := "PolygonBoard", name := "largestRectangleByCells", desc := "(I)I" } : Jvm.MethodName)) ∈ lw_all := lw_g (lw_at lw_m6 190 rfl) rfl
theorem q1441 : (Jvm.Cond.code ({ cls := "PolygonBoard", name := "largestRectangleByCells", desc := "(I)I" } : Jvm.MethodName) prog_1_method_50_code (2 : Nat) (Option.some Jvm.ClassFile.FieldType.int)) ∈ lw_all := lw_g (lw_at lw_m6 191 rfl) rfl
theorem q1442 : (Jvm.Cond.methodLink "PolygonBoard" (279 : Nat) ({ cls := "PolygonBoard$Cells", name := "largestRectangle", desc := "()I" } : Jvm.MethodName)) ∈ lw_all := lw_g (lw_at lw_m6 192 rfl) rfl
theorem q1526 : (Jvm.Cond.instanceMethod ({ cls := "PolygonBoard", name := "largestSquare", desc := "(I)I" } : Jvm.MethodName)) ∈ lw_all := lw_g (lw_at lw_m7 36 rfl) rfl
theorem q1527 : (Jvm.Cond.selects "PolygonBoard" ({ cls := "PolygonBoard", name := "largestSquare", desc := "(I)I" } : Jvm.MethodName) ({ cls := "PolygonBoard", name := "largestSquare", desc := "(I)I" } : Jvm.MethodName)) ∈ lw_all := lw_g (lw_at lw_m7 37 rfl) rfl
theorem q1528 : (Jvm.Cond.code ({ cls := "PolygonBoard", name := "largestSquare", desc := "(I)I" } : Jvm.MethodName) prog_1_method_51_code (2 : Nat) (Option.some Jvm.ClassFile.FieldType.int)) ∈ lw_all := lw_g (lw_at lw_m7 38 rfl) rfl
theorem q1533 : (Jvm.Cond.instanceMethod ({ cls := "PolygonBoard", name := "largestSquareByCells", desc := "(I)I" } : Jvm.MethodName)) ∈ lw_all := lw_g (lw_at lw_m7 43 rfl) rfl
theorem q1534 : (Jvm.Cond.selects "PolygonBoard" ({ cls := "PolygonBoard", name := "largestSquareByCells", desc := "(I)I" } : Jvm.MethodName) ({ cls := "PolygonBoard", name := "largestSquareByCells", desc := "(I)I" } : Jvm.MethodName)) ∈ lw_all := lw_g (lw_at lw_m7 44 rfl) rfl
theorem q1535 : (Jvm.Cond.code ({ cls := "PolygonBoard", name := "largestSquareByCells", desc := "(I)I" } : Jvm.MethodName) prog_1_method_52_code (2 : Nat) (Option.some Jvm.ClassFile.FieldType.int)) ∈ lw_all := lw_g (lw_at lw_m7 45 rfl) rfl
theorem q1536 : (Jvm.Cond.methodLink "PolygonBoard" (285 : Nat) ({ cls := "PolygonBoard$Cells", name := "largestSquare", desc := "()I" } : Jvm.MethodName)) ∈ lw_all := lw_g (lw_at lw_m7 46 rfl) rfl
theorem q1545 : (Jvm.Cond.instanceMethod ({ cls := "PolygonBoard", name := "steps", desc := "(IIIII)I" } : Jvm.MethodName)) ∈ lw_all := lw_g (lw_at lw_m7 55 rfl) rfl
theorem q1546 : (Jvm.Cond.selects "PolygonBoard" ({ cls := "PolygonBoard", name := "steps", desc := "(IIIII)I" } : Jvm.MethodName) ({ cls := "PolygonBoard", name := "steps", desc := "(IIIII)I" } : Jvm.MethodName)) ∈ lw_all := lw_g (lw_at lw_m7 56 rfl) rfl
theorem q1547 : (Jvm.Cond.code ({ cls := "PolygonBoard", name := "steps", desc := "(IIIII)I" } : Jvm.MethodName) prog_1_method_56_code (7 : Nat) (Option.some Jvm.ClassFile.FieldType.int)) ∈ lw_all := lw_g (lw_at lw_m7 57 rfl) rfl
theorem q1548 : (Jvm.Cond.methodLink "PolygonBoard" (316 : Nat) ({ cls := "PolygonBoard", name := "checkedCells", desc := "(IIIII)LPolygonBoard$Cells;" } : Jvm.MethodName)) ∈ lw_all := lw_g (lw_at lw_m7 58 rfl) rfl
theorem q1549 : (Jvm.Cond.privateMethod ({ cls := "PolygonBoard", name := "checkedCells", desc := "(IIIII)LPolygonBoard$Cells;" } : Jvm.MethodName)) ∈ lw_tbl := lw_at lw_m7 59 rfl
theorem q1550 : (Jvm.Cond.instanceMethod ({ cls := "PolygonBoard", name := "checkedCells", desc := "(IIIII)LPolygonBoard$Cells;" } : Jvm.MethodName)) ∈ lw_all := lw_g (lw_at lw_m7 60 rfl) rfl
theorem q1551 : (Jvm.Cond.code ({ cls := "PolygonBoard", name := "checkedCells", desc := "(IIIII)LPolygonBoard$Cells;" } : Jvm.MethodName) prog_1_method_53_code (7 : Nat) (Option.some (Jvm.ClassFile.FieldType.object "PolygonBoard$Cells"))) ∈ lw_all := lw_g (lw_at lw_m7 61 rfl) rfl
theorem q1552 : (Jvm.Cond.methodLink "PolygonBoard" (320 : Nat) ({ cls := "PolygonBoard", name := "stepsFrom", desc := "(LPolygonBoard$Cells;I)[I" } : Jvm.MethodName)) ∈ lw_all := lw_g (lw_at lw_m7 62 rfl) rfl
theorem q1553 : (Jvm.Cond.static ({ cls := "PolygonBoard", name := "stepsFrom", desc := "(LPolygonBoard$Cells;I)[I" } : Jvm.MethodName)) ∈ lw_all := lw_g (lw_at lw_m7 63 rfl) rfl
theorem q1554 : (Jvm.Cond.code ({ cls := "PolygonBoard", name := "stepsFrom", desc := "(LPolygonBoard$Cells;I)[I" } : Jvm.MethodName) prog_1_method_55_code (8 : Nat) (Option.some (Jvm.ClassFile.FieldType.array Jvm.ClassFile.FieldType.int))) ∈ lw_all := lw_g (lw_at lw_m7 64 rfl) rfl
theorem q1555 : (Jvm.Cond.classLink "PolygonBoard" (288 : Nat) "java/util/ArrayDeque") ∈ lw_all := lw_g (lw_at lw_m7 65 rfl) rfl
theorem q1556 : (Jvm.Cond.methodLink "PolygonBoard" (290 : Nat) ({ cls := "java/util/ArrayDeque", name := "<init>", desc := "()V" } : Jvm.MethodName)) ∈ lw_all := lw_g (lw_at lw_m7 66 rfl) rfl
theorem q1557 : (Jvm.Cond.methodLink "PolygonBoard" (291 : Nat) ({ cls := "java/lang/Integer", name := "valueOf", desc := "(I)Ljava/lang/Integer;" } : Jvm.MethodName)) ∈ lw_all := lw_g (lw_at lw_m7 67 rfl) rfl
theorem q1558 : (Jvm.Cond.methodLink "PolygonBoard" (297 : Nat) ({ cls := "java/util/ArrayDeque", name := "addLast", desc := "(Ljava/lang/Object;)V" } : Jvm.MethodName)) ∈ lw_all := lw_g (lw_at lw_m7 68 rfl) rfl
theorem q1559 : (Jvm.Cond.methodLink "PolygonBoard" (301 : Nat) ({ cls := "java/util/ArrayDeque", name := "isEmpty", desc := "()Z" } : Jvm.MethodName)) ∈ lw_all := lw_g (lw_at lw_m7 69 rfl) rfl
theorem q1560 : (Jvm.Cond.methodLink "PolygonBoard" (302 : Nat) ({ cls := "java/util/ArrayDeque", name := "removeFirst", desc := "()Ljava/lang/Object;" } : Jvm.MethodName)) ∈ lw_all := lw_g (lw_at lw_m7 70 rfl) rfl
theorem q1568 : (Jvm.Cond.classLink "PolygonBoard" (292 : Nat) "java/lang/Integer") ∈ lw_all := lw_g (lw_at lw_m7 78 rfl) rfl
theorem q1569 : (Jvm.Cond.methodLink "PolygonBoard" (305 : Nat) ({ cls := "java/lang/Integer", name := "intValue", desc := "()I" } : Jvm.MethodName)) ∈ lw_all := lw_g (lw_at lw_m7 79 rfl) rfl
theorem q1570 : (Jvm.Cond.methodLinkNest "PolygonBoard" (308 : Nat) ({ cls := "PolygonBoard$Tracer", name := "stepX", desc := "(I)I" } : Jvm.MethodName) "PolygonBoard") ∈ lw_tbl := lw_at lw_m7 80 rfl
theorem q1571 : (Jvm.Cond.methodLinkNest "PolygonBoard" (312 : Nat) ({ cls := "PolygonBoard$Tracer", name := "stepY", desc := "(I)I" } : Jvm.MethodName) "PolygonBoard") ∈ lw_tbl := lw_at lw_m7 81 rfl
theorem q1572 : (Jvm.Cond.methodLink "PolygonBoard" (315 : Nat) ({ cls := "PolygonBoard$Cells", name := "contains", desc := "(II)Z" } : Jvm.MethodName)) ∈ lw_all := lw_g (lw_at lw_m7 82 rfl) rfl
theorem q1573 : (Jvm.Cond.methodLink "PolygonBoard" (324 : Nat) ({ cls := "PolygonBoard", name := "found", desc := "(I)I" } : Jvm.MethodName)) ∈ lw_all := lw_g (lw_at lw_m7 83 rfl) rfl
theorem q1574 : (Jvm.Cond.static ({ cls := "PolygonBoard", name := "found", desc := "(I)I" } : Jvm.MethodName)) ∈ lw_all := lw_g (lw_at lw_m7 84 rfl) rfl
theorem q1575 : (Jvm.Cond.code ({ cls := "PolygonBoard", name := "found", desc := "(I)I" } : Jvm.MethodName) prog_1_method_54_code (1 : Nat) (Option.some Jvm.ClassFile.FieldType.int)) ∈ lw_all := lw_g (lw_at lw_m7 85 rfl) rfl
theorem q1580 : (Jvm.Cond.instanceMethod ({ cls := "PolygonBoard", name := "stepsByRows", desc := "(IIIII)I" } : Jvm.MethodName)) ∈ lw_all := lw_g (lw_at lw_m7 90 rfl) rfl
theorem q1581 : (Jvm.Cond.selects "PolygonBoard" ({ cls := "PolygonBoard", name := "stepsByRows", desc := "(IIIII)I" } : Jvm.MethodName) ({ cls := "PolygonBoard", name := "stepsByRows", desc := "(IIIII)I" } : Jvm.MethodName)) ∈ lw_all := lw_g (lw_at lw_m7 91 rfl) rfl
theorem q1582 : (Jvm.Cond.code ({ cls := "PolygonBoard", name := "stepsByRows", desc := "(IIIII)I" } : Jvm.MethodName) prog_1_method_57_code (10 : Nat) (Option.some Jvm.ClassFile.FieldType.int)) ∈ lw_all := lw_g (lw_at lw_m7 92 rfl) rfl
theorem q1583 : (Jvm.Cond.methodLink "PolygonBoard" (327 : Nat) ({ cls := "PolygonBoard$Cells", name := "at", desc := "(II)LPolygonBoard$Cells;" } : Jvm.MethodName)) ∈ lw_all := lw_g (lw_at lw_m7 93 rfl) rfl
theorem q1584 : (Jvm.Cond.methodLink "PolygonBoard" (331 : Nat) ({ cls := "PolygonBoard$Cells", name := "spread", desc := "(LPolygonBoard$Cells;Z)Z" } : Jvm.MethodName)) ∈ lw_all := lw_g (lw_at lw_m7 94 rfl) rfl
theorem q1589 : (Jvm.Cond.instanceMethod ({ cls := "PolygonBoard", name := "outlineCount", desc := "(I)I" } : Jvm.MethodName)) ∈ lw_all := lw_g (lw_at lw_m7 99 rfl) rfl
theorem q1590 : (Jvm.Cond.selects "PolygonBoard" ({ cls := "PolygonBoard", name := "outlineCount", desc := "(I)I" } : Jvm.MethodName) ({ cls := "PolygonBoard", name := "outlineCount", desc := "(I)I" } : Jvm.MethodName)) ∈ lw_all := lw_g (lw_at lw_m7 100 rfl) rfl
theorem q1591 : (Jvm.Cond.code ({ cls := "PolygonBoard", name := "outlineCount", desc := "(I)I" } : Jvm.MethodName) prog_1_method_60_code (2 : Nat) (Option.some Jvm.ClassFile.FieldType.int)) ∈ lw_all := lw_g (lw_at lw_m7 101 rfl) rfl
theorem q1596 : (Jvm.Cond.instanceMethod ({ cls := "PolygonBoard", name := "cornerCount", desc := "(II)I" } : Jvm.MethodName)) ∈ lw_all := lw_g (lw_at lw_m7 106 rfl) rfl
theorem q1597 : (Jvm.Cond.selects "PolygonBoard" ({ cls := "PolygonBoard", name := "cornerCount", desc := "(II)I" } : Jvm.MethodName) ({ cls := "PolygonBoard", name := "cornerCount", desc := "(II)I" } : Jvm.MethodName)) ∈ lw_all := lw_g (lw_at lw_m7 107 rfl) rfl
theorem q1598 : (Jvm.Cond.code ({ cls := "PolygonBoard", name := "cornerCount", desc := "(II)I" } : Jvm.MethodName) prog_1_method_61_code (3 : Nat) (Option.some Jvm.ClassFile.FieldType.int)) ∈ lw_all := lw_g (lw_at lw_m7 108 rfl) rfl
theorem q1599 : (Jvm.Cond.methodLink "PolygonBoard" (335 : Nat) ({ cls := "PolygonBoard", name := "outline", desc := "(II)LPolygonBoard$Outline;" } : Jvm.MethodName)) ∈ lw_all := lw_g (lw_at lw_m7 109 rfl) rfl
theorem q1600 : (Jvm.Cond.privateMethod ({ cls := "PolygonBoard", name := "outline", desc := "(II)LPolygonBoard$Outline;" } : Jvm.MethodName)) ∈ lw_tbl := lw_at lw_m7 110 rfl
theorem q1601 : (Jvm.Cond.instanceMethod ({ cls := "PolygonBoard", name := "outline", desc := "(II)LPolygonBoard$Outline;" } : Jvm.MethodName)) ∈ lw_all := lw_g (lw_at lw_m7 111 rfl) rfl
theorem q1602 : (Jvm.Cond.code ({ cls := "PolygonBoard", name := "outline", desc := "(II)LPolygonBoard$Outline;" } : Jvm.MethodName) prog_1_method_58_code (4 : Nat) (Option.some (Jvm.ClassFile.FieldType.object "PolygonBoard$Outline"))) ∈ lw_all := lw_g (lw_at lw_m7 112 rfl) rfl
theorem q1607 : (Jvm.Cond.instanceMethod ({ cls := "PolygonBoard", name := "cornerX", desc := "(III)I" } : Jvm.MethodName)) ∈ lw_all := lw_g (lw_at lw_m7 117 rfl) rfl
theorem q1608 : (Jvm.Cond.selects "PolygonBoard" ({ cls := "PolygonBoard", name := "cornerX", desc := "(III)I" } : Jvm.MethodName) ({ cls := "PolygonBoard", name := "cornerX", desc := "(III)I" } : Jvm.MethodName)) ∈ lw_all := lw_g (lw_at lw_m7 118 rfl) rfl
theorem q1609 : (Jvm.Cond.code ({ cls := "PolygonBoard", name := "cornerX", desc := "(III)I" } : Jvm.MethodName) prog_1_method_62_code (4 : Nat) (Option.some Jvm.ClassFile.FieldType.int)) ∈ lw_all := lw_g (lw_at lw_m7 119 rfl) rfl
theorem q1610 : (Jvm.Cond.methodLink "PolygonBoard" (342 : Nat) ({ cls := "PolygonBoard", name := "outlineWith", desc := "(III)LPolygonBoard$Outline;" } : Jvm.MethodName)) ∈ lw_all := lw_g (lw_at lw_m7 120 rfl) rfl
theorem q1611 : (Jvm.Cond.privateMethod ({ cls := "PolygonBoard", name := "outlineWith", desc := "(III)LPolygonBoard$Outline;" } : Jvm.MethodName)) ∈ lw_tbl := lw_at lw_m7 121 rfl
theorem q1612 : (Jvm.Cond.instanceMethod ({ cls := "PolygonBoard", name := "outlineWith", desc := "(III)LPolygonBoard$Outline;" } : Jvm.MethodName)) ∈ lw_all := lw_g (lw_at lw_m7 122 rfl) rfl
theorem q1613 : (Jvm.Cond.code ({ cls := "PolygonBoard", name := "outlineWith", desc := "(III)LPolygonBoard$Outline;" } : Jvm.MethodName) prog_1_method_59_code (5 : Nat) (Option.some (Jvm.ClassFile.FieldType.object "PolygonBoard$Outline"))) ∈ lw_all := lw_g (lw_at lw_m7 123 rfl) rfl
theorem q1618 : (Jvm.Cond.instanceMethod ({ cls := "PolygonBoard", name := "cornerY", desc := "(III)I" } : Jvm.MethodName)) ∈ lw_all := lw_g (lw_at lw_m7 128 rfl) rfl
theorem q1619 : (Jvm.Cond.selects "PolygonBoard" ({ cls := "PolygonBoard", name := "cornerY", desc := "(III)I" } : Jvm.MethodName) ({ cls := "PolygonBoard", name := "cornerY", desc := "(III)I" } : Jvm.MethodName)) ∈ lw_all := lw_g (lw_at lw_m7 129 rfl) rfl
theorem q1620 : (Jvm.Cond.code ({ cls := "PolygonBoard", name := "cornerY", desc := "(III)I" } : Jvm.MethodName) prog_1_method_63_code (4 : Nat) (Option.some Jvm.ClassFile.FieldType.int)) ∈ lw_all := lw_g (lw_at lw_m7 130 rfl) rfl
theorem q1625 : (Jvm.Cond.instanceMethod ({ cls := "PolygonBoard", name := "signedArea", desc := "(II)I" } : Jvm.MethodName)) ∈ lw_all := lw_g (lw_at lw_m7 135 rfl) rfl
theorem q1626 : (Jvm.Cond.selects "PolygonBoard" ({ cls := "PolygonBoard", name := "signedArea", desc := "(II)I" } : Jvm.MethodName) ({ cls := "PolygonBoard", name := "signedArea", desc := "(II)I" } : Jvm.MethodName)) ∈ lw_all := lw_g (lw_at lw_m7 136 rfl) rfl
theorem q1627 : (Jvm.Cond.code ({ cls := "PolygonBoard", name := "signedArea", desc := "(II)I" } : Jvm.MethodName) prog_1_method_64_code (3 : Nat) (Option.some Jvm.ClassFile.FieldType.int)) ∈ lw_all := lw_g (lw_at lw_m7 137 rfl) rfl
theorem q1632 : (Jvm.Cond.instanceMethod ({ cls := "PolygonBoard", name := "moment", desc := "(I)J" } : Jvm.MethodName)) ∈ lw_all := lw_g (lw_at lw_m7 142 rfl) rfl
theorem q1633 : (Jvm.Cond.selects "PolygonBoard" ({ cls := "PolygonBoard", name := "moment", desc := "(I)J" } : Jvm.MethodName) ({ cls := "PolygonBoard", name := "moment", desc := "(I)J" } : Jvm.MethodName)) ∈ lw_all := lw_g (lw_at lw_m7 143 rfl) rfl
theorem q1634 : (Jvm.Cond.code ({ cls := "PolygonBoard", name := "moment", desc := "(I)J" } : Jvm.MethodName) prog_1_method_65_code (3 : Nat) (Option.some Jvm.ClassFile.FieldType.long)) ∈ lw_all := lw_g (lw_at lw_m7 144 rfl) rfl
theorem q1635 : (Jvm.Cond.classLink "PolygonBoard" (349 : Nat) "PolygonBoard$MomentScan") ∈ lw_all := lw_g (lw_at lw_m7 145 rfl) rfl
theorem q1637 : (Jvm.Cond.methodLinkNest "PolygonBoard" (351 : Nat) ({ cls := "PolygonBoard$MomentScan", name := "<init>", desc := "()V" } : Jvm.MethodName) "PolygonBoard") ∈ lw_tbl := lw_at lw_m7 147 rfl
theorem q1642 : (Jvm.Cond.fieldLinkNest "PolygonBoard" (353 : Nat) "PolygonBoard$MomentScan" "moment" "J" "PolygonBoard") ∈ lw_tbl := lw_at lw_m7 152 rfl
theorem q1646 : (Jvm.Cond.methodLink "PolygonBoard" (352 : Nat) ({ cls := "PolygonBoard$MomentScan", name := "scan", desc := "(LPolygonBoard$Region;)V" } : Jvm.MethodName)) ∈ lw_all := lw_g (lw_at lw_m7 156 rfl) rfl
theorem q1653 : (Jvm.Cond.instanceMethod ({ cls := "PolygonBoard", name := "momentByCells", desc := "(I)J" } : Jvm.MethodName)) ∈ lw_all := lw_g (lw_at lw_m7 163 rfl) rfl
theorem q1654 : (Jvm.Cond.selects "PolygonBoard" ({ cls := "PolygonBoard", name := "momentByCells", desc := "(I)J" } : Jvm.MethodName) ({ cls := "PolygonBoard", name := "momentByCells", desc := "(I)J" } : Jvm.MethodName)) ∈ lw_all := lw_g (lw_at lw_m7 164 rfl) rfl
theorem q1655 : (Jvm.Cond.code ({ cls := "PolygonBoard", name := "momentByCells", desc := "(I)J" } : Jvm.MethodName) prog_1_method_66_code (2 : Nat) (Option.some Jvm.ClassFile.FieldType.long)) ∈ lw_all := lw_g (lw_at lw_m7 165 rfl) rfl
theorem q1656 : (Jvm.Cond.methodLink "PolygonBoard" (357 : Nat) ({ cls := "PolygonBoard$Cells", name := "moment", desc := "()J" } : Jvm.MethodName)) ∈ lw_all := lw_g (lw_at lw_m7 166 rfl) rfl
theorem q1678 : (Jvm.Cond.instanceMethod ({ cls := "PolygonBoard", name := "middleX", desc := "(I)D" } : Jvm.MethodName)) ∈ lw_all := lw_g (lw_at lw_m7 188 rfl) rfl
theorem q1679 : (Jvm.Cond.selects "PolygonBoard" ({ cls := "PolygonBoard", name := "middleX", desc := "(I)D" } : Jvm.MethodName) ({ cls := "PolygonBoard", name := "middleX", desc := "(I)D" } : Jvm.MethodName)) ∈ lw_all := lw_g (lw_at lw_m7 189 rfl) rfl
theorem q1680 : (Jvm.Cond.code ({ cls := "PolygonBoard", name := "middleX", desc := "(I)D" } : Jvm.MethodName) prog_1_method_68_code (3 : Nat) (Option.some Jvm.ClassFile.FieldType.double)) ∈ lw_all := lw_g (lw_at lw_m7 190 rfl) rfl
theorem q1681 : (Jvm.Cond.methodLink "PolygonBoard" (368 : Nat) ({ cls := "PolygonBoard", name := "middleOf", desc := "(I)LPolygonBoard$MiddleScan;" } : Jvm.MethodName)) ∈ lw_all := lw_g (lw_at lw_m7 191 rfl) rfl
theorem q1682 : (Jvm.Cond.privateMethod ({ cls := "PolygonBoard", name := "middleOf", desc := "(I)LPolygonBoard$MiddleScan;" } : Jvm.MethodName)) ∈ lw_tbl := lw_at lw_m7 192 rfl
theorem q1683 : (Jvm.Cond.instanceMethod ({ cls := "PolygonBoard", name := "middleOf", desc := "(I)LPolygonBoard$MiddleScan;" } : Jvm.MethodName)) ∈ lw_all := lw_g (lw_at lw_m7 193 rfl) rfl
theorem q1684 : (Jvm.Cond.code ({ cls := "PolygonBoard", name := "middleOf", desc := "(I)LPolygonBoard$MiddleScan;" } : Jvm.MethodName) prog_1_method_67_code (3 : Nat) (Option.some (Jvm.ClassFile.FieldType.object "PolygonBoard$MiddleScan"))) ∈ lw_all := lw_g (lw_at lw_m7 194 rfl) rfl
theorem q1685 : (Jvm.Cond.classLink "PolygonBoard" (360 : Nat) "PolygonBoard$MiddleScan") ∈ lw_all := lw_g (lw_at lw_m7 195 rfl) rfl
theorem q1687 : (Jvm.Cond.methodLinkNest "PolygonBoard" (362 : Nat) ({ cls := "PolygonBoard$MiddleScan", name := "<init>", desc := "()V" } : Jvm.MethodName) "PolygonBoard") ∈ lw_tbl := lw_at lw_m7 197 rfl
theorem q1692 : (Jvm.Cond.fieldLinkNest "PolygonBoard" (372 : Nat) "PolygonBoard$MiddleScan" "sumX" "I" "PolygonBoard") ∈ lw_tbl := lw_at lw_m7 202 rfl
theorem q1694 : (Jvm.Cond.fieldLinkNest "PolygonBoard" (379 : Nat) "PolygonBoard$MiddleScan" "sumY" "I" "PolygonBoard") ∈ lw_tbl := lw_at lw_m7 204 rfl
theorem q1696 : (Jvm.Cond.fieldLinkNest "PolygonBoard" (364 : Nat) "PolygonBoard$MiddleScan" "area" "I" "PolygonBoard") ∈ lw_tbl := lw_at lw_m7 206 rfl
theorem q1704 : (Jvm.Cond.methodLink "PolygonBoard" (363 : Nat) ({ cls := "PolygonBoard$MiddleScan", name := "scan", desc := "(LPolygonBoard$Region;)V" } : Jvm.MethodName)) ∈ lw_all := lw_g (lw_at lw_m7 214 rfl) rfl
theorem q1707 : (Jvm.Cond.classLink "PolygonBoard" (365 : Nat) "java/lang/ArithmeticException") ∈ lw_all := lw_g (lw_at lw_m7 217 rfl) rfl
theorem q1708 : (Jvm.Cond.methodLink "PolygonBoard" (367 : Nat) ({ cls := "java/lang/ArithmeticException", name := "<init>", desc := "()V" } : Jvm.MethodName)) ∈ lw_all := lw_g (lw_at lw_m7 218 rfl) rfl
theorem q1712 : (Jvm.Cond.methodLink "PolygonBoard" (375 : Nat) ({ cls := "PolygonBoard$MiddleScan", name := "middle", desc := "(I)D" } : Jvm.MethodName)) ∈ lw_all := lw_g (lw_at lw_m7 222 rfl) rfl
theorem q1721 : (Jvm.Cond.instanceMethod ({ cls := "PolygonBoard", name := "middleY", desc := "(I)D" } : Jvm.MethodName)) ∈ lw_all := lw_g (lw_at lw_m7 231 rfl) rfl
theorem q1722 : (Jvm.Cond.selects "PolygonBoard" ({ cls := "PolygonBoard", name := "middleY", desc := "(I)D" } : Jvm.MethodName) ({ cls := "PolygonBoard", name := "middleY", desc := "(I)D" } : Jvm.MethodName)) ∈ lw_all := lw_g (lw_at lw_m7 232 rfl) rfl
theorem q1723 : (Jvm.Cond.code ({ cls := "PolygonBoard", name := "middleY", desc := "(I)D" } : Jvm.MethodName) prog_1_method_69_code (3 : Nat) (Option.some Jvm.ClassFile.FieldType.double)) ∈ lw_all := lw_g (lw_at lw_m7 233 rfl) rfl
theorem q1728 : (Jvm.Cond.instanceMethod ({ cls := "PolygonBoard", name := "fullness", desc := "(I)F" } : Jvm.MethodName)) ∈ lw_all := lw_g (lw_at lw_m7 238 rfl) rfl
theorem q1729 : (Jvm.Cond.selects "PolygonBoard" ({ cls := "PolygonBoard", name := "fullness", desc := "(I)F" } : Jvm.MethodName) ({ cls := "PolygonBoard", name := "fullness", desc := "(I)F" } : Jvm.MethodName)) ∈ lw_all := lw_g (lw_at lw_m7 239 rfl) rfl
theorem q1730 : (Jvm.Cond.code ({ cls := "PolygonBoard", name := "fullness", desc := "(I)F" } : Jvm.MethodName) prog_1_method_70_code (5 : Nat) (Option.some Jvm.ClassFile.FieldType.float)) ∈ lw_all := lw_g (lw_at lw_m8 0 rfl) rfl
theorem q2128 : (Jvm.Cond.castable "PolygonBoard" "java/lang/Object") ∈ lw_tbl := lw_at lw_m9 158 rfl
theorem in_X1 : ∀ w ∈ wsX10, w ∈ lw_all := lw_in wsX10 [229, 231] (by decide +kernel) (by decide +kernel)
/-! PolygonBoard$Spans -/
set_option maxRecDepth 100000
def RX4 : String := "PolygonBoard$Spans"
def TX4 : u_T := fun k => match k with
  | 0 => ("PolygonBoard$Spans", "ends", "[I", false)
  | _ => ("PolygonBoard$Spans", "count", "I", false)
def tyX4 : Nat → FieldType := fun k => match k with
  | 0 => .array .int
  | _ => .int
abbrev wsX40 : List Cond := u_ws RX4 TX4 2
theorem nmX4 : ∀ a, a < 2 → ∀ b, b < 2 → a ≠ b → (TX4 a).2.1 ≠ (TX4 b).2.1 := by decide +kernel
theorem tyX4_ok : ∀ k, k < 2 → parseFieldDescriptor (TX4 k).2.2.1 = some (tyX4 k) := by decide +kernel
abbrev cX4_init : ByteArray := prog_19_method_1_code
def yX4_init : MethodName := ⟨RX4, "<init>", "()V"⟩
def dkwX4_init_0 : List UInt8 := [42, 183, 0, 3, 42, 16, 8, 188, 10, 181, 0, 9, 177]
abbrev dktX4_init_0 : List UInt8 := dkwX4_init_0 ++ []
theorem dksX4_init_0 : cX4_init.data.toList.drop 0 = dktX4_init_0 := by decide +kernel
theorem dX4_init_0 : decode cX4_init 0 = .ok (.aload_n 0, 1) := dk_42 (dk_at dksX4_init_0 0 rfl rfl)
theorem dX4_init_1 : decode cX4_init 1 = .ok (.invokespecial 3, 3) := dk_183 0 3 (dk_at dksX4_init_0 1 rfl rfl)
theorem dX4_init_4 : decode cX4_init 4 = .ok (.aload_n 0, 1) := dk_42 (dk_at dksX4_init_0 4 rfl rfl)
theorem dX4_init_5 : decode cX4_init 5 = .ok (.bipush 8, 2) := dk_16 8 (dk_at dksX4_init_0 5 rfl rfl)
theorem dX4_init_7 : decode cX4_init 7 = .ok (.newarray .int, 2) := dk_188_10 (dk_at dksX4_init_0 7 rfl rfl)
theorem dX4_init_9 : decode cX4_init 9 = .ok (.putfield 9, 3) := dk_181 0 9 (dk_at dksX4_init_0 9 rfl rfl)
theorem dX4_init_12 : decode cX4_init 12 = .ok (.return_, 1) := dk_177 (dk_at dksX4_init_0 12 rfl rfl)
abbrev cX4_add : ByteArray := prog_19_method_2_code
def yX4_add : MethodName := ⟨RX4, "add", "(II)V"⟩
def dkwX4_add_5 : List UInt8 := [79, 42, 180, 0, 9, 42, 180, 0, 15, 4, 96, 28, 79, 42, 89, 180, 0, 15, 5, 96, 181, 0, 15, 177]
abbrev dktX4_add_5 : List UInt8 := dkwX4_add_5 ++ []
def dkwX4_add_4 : List UInt8 := [21, 4, 46, 79, 132, 4, 1, 167, 255, 233, 42, 45, 181, 0, 9, 42, 180, 0, 9, 42, 180, 0, 15, 27]
abbrev dktX4_add_4 : List UInt8 := dkwX4_add_4 ++ dktX4_add_5
def dkwX4_add_3 : List UInt8 := [104, 188, 10, 78, 3, 54, 4, 21, 4, 42, 180, 0, 15, 162, 0, 20, 45, 21, 4, 42, 180, 0, 9]
abbrev dktX4_add_3 : List UInt8 := dkwX4_add_3 ++ dktX4_add_4
def dkwX4_add_2 : List UInt8 := [46, 28, 184, 0, 19, 79, 177, 42, 180, 0, 15, 42, 180, 0, 9, 190, 160, 0, 46, 5, 42, 180, 0, 15]
abbrev dktX4_add_2 : List UInt8 := dkwX4_add_2 ++ dktX4_add_3
def dkwX4_add_1 : List UInt8 := [46, 163, 0, 30, 42, 180, 0, 9, 42, 180, 0, 15, 4, 100, 42, 180, 0, 9, 42, 180, 0, 15, 4, 100]
abbrev dktX4_add_1 : List UInt8 := dkwX4_add_1 ++ dktX4_add_2
def dkwX4_add_0 : List UInt8 := [27, 28, 161, 0, 4, 177, 42, 180, 0, 15, 158, 0, 45, 27, 42, 180, 0, 9, 42, 180, 0, 15, 4, 100]
abbrev dktX4_add_0 : List UInt8 := dkwX4_add_0 ++ dktX4_add_1
theorem dksX4_add_0 : cX4_add.data.toList.drop 0 = dktX4_add_0 := by decide +kernel
theorem dksX4_add_1 : cX4_add.data.toList.drop 24 = dktX4_add_1 := dk_seg dksX4_add_0 24 rfl rfl
theorem dksX4_add_2 : cX4_add.data.toList.drop 48 = dktX4_add_2 := dk_seg dksX4_add_1 24 rfl rfl
theorem dksX4_add_3 : cX4_add.data.toList.drop 72 = dktX4_add_3 := dk_seg dksX4_add_2 24 rfl rfl
theorem dksX4_add_4 : cX4_add.data.toList.drop 95 = dktX4_add_4 := dk_seg dksX4_add_3 23 rfl rfl
theorem dksX4_add_5 : cX4_add.data.toList.drop 119 = dktX4_add_5 := dk_seg dksX4_add_4 24 rfl rfl
theorem dX4_add_0 : decode cX4_add 0 = .ok (.iload_n 1, 1) := dk_27 (dk_at dksX4_add_0 0 rfl rfl)
theorem dX4_add_1 : decode cX4_add 1 = .ok (.iload_n 2, 1) := dk_28 (dk_at dksX4_add_0 1 rfl rfl)
theorem dX4_add_2 : decode cX4_add 2 = .ok (.if_icmp .lt 4, 3) := dk_161 0 4 (dk_at dksX4_add_0 2 rfl rfl)
theorem dX4_add_5 : decode cX4_add 5 = .ok (.return_, 1) := dk_177 (dk_at dksX4_add_0 5 rfl rfl)
theorem dX4_add_6 : decode cX4_add 6 = .ok (.aload_n 0, 1) := dk_42 (dk_at dksX4_add_0 6 rfl rfl)
theorem dX4_add_7 : decode cX4_add 7 = .ok (.getfield 15, 3) := dk_180 0 15 (dk_at dksX4_add_0 7 rfl rfl)
theorem dX4_add_10 : decode cX4_add 10 = .ok (.ifCond .le 45, 3) := dk_158 0 45 (dk_at dksX4_add_0 10 rfl rfl)
theorem dX4_add_13 : decode cX4_add 13 = .ok (.iload_n 1, 1) := dk_27 (dk_at dksX4_add_0 13 rfl rfl)
theorem dX4_add_14 : decode cX4_add 14 = .ok (.aload_n 0, 1) := dk_42 (dk_at dksX4_add_0 14 rfl rfl)
theorem dX4_add_15 : decode cX4_add 15 = .ok (.getfield 9, 3) := dk_180 0 9 (dk_at dksX4_add_0 15 rfl rfl)
theorem dX4_add_18 : decode cX4_add 18 = .ok (.aload_n 0, 1) := dk_42 (dk_at dksX4_add_0 18 rfl rfl)
theorem dX4_add_19 : decode cX4_add 19 = .ok (.getfield 15, 3) := dk_180 0 15 (dk_at dksX4_add_0 19 rfl rfl)
theorem dX4_add_22 : decode cX4_add 22 = .ok (.iconst 1, 1) := dk_4 (dk_at dksX4_add_0 22 rfl rfl)
theorem dX4_add_23 : decode cX4_add 23 = .ok (.isub, 1) := dk_100 (dk_at dksX4_add_0 23 rfl rfl)
theorem dX4_add_24 : decode cX4_add 24 = .ok (.iaload, 1) := dk_46 (dk_at dksX4_add_1 0 rfl rfl)
theorem dX4_add_25 : decode cX4_add 25 = .ok (.if_icmp .gt 30, 3) := dk_163 0 30 (dk_at dksX4_add_1 1 rfl rfl)
theorem dX4_add_28 : decode cX4_add 28 = .ok (.aload_n 0, 1) := dk_42 (dk_at dksX4_add_1 4 rfl rfl)
theorem dX4_add_29 : decode cX4_add 29 = .ok (.getfield 9, 3) := dk_180 0 9 (dk_at dksX4_add_1 5 rfl rfl)
theorem dX4_add_32 : decode cX4_add 32 = .ok (.aload_n 0, 1) := dk_42 (dk_at dksX4_add_1 8 rfl rfl)
theorem dX4_add_33 : decode cX4_add 33 = .ok (.getfield 15, 3) := dk_180 0 15 (dk_at dksX4_add_1 9 rfl rfl)
theorem dX4_add_36 : decode cX4_add 36 = .ok (.iconst 1, 1) := dk_4 (dk_at dksX4_add_1 12 rfl rfl)
theorem dX4_add_37 : decode cX4_add 37 = .ok (.isub, 1) := dk_100 (dk_at dksX4_add_1 13 rfl rfl)
theorem dX4_add_38 : decode cX4_add 38 = .ok (.aload_n 0, 1) := dk_42 (dk_at dksX4_add_1 14 rfl rfl)
theorem dX4_add_39 : decode cX4_add 39 = .ok (.getfield 9, 3) := dk_180 0 9 (dk_at dksX4_add_1 15 rfl rfl)
theorem dX4_add_42 : decode cX4_add 42 = .ok (.aload_n 0, 1) := dk_42 (dk_at dksX4_add_1 18 rfl rfl)
theorem dX4_add_43 : decode cX4_add 43 = .ok (.getfield 15, 3) := dk_180 0 15 (dk_at dksX4_add_1 19 rfl rfl)
theorem dX4_add_46 : decode cX4_add 46 = .ok (.iconst 1, 1) := dk_4 (dk_at dksX4_add_1 22 rfl rfl)
theorem dX4_add_47 : decode cX4_add 47 = .ok (.isub, 1) := dk_100 (dk_at dksX4_add_1 23 rfl rfl)
theorem dX4_add_48 : decode cX4_add 48 = .ok (.iaload, 1) := dk_46 (dk_at dksX4_add_2 0 rfl rfl)
theorem dX4_add_49 : decode cX4_add 49 = .ok (.iload_n 2, 1) := dk_28 (dk_at dksX4_add_2 1 rfl rfl)
theorem dX4_add_50 : decode cX4_add 50 = .ok (.invokestatic 19, 3) := dk_184 0 19 (dk_at dksX4_add_2 2 rfl rfl)
theorem dX4_add_53 : decode cX4_add 53 = .ok (.iastore, 1) := dk_79 (dk_at dksX4_add_2 5 rfl rfl)
theorem dX4_add_54 : decode cX4_add 54 = .ok (.return_, 1) := dk_177 (dk_at dksX4_add_2 6 rfl rfl)
theorem dX4_add_55 : decode cX4_add 55 = .ok (.aload_n 0, 1) := dk_42 (dk_at dksX4_add_2 7 rfl rfl)
theorem dX4_add_56 : decode cX4_add 56 = .ok (.getfield 15, 3) := dk_180 0 15 (dk_at dksX4_add_2 8 rfl rfl)
theorem dX4_add_59 : decode cX4_add 59 = .ok (.aload_n 0, 1) := dk_42 (dk_at dksX4_add_2 11 rfl rfl)
theorem dX4_add_60 : decode cX4_add 60 = .ok (.getfield 9, 3) := dk_180 0 9 (dk_at dksX4_add_2 12 rfl rfl)
theorem dX4_add_63 : decode cX4_add 63 = .ok (.arraylength, 1) := dk_190 (dk_at dksX4_add_2 15 rfl rfl)
theorem dX4_add_64 : decode cX4_add 64 = .ok (.if_icmp .ne 46, 3) := dk_160 0 46 (dk_at dksX4_add_2 16 rfl rfl)
theorem dX4_add_67 : decode cX4_add 67 = .ok (.iconst 2, 1) := dk_5 (dk_at dksX4_add_2 19 rfl rfl)
theorem dX4_add_68 : decode cX4_add 68 = .ok (.aload_n 0, 1) := dk_42 (dk_at dksX4_add_2 20 rfl rfl)
theorem dX4_add_69 : decode cX4_add 69 = .ok (.getfield 15, 3) := dk_180 0 15 (dk_at dksX4_add_2 21 rfl rfl)
theorem dX4_add_72 : decode cX4_add 72 = .ok (.imul, 1) := dk_104 (dk_at dksX4_add_3 0 rfl rfl)
theorem dX4_add_73 : decode cX4_add 73 = .ok (.newarray .int, 2) := dk_188_10 (dk_at dksX4_add_3 1 rfl rfl)
theorem dX4_add_75 : decode cX4_add 75 = .ok (.astore_n 3, 1) := dk_78 (dk_at dksX4_add_3 3 rfl rfl)
theorem dX4_add_76 : decode cX4_add 76 = .ok (.iconst 0, 1) := dk_3 (dk_at dksX4_add_3 4 rfl rfl)
theorem dX4_add_77 : decode cX4_add 77 = .ok (.istore 4, 2) := dk_54 4 (dk_at dksX4_add_3 5 rfl rfl)
theorem dX4_add_79 : decode cX4_add 79 = .ok (.iload 4, 2) := dk_21 4 (dk_at dksX4_add_3 7 rfl rfl)
theorem dX4_add_81 : decode cX4_add 81 = .ok (.aload_n 0, 1) := dk_42 (dk_at dksX4_add_3 9 rfl rfl)
theorem dX4_add_82 : decode cX4_add 82 = .ok (.getfield 15, 3) := dk_180 0 15 (dk_at dksX4_add_3 10 rfl rfl)
theorem dX4_add_85 : decode cX4_add 85 = .ok (.if_icmp .ge 20, 3) := dk_162 0 20 (dk_at dksX4_add_3 13 rfl rfl)
theorem dX4_add_88 : decode cX4_add 88 = .ok (.aload_n 3, 1) := dk_45 (dk_at dksX4_add_3 16 rfl rfl)
theorem dX4_add_89 : decode cX4_add 89 = .ok (.iload 4, 2) := dk_21 4 (dk_at dksX4_add_3 17 rfl rfl)
theorem dX4_add_91 : decode cX4_add 91 = .ok (.aload_n 0, 1) := dk_42 (dk_at dksX4_add_3 19 rfl rfl)
theorem dX4_add_92 : decode cX4_add 92 = .ok (.getfield 9, 3) := dk_180 0 9 (dk_at dksX4_add_3 20 rfl rfl)
theorem dX4_add_95 : decode cX4_add 95 = .ok (.iload 4, 2) := dk_21 4 (dk_at dksX4_add_4 0 rfl rfl)
theorem dX4_add_97 : decode cX4_add 97 = .ok (.iaload, 1) := dk_46 (dk_at dksX4_add_4 2 rfl rfl)
theorem dX4_add_98 : decode cX4_add 98 = .ok (.iastore, 1) := dk_79 (dk_at dksX4_add_4 3 rfl rfl)
theorem dX4_add_99 : decode cX4_add 99 = .ok (.iinc 4 1, 3) := dk_132 4 1 (dk_at dksX4_add_4 4 rfl rfl)
theorem dX4_add_102 : decode cX4_add 102 = .ok (.goto (-23), 3) := dk_167 255 233 (dk_at dksX4_add_4 7 rfl rfl)
theorem dX4_add_105 : decode cX4_add 105 = .ok (.aload_n 0, 1) := dk_42 (dk_at dksX4_add_4 10 rfl rfl)
theorem dX4_add_106 : decode cX4_add 106 = .ok (.aload_n 3, 1) := dk_45 (dk_at dksX4_add_4 11 rfl rfl)
theorem dX4_add_107 : decode cX4_add 107 = .ok (.putfield 9, 3) := dk_181 0 9 (dk_at dksX4_add_4 12 rfl rfl)
theorem dX4_add_110 : decode cX4_add 110 = .ok (.aload_n 0, 1) := dk_42 (dk_at dksX4_add_4 15 rfl rfl)
theorem dX4_add_111 : decode cX4_add 111 = .ok (.getfield 9, 3) := dk_180 0 9 (dk_at dksX4_add_4 16 rfl rfl)
theorem dX4_add_114 : decode cX4_add 114 = .ok (.aload_n 0, 1) := dk_42 (dk_at dksX4_add_4 19 rfl rfl)
theorem dX4_add_115 : decode cX4_add 115 = .ok (.getfield 15, 3) := dk_180 0 15 (dk_at dksX4_add_4 20 rfl rfl)
theorem dX4_add_118 : decode cX4_add 118 = .ok (.iload_n 1, 1) := dk_27 (dk_at dksX4_add_4 23 rfl rfl)
theorem dX4_add_119 : decode cX4_add 119 = .ok (.iastore, 1) := dk_79 (dk_at dksX4_add_5 0 rfl rfl)
theorem dX4_add_120 : decode cX4_add 120 = .ok (.aload_n 0, 1) := dk_42 (dk_at dksX4_add_5 1 rfl rfl)
theorem dX4_add_121 : decode cX4_add 121 = .ok (.getfield 9, 3) := dk_180 0 9 (dk_at dksX4_add_5 2 rfl rfl)
theorem dX4_add_124 : decode cX4_add 124 = .ok (.aload_n 0, 1) := dk_42 (dk_at dksX4_add_5 5 rfl rfl)
theorem dX4_add_125 : decode cX4_add 125 = .ok (.getfield 15, 3) := dk_180 0 15 (dk_at dksX4_add_5 6 rfl rfl)
theorem dX4_add_128 : decode cX4_add 128 = .ok (.iconst 1, 1) := dk_4 (dk_at dksX4_add_5 9 rfl rfl)
theorem dX4_add_129 : decode cX4_add 129 = .ok (.iadd, 1) := dk_96 (dk_at dksX4_add_5 10 rfl rfl)
theorem dX4_add_130 : decode cX4_add 130 = .ok (.iload_n 2, 1) := dk_28 (dk_at dksX4_add_5 11 rfl rfl)
theorem dX4_add_131 : decode cX4_add 131 = .ok (.iastore, 1) := dk_79 (dk_at dksX4_add_5 12 rfl rfl)
theorem dX4_add_132 : decode cX4_add 132 = .ok (.aload_n 0, 1) := dk_42 (dk_at dksX4_add_5 13 rfl rfl)
theorem dX4_add_133 : decode cX4_add 133 = .ok (.dup, 1) := dk_89 (dk_at dksX4_add_5 14 rfl rfl)
theorem dX4_add_134 : decode cX4_add 134 = .ok (.getfield 15, 3) := dk_180 0 15 (dk_at dksX4_add_5 15 rfl rfl)
theorem dX4_add_137 : decode cX4_add 137 = .ok (.iconst 2, 1) := dk_5 (dk_at dksX4_add_5 18 rfl rfl)
theorem dX4_add_138 : decode cX4_add 138 = .ok (.iadd, 1) := dk_96 (dk_at dksX4_add_5 19 rfl rfl)
theorem dX4_add_139 : decode cX4_add 139 = .ok (.putfield 15, 3) := dk_181 0 15 (dk_at dksX4_add_5 20 rfl rfl)
theorem dX4_add_142 : decode cX4_add 142 = .ok (.return_, 1) := dk_177 (dk_at dksX4_add_5 23 rfl rfl)
abbrev cX4_size : ByteArray := prog_19_method_3_code
def yX4_size : MethodName := ⟨RX4, "size", "()I"⟩
def dkwX4_size_0 : List UInt8 := [42, 180, 0, 15, 5, 108, 172]
abbrev dktX4_size_0 : List UInt8 := dkwX4_size_0 ++ []
theorem dksX4_size_0 : cX4_size.data.toList.drop 0 = dktX4_size_0 := by decide +kernel
theorem dX4_size_0 : decode cX4_size 0 = .ok (.aload_n 0, 1) := dk_42 (dk_at dksX4_size_0 0 rfl rfl)
theorem dX4_size_1 : decode cX4_size 1 = .ok (.getfield 15, 3) := dk_180 0 15 (dk_at dksX4_size_0 1 rfl rfl)
theorem dX4_size_4 : decode cX4_size 4 = .ok (.iconst 2, 1) := dk_5 (dk_at dksX4_size_0 4 rfl rfl)
theorem dX4_size_5 : decode cX4_size 5 = .ok (.idiv, 1) := dk_108 (dk_at dksX4_size_0 5 rfl rfl)
theorem dX4_size_6 : decode cX4_size 6 = .ok (.ireturn, 1) := dk_172 (dk_at dksX4_size_0 6 rfl rfl)
abbrev cX4_isSame : ByteArray := prog_19_method_7_code
def yX4_isSame : MethodName := ⟨RX4, "isSame", "(LPolygonBoard$Spans;)Z"⟩
def dkwX4_isSame_2 : List UInt8 := [167, 0, 4, 3, 61, 132, 3, 1, 167, 255, 220, 28, 172]
abbrev dktX4_isSame_2 : List UInt8 := dkwX4_isSame_2 ++ []
def dkwX4_isSame_1 : List UInt8 := [42, 180, 0, 15, 162, 0, 30, 42, 180, 0, 9, 29, 46, 43, 180, 0, 9, 29, 46, 160, 0, 7, 4]
abbrev dktX4_isSame_1 : List UInt8 := dkwX4_isSame_1 ++ dktX4_isSame_2
def dkwX4_isSame_0 : List UInt8 := [42, 180, 0, 15, 43, 180, 0, 15, 160, 0, 7, 4, 167, 0, 4, 3, 61, 3, 62, 28, 153, 0, 38, 29]
abbrev dktX4_isSame_0 : List UInt8 := dkwX4_isSame_0 ++ dktX4_isSame_1
theorem dksX4_isSame_0 : cX4_isSame.data.toList.drop 0 = dktX4_isSame_0 := by decide +kernel
theorem dksX4_isSame_1 : cX4_isSame.data.toList.drop 24 = dktX4_isSame_1 := dk_seg dksX4_isSame_0 24 rfl rfl
theorem dksX4_isSame_2 : cX4_isSame.data.toList.drop 47 = dktX4_isSame_2 := dk_seg dksX4_isSame_1 23 rfl rfl
theorem dX4_isSame_0 : decode cX4_isSame 0 = .ok (.aload_n 0, 1) := dk_42 (dk_at dksX4_isSame_0 0 rfl rfl)
theorem dX4_isSame_1 : decode cX4_isSame 1 = .ok (.getfield 15, 3) := dk_180 0 15 (dk_at dksX4_isSame_0 1 rfl rfl)
theorem dX4_isSame_4 : decode cX4_isSame 4 = .ok (.aload_n 1, 1) := dk_43 (dk_at dksX4_isSame_0 4 rfl rfl)
theorem dX4_isSame_5 : decode cX4_isSame 5 = .ok (.getfield 15, 3) := dk_180 0 15 (dk_at dksX4_isSame_0 5 rfl rfl)
theorem dX4_isSame_8 : decode cX4_isSame 8 = .ok (.if_icmp .ne 7, 3) := dk_160 0 7 (dk_at dksX4_isSame_0 8 rfl rfl)
theorem dX4_isSame_11 : decode cX4_isSame 11 = .ok (.iconst 1, 1) := dk_4 (dk_at dksX4_isSame_0 11 rfl rfl)
theorem dX4_isSame_12 : decode cX4_isSame 12 = .ok (.goto 4, 3) := dk_167 0 4 (dk_at dksX4_isSame_0 12 rfl rfl)
theorem dX4_isSame_15 : decode cX4_isSame 15 = .ok (.iconst 0, 1) := dk_3 (dk_at dksX4_isSame_0 15 rfl rfl)
theorem dX4_isSame_16 : decode cX4_isSame 16 = .ok (.istore_n 2, 1) := dk_61 (dk_at dksX4_isSame_0 16 rfl rfl)
theorem dX4_isSame_17 : decode cX4_isSame 17 = .ok (.iconst 0, 1) := dk_3 (dk_at dksX4_isSame_0 17 rfl rfl)
theorem dX4_isSame_18 : decode cX4_isSame 18 = .ok (.istore_n 3, 1) := dk_62 (dk_at dksX4_isSame_0 18 rfl rfl)
theorem dX4_isSame_19 : decode cX4_isSame 19 = .ok (.iload_n 2, 1) := dk_28 (dk_at dksX4_isSame_0 19 rfl rfl)
theorem dX4_isSame_20 : decode cX4_isSame 20 = .ok (.ifCond .eq 38, 3) := dk_153 0 38 (dk_at dksX4_isSame_0 20 rfl rfl)
theorem dX4_isSame_23 : decode cX4_isSame 23 = .ok (.iload_n 3, 1) := dk_29 (dk_at dksX4_isSame_0 23 rfl rfl)
theorem dX4_isSame_24 : decode cX4_isSame 24 = .ok (.aload_n 0, 1) := dk_42 (dk_at dksX4_isSame_1 0 rfl rfl)
theorem dX4_isSame_25 : decode cX4_isSame 25 = .ok (.getfield 15, 3) := dk_180 0 15 (dk_at dksX4_isSame_1 1 rfl rfl)
theorem dX4_isSame_28 : decode cX4_isSame 28 = .ok (.if_icmp .ge 30, 3) := dk_162 0 30 (dk_at dksX4_isSame_1 4 rfl rfl)
theorem dX4_isSame_31 : decode cX4_isSame 31 = .ok (.aload_n 0, 1) := dk_42 (dk_at dksX4_isSame_1 7 rfl rfl)
theorem dX4_isSame_32 : decode cX4_isSame 32 = .ok (.getfield 9, 3) := dk_180 0 9 (dk_at dksX4_isSame_1 8 rfl rfl)
theorem dX4_isSame_35 : decode cX4_isSame 35 = .ok (.iload_n 3, 1) := dk_29 (dk_at dksX4_isSame_1 11 rfl rfl)
theorem dX4_isSame_36 : decode cX4_isSame 36 = .ok (.iaload, 1) := dk_46 (dk_at dksX4_isSame_1 12 rfl rfl)
theorem dX4_isSame_37 : decode cX4_isSame 37 = .ok (.aload_n 1, 1) := dk_43 (dk_at dksX4_isSame_1 13 rfl rfl)
theorem dX4_isSame_38 : decode cX4_isSame 38 = .ok (.getfield 9, 3) := dk_180 0 9 (dk_at dksX4_isSame_1 14 rfl rfl)
theorem dX4_isSame_41 : decode cX4_isSame 41 = .ok (.iload_n 3, 1) := dk_29 (dk_at dksX4_isSame_1 17 rfl rfl)
theorem dX4_isSame_42 : decode cX4_isSame 42 = .ok (.iaload, 1) := dk_46 (dk_at dksX4_isSame_1 18 rfl rfl)
theorem dX4_isSame_43 : decode cX4_isSame 43 = .ok (.if_icmp .ne 7, 3) := dk_160 0 7 (dk_at dksX4_isSame_1 19 rfl rfl)
theorem dX4_isSame_46 : decode cX4_isSame 46 = .ok (.iconst 1, 1) := dk_4 (dk_at dksX4_isSame_1 22 rfl rfl)
theorem dX4_isSame_47 : decode cX4_isSame 47 = .ok (.goto 4, 3) := dk_167 0 4 (dk_at dksX4_isSame_2 0 rfl rfl)
theorem dX4_isSame_50 : decode cX4_isSame 50 = .ok (.iconst 0, 1) := dk_3 (dk_at dksX4_isSame_2 3 rfl rfl)
theorem dX4_isSame_51 : decode cX4_isSame 51 = .ok (.istore_n 2, 1) := dk_61 (dk_at dksX4_isSame_2 4 rfl rfl)
theorem dX4_isSame_52 : decode cX4_isSame 52 = .ok (.iinc 3 1, 3) := dk_132 3 1 (dk_at dksX4_isSame_2 5 rfl rfl)
theorem dX4_isSame_55 : decode cX4_isSame 55 = .ok (.goto (-36), 3) := dk_167 255 220 (dk_at dksX4_isSame_2 8 rfl rfl)
theorem dX4_isSame_58 : decode cX4_isSame 58 = .ok (.iload_n 2, 1) := dk_28 (dk_at dksX4_isSame_2 11 rfl rfl)
theorem dX4_isSame_59 : decode cX4_isSame 59 = .ok (.ireturn, 1) := dk_172 (dk_at dksX4_isSame_2 12 rfl rfl)
abbrev cX4_left : ByteArray := prog_19_method_4_code
def yX4_left : MethodName := ⟨RX4, "left", "(I)I"⟩
def dkwX4_left_0 : List UInt8 := [42, 180, 0, 9, 5, 27, 104, 46, 172]
abbrev dktX4_left_0 : List UInt8 := dkwX4_left_0 ++ []
theorem dksX4_left_0 : cX4_left.data.toList.drop 0 = dktX4_left_0 := by decide +kernel
theorem dX4_left_0 : decode cX4_left 0 = .ok (.aload_n 0, 1) := dk_42 (dk_at dksX4_left_0 0 rfl rfl)
theorem dX4_left_1 : decode cX4_left 1 = .ok (.getfield 9, 3) := dk_180 0 9 (dk_at dksX4_left_0 1 rfl rfl)
theorem dX4_left_4 : decode cX4_left 4 = .ok (.iconst 2, 1) := dk_5 (dk_at dksX4_left_0 4 rfl rfl)
theorem dX4_left_5 : decode cX4_left 5 = .ok (.iload_n 1, 1) := dk_27 (dk_at dksX4_left_0 5 rfl rfl)
theorem dX4_left_6 : decode cX4_left 6 = .ok (.imul, 1) := dk_104 (dk_at dksX4_left_0 6 rfl rfl)
theorem dX4_left_7 : decode cX4_left 7 = .ok (.iaload, 1) := dk_46 (dk_at dksX4_left_0 7 rfl rfl)
theorem dX4_left_8 : decode cX4_left 8 = .ok (.ireturn, 1) := dk_172 (dk_at dksX4_left_0 8 rfl rfl)
abbrev cX4_right : ByteArray := prog_19_method_5_code
def yX4_right : MethodName := ⟨RX4, "right", "(I)I"⟩
def dkwX4_right_0 : List UInt8 := [42, 180, 0, 9, 5, 27, 104, 4, 96, 46, 172]
abbrev dktX4_right_0 : List UInt8 := dkwX4_right_0 ++ []
theorem dksX4_right_0 : cX4_right.data.toList.drop 0 = dktX4_right_0 := by decide +kernel
theorem dX4_right_0 : decode cX4_right 0 = .ok (.aload_n 0, 1) := dk_42 (dk_at dksX4_right_0 0 rfl rfl)
theorem dX4_right_1 : decode cX4_right 1 = .ok (.getfield 9, 3) := dk_180 0 9 (dk_at dksX4_right_0 1 rfl rfl)
theorem dX4_right_4 : decode cX4_right 4 = .ok (.iconst 2, 1) := dk_5 (dk_at dksX4_right_0 4 rfl rfl)
theorem dX4_right_5 : decode cX4_right 5 = .ok (.iload_n 1, 1) := dk_27 (dk_at dksX4_right_0 5 rfl rfl)
theorem dX4_right_6 : decode cX4_right 6 = .ok (.imul, 1) := dk_104 (dk_at dksX4_right_0 6 rfl rfl)
theorem dX4_right_7 : decode cX4_right 7 = .ok (.iconst 1, 1) := dk_4 (dk_at dksX4_right_0 7 rfl rfl)
theorem dX4_right_8 : decode cX4_right 8 = .ok (.iadd, 1) := dk_96 (dk_at dksX4_right_0 8 rfl rfl)
theorem dX4_right_9 : decode cX4_right 9 = .ok (.iaload, 1) := dk_46 (dk_at dksX4_right_0 9 rfl rfl)
theorem dX4_right_10 : decode cX4_right 10 = .ok (.ireturn, 1) := dk_172 (dk_at dksX4_right_0 10 rfl rfl)
abbrev cX4_combine : ByteArray := prog_19_method_9_code
def yX4_combine : MethodName := ⟨RX4, "combine", "(LPolygonBoard$Spans;LPolygonBoard$Operation;)LPolygonBoard$Spans;"⟩
def dkwX4_combine_7 : List UInt8 := [153, 0, 7, 3, 167, 0, 4, 4, 96, 54, 5, 21, 8, 54, 6, 167, 255, 97, 45, 176]
abbrev dktX4_combine_7 : List UInt8 := dkwX4_combine_7 ++ []
def dkwX4_combine_6 : List UInt8 := [182, 0, 47, 21, 4, 21, 7, 153, 0, 7, 4, 167, 0, 4, 3, 96, 54, 4, 21, 5, 21, 7]
abbrev dktX4_combine_6 : List UInt8 := dkwX4_combine_6 ++ dktX4_combine_7
def dkwX4_combine_5 : List UInt8 := [5, 112, 4, 160, 0, 7, 4, 167, 0, 4, 3, 182, 0, 41, 153, 0, 11, 45, 21, 6, 21, 8]
abbrev dktX4_combine_5 : List UInt8 := dkwX4_combine_5 ++ dktX4_combine_6
def dkwX4_combine_4 : List UInt8 := [180, 0, 9, 21, 5, 46, 54, 8, 44, 21, 4, 5, 112, 4, 160, 0, 7, 4, 167, 0, 4, 3, 21, 5]
abbrev dktX4_combine_4 : List UInt8 := dkwX4_combine_4 ++ dktX4_combine_5
def dkwX4_combine_3 : List UInt8 := [167, 0, 4, 3, 54, 7, 21, 7, 153, 0, 13, 42, 180, 0, 9, 21, 4, 46, 167, 0, 10, 43]
abbrev dktX4_combine_3 : List UInt8 := dkwX4_combine_3 ++ dktX4_combine_4
def dkwX4_combine_2 : List UInt8 := [180, 0, 15, 162, 0, 24, 42, 180, 0, 9, 21, 4, 46, 43, 180, 0, 9, 21, 5, 46, 163, 0, 7, 4]
abbrev dktX4_combine_2 : List UInt8 := dkwX4_combine_2 ++ dktX4_combine_3
def dkwX4_combine_1 : List UInt8 := [161, 0, 12, 21, 5, 43, 180, 0, 15, 162, 0, 147, 21, 5, 43, 180, 0, 15, 159, 0, 29, 21, 4, 42]
abbrev dktX4_combine_1 : List UInt8 := dkwX4_combine_1 ++ dktX4_combine_2
def dkwX4_combine_0 : List UInt8 := [187, 0, 10, 89, 183, 0, 40, 78, 3, 54, 4, 3, 54, 5, 3, 54, 6, 21, 4, 42, 180, 0, 15]
abbrev dktX4_combine_0 : List UInt8 := dkwX4_combine_0 ++ dktX4_combine_1
theorem dksX4_combine_0 : cX4_combine.data.toList.drop 0 = dktX4_combine_0 := by decide +kernel
theorem dksX4_combine_1 : cX4_combine.data.toList.drop 23 = dktX4_combine_1 := dk_seg dksX4_combine_0 23 rfl rfl
theorem dksX4_combine_2 : cX4_combine.data.toList.drop 47 = dktX4_combine_2 := dk_seg dksX4_combine_1 24 rfl rfl
theorem dksX4_combine_3 : cX4_combine.data.toList.drop 71 = dktX4_combine_3 := dk_seg dksX4_combine_2 24 rfl rfl
theorem dksX4_combine_4 : cX4_combine.data.toList.drop 93 = dktX4_combine_4 := dk_seg dksX4_combine_3 22 rfl rfl
theorem dksX4_combine_5 : cX4_combine.data.toList.drop 117 = dktX4_combine_5 := dk_seg dksX4_combine_4 24 rfl rfl
theorem dksX4_combine_6 : cX4_combine.data.toList.drop 139 = dktX4_combine_6 := dk_seg dksX4_combine_5 22 rfl rfl
theorem dksX4_combine_7 : cX4_combine.data.toList.drop 161 = dktX4_combine_7 := dk_seg dksX4_combine_6 22 rfl rfl
theorem dX4_combine_0 : decode cX4_combine 0 = .ok (.new 10, 3) := dk_187 0 10 (dk_at dksX4_combine_0 0 rfl rfl)
theorem dX4_combine_3 : decode cX4_combine 3 = .ok (.dup, 1) := dk_89 (dk_at dksX4_combine_0 3 rfl rfl)
theorem dX4_combine_4 : decode cX4_combine 4 = .ok (.invokespecial 40, 3) := dk_183 0 40 (dk_at dksX4_combine_0 4 rfl rfl)
theorem dX4_combine_7 : decode cX4_combine 7 = .ok (.astore_n 3, 1) := dk_78 (dk_at dksX4_combine_0 7 rfl rfl)
theorem dX4_combine_8 : decode cX4_combine 8 = .ok (.iconst 0, 1) := dk_3 (dk_at dksX4_combine_0 8 rfl rfl)
theorem dX4_combine_9 : decode cX4_combine 9 = .ok (.istore 4, 2) := dk_54 4 (dk_at dksX4_combine_0 9 rfl rfl)
theorem dX4_combine_11 : decode cX4_combine 11 = .ok (.iconst 0, 1) := dk_3 (dk_at dksX4_combine_0 11 rfl rfl)
theorem dX4_combine_12 : decode cX4_combine 12 = .ok (.istore 5, 2) := dk_54 5 (dk_at dksX4_combine_0 12 rfl rfl)
theorem dX4_combine_14 : decode cX4_combine 14 = .ok (.iconst 0, 1) := dk_3 (dk_at dksX4_combine_0 14 rfl rfl)
theorem dX4_combine_15 : decode cX4_combine 15 = .ok (.istore 6, 2) := dk_54 6 (dk_at dksX4_combine_0 15 rfl rfl)
theorem dX4_combine_17 : decode cX4_combine 17 = .ok (.iload 4, 2) := dk_21 4 (dk_at dksX4_combine_0 17 rfl rfl)
theorem dX4_combine_19 : decode cX4_combine 19 = .ok (.aload_n 0, 1) := dk_42 (dk_at dksX4_combine_0 19 rfl rfl)
theorem dX4_combine_20 : decode cX4_combine 20 = .ok (.getfield 15, 3) := dk_180 0 15 (dk_at dksX4_combine_0 20 rfl rfl)
theorem dX4_combine_23 : decode cX4_combine 23 = .ok (.if_icmp .lt 12, 3) := dk_161 0 12 (dk_at dksX4_combine_1 0 rfl rfl)
theorem dX4_combine_26 : decode cX4_combine 26 = .ok (.iload 5, 2) := dk_21 5 (dk_at dksX4_combine_1 3 rfl rfl)
theorem dX4_combine_28 : decode cX4_combine 28 = .ok (.aload_n 1, 1) := dk_43 (dk_at dksX4_combine_1 5 rfl rfl)
theorem dX4_combine_29 : decode cX4_combine 29 = .ok (.getfield 15, 3) := dk_180 0 15 (dk_at dksX4_combine_1 6 rfl rfl)
theorem dX4_combine_32 : decode cX4_combine 32 = .ok (.if_icmp .ge 147, 3) := dk_162 0 147 (dk_at dksX4_combine_1 9 rfl rfl)
theorem dX4_combine_35 : decode cX4_combine 35 = .ok (.iload 5, 2) := dk_21 5 (dk_at dksX4_combine_1 12 rfl rfl)
theorem dX4_combine_37 : decode cX4_combine 37 = .ok (.aload_n 1, 1) := dk_43 (dk_at dksX4_combine_1 14 rfl rfl)
theorem dX4_combine_38 : decode cX4_combine 38 = .ok (.getfield 15, 3) := dk_180 0 15 (dk_at dksX4_combine_1 15 rfl rfl)
theorem dX4_combine_41 : decode cX4_combine 41 = .ok (.if_icmp .eq 29, 3) := dk_159 0 29 (dk_at dksX4_combine_1 18 rfl rfl)
theorem dX4_combine_44 : decode cX4_combine 44 = .ok (.iload 4, 2) := dk_21 4 (dk_at dksX4_combine_1 21 rfl rfl)
theorem dX4_combine_46 : decode cX4_combine 46 = .ok (.aload_n 0, 1) := dk_42 (dk_at dksX4_combine_1 23 rfl rfl)
theorem dX4_combine_47 : decode cX4_combine 47 = .ok (.getfield 15, 3) := dk_180 0 15 (dk_at dksX4_combine_2 0 rfl rfl)
theorem dX4_combine_50 : decode cX4_combine 50 = .ok (.if_icmp .ge 24, 3) := dk_162 0 24 (dk_at dksX4_combine_2 3 rfl rfl)
theorem dX4_combine_53 : decode cX4_combine 53 = .ok (.aload_n 0, 1) := dk_42 (dk_at dksX4_combine_2 6 rfl rfl)
theorem dX4_combine_54 : decode cX4_combine 54 = .ok (.getfield 9, 3) := dk_180 0 9 (dk_at dksX4_combine_2 7 rfl rfl)
theorem dX4_combine_57 : decode cX4_combine 57 = .ok (.iload 4, 2) := dk_21 4 (dk_at dksX4_combine_2 10 rfl rfl)
theorem dX4_combine_59 : decode cX4_combine 59 = .ok (.iaload, 1) := dk_46 (dk_at dksX4_combine_2 12 rfl rfl)
theorem dX4_combine_60 : decode cX4_combine 60 = .ok (.aload_n 1, 1) := dk_43 (dk_at dksX4_combine_2 13 rfl rfl)
theorem dX4_combine_61 : decode cX4_combine 61 = .ok (.getfield 9, 3) := dk_180 0 9 (dk_at dksX4_combine_2 14 rfl rfl)
theorem dX4_combine_64 : decode cX4_combine 64 = .ok (.iload 5, 2) := dk_21 5 (dk_at dksX4_combine_2 17 rfl rfl)
theorem dX4_combine_66 : decode cX4_combine 66 = .ok (.iaload, 1) := dk_46 (dk_at dksX4_combine_2 19 rfl rfl)
theorem dX4_combine_67 : decode cX4_combine 67 = .ok (.if_icmp .gt 7, 3) := dk_163 0 7 (dk_at dksX4_combine_2 20 rfl rfl)
theorem dX4_combine_70 : decode cX4_combine 70 = .ok (.iconst 1, 1) := dk_4 (dk_at dksX4_combine_2 23 rfl rfl)
theorem dX4_combine_71 : decode cX4_combine 71 = .ok (.goto 4, 3) := dk_167 0 4 (dk_at dksX4_combine_3 0 rfl rfl)
theorem dX4_combine_74 : decode cX4_combine 74 = .ok (.iconst 0, 1) := dk_3 (dk_at dksX4_combine_3 3 rfl rfl)
theorem dX4_combine_75 : decode cX4_combine 75 = .ok (.istore 7, 2) := dk_54 7 (dk_at dksX4_combine_3 4 rfl rfl)
theorem dX4_combine_77 : decode cX4_combine 77 = .ok (.iload 7, 2) := dk_21 7 (dk_at dksX4_combine_3 6 rfl rfl)
theorem dX4_combine_79 : decode cX4_combine 79 = .ok (.ifCond .eq 13, 3) := dk_153 0 13 (dk_at dksX4_combine_3 8 rfl rfl)
theorem dX4_combine_82 : decode cX4_combine 82 = .ok (.aload_n 0, 1) := dk_42 (dk_at dksX4_combine_3 11 rfl rfl)
theorem dX4_combine_83 : decode cX4_combine 83 = .ok (.getfield 9, 3) := dk_180 0 9 (dk_at dksX4_combine_3 12 rfl rfl)
theorem dX4_combine_86 : decode cX4_combine 86 = .ok (.iload 4, 2) := dk_21 4 (dk_at dksX4_combine_3 15 rfl rfl)
theorem dX4_combine_88 : decode cX4_combine 88 = .ok (.iaload, 1) := dk_46 (dk_at dksX4_combine_3 17 rfl rfl)
theorem dX4_combine_89 : decode cX4_combine 89 = .ok (.goto 10, 3) := dk_167 0 10 (dk_at dksX4_combine_3 18 rfl rfl)
theorem dX4_combine_92 : decode cX4_combine 92 = .ok (.aload_n 1, 1) := dk_43 (dk_at dksX4_combine_3 21 rfl rfl)
theorem dX4_combine_93 : decode cX4_combine 93 = .ok (.getfield 9, 3) := dk_180 0 9 (dk_at dksX4_combine_4 0 rfl rfl)
theorem dX4_combine_96 : decode cX4_combine 96 = .ok (.iload 5, 2) := dk_21 5 (dk_at dksX4_combine_4 3 rfl rfl)
theorem dX4_combine_98 : decode cX4_combine 98 = .ok (.iaload, 1) := dk_46 (dk_at dksX4_combine_4 5 rfl rfl)
theorem dX4_combine_99 : decode cX4_combine 99 = .ok (.istore 8, 2) := dk_54 8 (dk_at dksX4_combine_4 6 rfl rfl)
theorem dX4_combine_101 : decode cX4_combine 101 = .ok (.aload_n 2, 1) := dk_44 (dk_at dksX4_combine_4 8 rfl rfl)
theorem dX4_combine_102 : decode cX4_combine 102 = .ok (.iload 4, 2) := dk_21 4 (dk_at dksX4_combine_4 9 rfl rfl)
theorem dX4_combine_104 : decode cX4_combine 104 = .ok (.iconst 2, 1) := dk_5 (dk_at dksX4_combine_4 11 rfl rfl)
theorem dX4_combine_105 : decode cX4_combine 105 = .ok (.irem, 1) := dk_112 (dk_at dksX4_combine_4 12 rfl rfl)
theorem dX4_combine_106 : decode cX4_combine 106 = .ok (.iconst 1, 1) := dk_4 (dk_at dksX4_combine_4 13 rfl rfl)
theorem dX4_combine_107 : decode cX4_combine 107 = .ok (.if_icmp .ne 7, 3) := dk_160 0 7 (dk_at dksX4_combine_4 14 rfl rfl)
theorem dX4_combine_110 : decode cX4_combine 110 = .ok (.iconst 1, 1) := dk_4 (dk_at dksX4_combine_4 17 rfl rfl)
theorem dX4_combine_111 : decode cX4_combine 111 = .ok (.goto 4, 3) := dk_167 0 4 (dk_at dksX4_combine_4 18 rfl rfl)
theorem dX4_combine_114 : decode cX4_combine 114 = .ok (.iconst 0, 1) := dk_3 (dk_at dksX4_combine_4 21 rfl rfl)
theorem dX4_combine_115 : decode cX4_combine 115 = .ok (.iload 5, 2) := dk_21 5 (dk_at dksX4_combine_4 22 rfl rfl)
theorem dX4_combine_117 : decode cX4_combine 117 = .ok (.iconst 2, 1) := dk_5 (dk_at dksX4_combine_5 0 rfl rfl)
theorem dX4_combine_118 : decode cX4_combine 118 = .ok (.irem, 1) := dk_112 (dk_at dksX4_combine_5 1 rfl rfl)
theorem dX4_combine_119 : decode cX4_combine 119 = .ok (.iconst 1, 1) := dk_4 (dk_at dksX4_combine_5 2 rfl rfl)
theorem dX4_combine_120 : decode cX4_combine 120 = .ok (.if_icmp .ne 7, 3) := dk_160 0 7 (dk_at dksX4_combine_5 3 rfl rfl)
theorem dX4_combine_123 : decode cX4_combine 123 = .ok (.iconst 1, 1) := dk_4 (dk_at dksX4_combine_5 6 rfl rfl)
theorem dX4_combine_124 : decode cX4_combine 124 = .ok (.goto 4, 3) := dk_167 0 4 (dk_at dksX4_combine_5 7 rfl rfl)
theorem dX4_combine_127 : decode cX4_combine 127 = .ok (.iconst 0, 1) := dk_3 (dk_at dksX4_combine_5 10 rfl rfl)
theorem dX4_combine_128 : decode cX4_combine 128 = .ok (.invokevirtual 41, 3) := dk_182 0 41 (dk_at dksX4_combine_5 11 rfl rfl)
theorem dX4_combine_131 : decode cX4_combine 131 = .ok (.ifCond .eq 11, 3) := dk_153 0 11 (dk_at dksX4_combine_5 14 rfl rfl)
theorem dX4_combine_134 : decode cX4_combine 134 = .ok (.aload_n 3, 1) := dk_45 (dk_at dksX4_combine_5 17 rfl rfl)
theorem dX4_combine_135 : decode cX4_combine 135 = .ok (.iload 6, 2) := dk_21 6 (dk_at dksX4_combine_5 18 rfl rfl)
theorem dX4_combine_137 : decode cX4_combine 137 = .ok (.iload 8, 2) := dk_21 8 (dk_at dksX4_combine_5 20 rfl rfl)
theorem dX4_combine_139 : decode cX4_combine 139 = .ok (.invokevirtual 47, 3) := dk_182 0 47 (dk_at dksX4_combine_6 0 rfl rfl)
theorem dX4_combine_142 : decode cX4_combine 142 = .ok (.iload 4, 2) := dk_21 4 (dk_at dksX4_combine_6 3 rfl rfl)
theorem dX4_combine_144 : decode cX4_combine 144 = .ok (.iload 7, 2) := dk_21 7 (dk_at dksX4_combine_6 5 rfl rfl)
theorem dX4_combine_146 : decode cX4_combine 146 = .ok (.ifCond .eq 7, 3) := dk_153 0 7 (dk_at dksX4_combine_6 7 rfl rfl)
theorem dX4_combine_149 : decode cX4_combine 149 = .ok (.iconst 1, 1) := dk_4 (dk_at dksX4_combine_6 10 rfl rfl)
theorem dX4_combine_150 : decode cX4_combine 150 = .ok (.goto 4, 3) := dk_167 0 4 (dk_at dksX4_combine_6 11 rfl rfl)
theorem dX4_combine_153 : decode cX4_combine 153 = .ok (.iconst 0, 1) := dk_3 (dk_at dksX4_combine_6 14 rfl rfl)
theorem dX4_combine_154 : decode cX4_combine 154 = .ok (.iadd, 1) := dk_96 (dk_at dksX4_combine_6 15 rfl rfl)
theorem dX4_combine_155 : decode cX4_combine 155 = .ok (.istore 4, 2) := dk_54 4 (dk_at dksX4_combine_6 16 rfl rfl)
theorem dX4_combine_157 : decode cX4_combine 157 = .ok (.iload 5, 2) := dk_21 5 (dk_at dksX4_combine_6 18 rfl rfl)
theorem dX4_combine_159 : decode cX4_combine 159 = .ok (.iload 7, 2) := dk_21 7 (dk_at dksX4_combine_6 20 rfl rfl)
theorem dX4_combine_161 : decode cX4_combine 161 = .ok (.ifCond .eq 7, 3) := dk_153 0 7 (dk_at dksX4_combine_7 0 rfl rfl)
theorem dX4_combine_164 : decode cX4_combine 164 = .ok (.iconst 0, 1) := dk_3 (dk_at dksX4_combine_7 3 rfl rfl)
theorem dX4_combine_165 : decode cX4_combine 165 = .ok (.goto 4, 3) := dk_167 0 4 (dk_at dksX4_combine_7 4 rfl rfl)
theorem dX4_combine_168 : decode cX4_combine 168 = .ok (.iconst 1, 1) := dk_4 (dk_at dksX4_combine_7 7 rfl rfl)
theorem dX4_combine_169 : decode cX4_combine 169 = .ok (.iadd, 1) := dk_96 (dk_at dksX4_combine_7 8 rfl rfl)
theorem dX4_combine_170 : decode cX4_combine 170 = .ok (.istore 5, 2) := dk_54 5 (dk_at dksX4_combine_7 9 rfl rfl)
theorem dX4_combine_172 : decode cX4_combine 172 = .ok (.iload 8, 2) := dk_21 8 (dk_at dksX4_combine_7 11 rfl rfl)
theorem dX4_combine_174 : decode cX4_combine 174 = .ok (.istore 6, 2) := dk_54 6 (dk_at dksX4_combine_7 13 rfl rfl)
theorem dX4_combine_176 : decode cX4_combine 176 = .ok (.goto (-159), 3) := dk_167 255 97 (dk_at dksX4_combine_7 15 rfl rfl)
theorem dX4_combine_179 : decode cX4_combine 179 = .ok (.aload_n 3, 1) := dk_45 (dk_at dksX4_combine_7 18 rfl rfl)
theorem dX4_combine_180 : decode cX4_combine 180 = .ok (.areturn, 1) := dk_176 (dk_at dksX4_combine_7 19 rfl rfl)
abbrev cX4_widened : ByteArray := prog_19_method_11_code
def yX4_widened : MethodName := ⟨RX4, "widened", "(I)LPolygonBoard$Spans;"⟩
def dkwX4_widened_1 : List UInt8 := [27, 100, 42, 29, 182, 0, 25, 27, 96, 182, 0, 47, 132, 3, 1, 167, 255, 227, 44, 176]
abbrev dktX4_widened_1 : List UInt8 := dkwX4_widened_1 ++ []
def dkwX4_widened_0 : List UInt8 := [187, 0, 10, 89, 183, 0, 40, 77, 3, 62, 29, 42, 182, 0, 32, 162, 0, 27, 44, 42, 29, 182, 0, 29]
abbrev dktX4_widened_0 : List UInt8 := dkwX4_widened_0 ++ dktX4_widened_1
theorem dksX4_widened_0 : cX4_widened.data.toList.drop 0 = dktX4_widened_0 := by decide +kernel
theorem dksX4_widened_1 : cX4_widened.data.toList.drop 24 = dktX4_widened_1 := dk_seg dksX4_widened_0 24 rfl rfl
theorem dX4_widened_0 : decode cX4_widened 0 = .ok (.new 10, 3) := dk_187 0 10 (dk_at dksX4_widened_0 0 rfl rfl)
theorem dX4_widened_3 : decode cX4_widened 3 = .ok (.dup, 1) := dk_89 (dk_at dksX4_widened_0 3 rfl rfl)
theorem dX4_widened_4 : decode cX4_widened 4 = .ok (.invokespecial 40, 3) := dk_183 0 40 (dk_at dksX4_widened_0 4 rfl rfl)
theorem dX4_widened_7 : decode cX4_widened 7 = .ok (.astore_n 2, 1) := dk_77 (dk_at dksX4_widened_0 7 rfl rfl)
theorem dX4_widened_8 : decode cX4_widened 8 = .ok (.iconst 0, 1) := dk_3 (dk_at dksX4_widened_0 8 rfl rfl)
theorem dX4_widened_9 : decode cX4_widened 9 = .ok (.istore_n 3, 1) := dk_62 (dk_at dksX4_widened_0 9 rfl rfl)
theorem dX4_widened_10 : decode cX4_widened 10 = .ok (.iload_n 3, 1) := dk_29 (dk_at dksX4_widened_0 10 rfl rfl)
theorem dX4_widened_11 : decode cX4_widened 11 = .ok (.aload_n 0, 1) := dk_42 (dk_at dksX4_widened_0 11 rfl rfl)
theorem dX4_widened_12 : decode cX4_widened 12 = .ok (.invokevirtual 32, 3) := dk_182 0 32 (dk_at dksX4_widened_0 12 rfl rfl)
theorem dX4_widened_15 : decode cX4_widened 15 = .ok (.if_icmp .ge 27, 3) := dk_162 0 27 (dk_at dksX4_widened_0 15 rfl rfl)
theorem dX4_widened_18 : decode cX4_widened 18 = .ok (.aload_n 2, 1) := dk_44 (dk_at dksX4_widened_0 18 rfl rfl)
theorem dX4_widened_19 : decode cX4_widened 19 = .ok (.aload_n 0, 1) := dk_42 (dk_at dksX4_widened_0 19 rfl rfl)
theorem dX4_widened_20 : decode cX4_widened 20 = .ok (.iload_n 3, 1) := dk_29 (dk_at dksX4_widened_0 20 rfl rfl)
theorem dX4_widened_21 : decode cX4_widened 21 = .ok (.invokevirtual 29, 3) := dk_182 0 29 (dk_at dksX4_widened_0 21 rfl rfl)
theorem dX4_widened_24 : decode cX4_widened 24 = .ok (.iload_n 1, 1) := dk_27 (dk_at dksX4_widened_1 0 rfl rfl)
theorem dX4_widened_25 : decode cX4_widened 25 = .ok (.isub, 1) := dk_100 (dk_at dksX4_widened_1 1 rfl rfl)
theorem dX4_widened_26 : decode cX4_widened 26 = .ok (.aload_n 0, 1) := dk_42 (dk_at dksX4_widened_1 2 rfl rfl)
theorem dX4_widened_27 : decode cX4_widened 27 = .ok (.iload_n 3, 1) := dk_29 (dk_at dksX4_widened_1 3 rfl rfl)
theorem dX4_widened_28 : decode cX4_widened 28 = .ok (.invokevirtual 25, 3) := dk_182 0 25 (dk_at dksX4_widened_1 4 rfl rfl)
theorem dX4_widened_31 : decode cX4_widened 31 = .ok (.iload_n 1, 1) := dk_27 (dk_at dksX4_widened_1 7 rfl rfl)
theorem dX4_widened_32 : decode cX4_widened 32 = .ok (.iadd, 1) := dk_96 (dk_at dksX4_widened_1 8 rfl rfl)
theorem dX4_widened_33 : decode cX4_widened 33 = .ok (.invokevirtual 47, 3) := dk_182 0 47 (dk_at dksX4_widened_1 9 rfl rfl)
theorem dX4_widened_36 : decode cX4_widened 36 = .ok (.iinc 3 1, 3) := dk_132 3 1 (dk_at dksX4_widened_1 12 rfl rfl)
theorem dX4_widened_39 : decode cX4_widened 39 = .ok (.goto (-29), 3) := dk_167 255 227 (dk_at dksX4_widened_1 15 rfl rfl)
theorem dX4_widened_42 : decode cX4_widened 42 = .ok (.aload_n 2, 1) := dk_44 (dk_at dksX4_widened_1 18 rfl rfl)
theorem dX4_widened_43 : decode cX4_widened 43 = .ok (.areturn, 1) := dk_176 (dk_at dksX4_widened_1 19 rfl rfl)
abbrev cX4_moved : ByteArray := prog_19_method_12_code
def yX4_moved : MethodName := ⟨RX4, "moved", "(I)LPolygonBoard$Spans;"⟩
def dkwX4_moved_1 : List UInt8 := [27, 96, 42, 29, 182, 0, 25, 27, 96, 182, 0, 47, 132, 3, 1, 167, 255, 227, 44, 176]
abbrev dktX4_moved_1 : List UInt8 := dkwX4_moved_1 ++ []
def dkwX4_moved_0 : List UInt8 := [187, 0, 10, 89, 183, 0, 40, 77, 3, 62, 29, 42, 182, 0, 32, 162, 0, 27, 44, 42, 29, 182, 0, 29]
abbrev dktX4_moved_0 : List UInt8 := dkwX4_moved_0 ++ dktX4_moved_1
theorem dksX4_moved_0 : cX4_moved.data.toList.drop 0 = dktX4_moved_0 := by decide +kernel
theorem dksX4_moved_1 : cX4_moved.data.toList.drop 24 = dktX4_moved_1 := dk_seg dksX4_moved_0 24 rfl rfl
theorem dX4_moved_0 : decode cX4_moved 0 = .ok (.new 10, 3) := dk_187 0 10 (dk_at dksX4_moved_0 0 rfl rfl)
theorem dX4_moved_3 : decode cX4_moved 3 = .ok (.dup, 1) := dk_89 (dk_at dksX4_moved_0 3 rfl rfl)
theorem dX4_moved_4 : decode cX4_moved 4 = .ok (.invokespecial 40, 3) := dk_183 0 40 (dk_at dksX4_moved_0 4 rfl rfl)
theorem dX4_moved_7 : decode cX4_moved 7 = .ok (.astore_n 2, 1) := dk_77 (dk_at dksX4_moved_0 7 rfl rfl)
theorem dX4_moved_8 : decode cX4_moved 8 = .ok (.iconst 0, 1) := dk_3 (dk_at dksX4_moved_0 8 rfl rfl)
theorem dX4_moved_9 : decode cX4_moved 9 = .ok (.istore_n 3, 1) := dk_62 (dk_at dksX4_moved_0 9 rfl rfl)
theorem dX4_moved_10 : decode cX4_moved 10 = .ok (.iload_n 3, 1) := dk_29 (dk_at dksX4_moved_0 10 rfl rfl)
theorem dX4_moved_11 : decode cX4_moved 11 = .ok (.aload_n 0, 1) := dk_42 (dk_at dksX4_moved_0 11 rfl rfl)
theorem dX4_moved_12 : decode cX4_moved 12 = .ok (.invokevirtual 32, 3) := dk_182 0 32 (dk_at dksX4_moved_0 12 rfl rfl)
theorem dX4_moved_15 : decode cX4_moved 15 = .ok (.if_icmp .ge 27, 3) := dk_162 0 27 (dk_at dksX4_moved_0 15 rfl rfl)
theorem dX4_moved_18 : decode cX4_moved 18 = .ok (.aload_n 2, 1) := dk_44 (dk_at dksX4_moved_0 18 rfl rfl)
theorem dX4_moved_19 : decode cX4_moved 19 = .ok (.aload_n 0, 1) := dk_42 (dk_at dksX4_moved_0 19 rfl rfl)
theorem dX4_moved_20 : decode cX4_moved 20 = .ok (.iload_n 3, 1) := dk_29 (dk_at dksX4_moved_0 20 rfl rfl)
theorem dX4_moved_21 : decode cX4_moved 21 = .ok (.invokevirtual 29, 3) := dk_182 0 29 (dk_at dksX4_moved_0 21 rfl rfl)
theorem dX4_moved_24 : decode cX4_moved 24 = .ok (.iload_n 1, 1) := dk_27 (dk_at dksX4_moved_1 0 rfl rfl)
theorem dX4_moved_25 : decode cX4_moved 25 = .ok (.iadd, 1) := dk_96 (dk_at dksX4_moved_1 1 rfl rfl)
theorem dX4_moved_26 : decode cX4_moved 26 = .ok (.aload_n 0, 1) := dk_42 (dk_at dksX4_moved_1 2 rfl rfl)
theorem dX4_moved_27 : decode cX4_moved 27 = .ok (.iload_n 3, 1) := dk_29 (dk_at dksX4_moved_1 3 rfl rfl)
theorem dX4_moved_28 : decode cX4_moved 28 = .ok (.invokevirtual 25, 3) := dk_182 0 25 (dk_at dksX4_moved_1 4 rfl rfl)
theorem dX4_moved_31 : decode cX4_moved 31 = .ok (.iload_n 1, 1) := dk_27 (dk_at dksX4_moved_1 7 rfl rfl)
theorem dX4_moved_32 : decode cX4_moved 32 = .ok (.iadd, 1) := dk_96 (dk_at dksX4_moved_1 8 rfl rfl)
theorem dX4_moved_33 : decode cX4_moved 33 = .ok (.invokevirtual 47, 3) := dk_182 0 47 (dk_at dksX4_moved_1 9 rfl rfl)
theorem dX4_moved_36 : decode cX4_moved 36 = .ok (.iinc 3 1, 3) := dk_132 3 1 (dk_at dksX4_moved_1 12 rfl rfl)
theorem dX4_moved_39 : decode cX4_moved 39 = .ok (.goto (-29), 3) := dk_167 255 227 (dk_at dksX4_moved_1 15 rfl rfl)
theorem dX4_moved_42 : decode cX4_moved 42 = .ok (.aload_n 2, 1) := dk_44 (dk_at dksX4_moved_1 18 rfl rfl)
theorem dX4_moved_43 : decode cX4_moved 43 = .ok (.areturn, 1) := dk_176 (dk_at dksX4_moved_1 19 rfl rfl)
abbrev cX4_contains : ByteArray := prog_19_method_8_code
def yX4_contains : MethodName := ⟨RX4, "contains", "(I)Z"⟩
def dkwX4_contains_1 : List UInt8 := [4, 100, 184, 0, 36, 128, 61, 132, 3, 1, 167, 255, 226, 28, 172]
abbrev dktX4_contains_1 : List UInt8 := dkwX4_contains_1 ++ []
def dkwX4_contains_0 : List UInt8 := [3, 61, 3, 62, 29, 42, 182, 0, 32, 162, 0, 28, 28, 27, 42, 29, 182, 0, 29, 42, 29, 182, 0, 25]
abbrev dktX4_contains_0 : List UInt8 := dkwX4_contains_0 ++ dktX4_contains_1
theorem dksX4_contains_0 : cX4_contains.data.toList.drop 0 = dktX4_contains_0 := by decide +kernel
theorem dksX4_contains_1 : cX4_contains.data.toList.drop 24 = dktX4_contains_1 := dk_seg dksX4_contains_0 24 rfl rfl
theorem dX4_contains_0 : decode cX4_contains 0 = .ok (.iconst 0, 1) := dk_3 (dk_at dksX4_contains_0 0 rfl rfl)
theorem dX4_contains_1 : decode cX4_contains 1 = .ok (.istore_n 2, 1) := dk_61 (dk_at dksX4_contains_0 1 rfl rfl)
theorem dX4_contains_2 : decode cX4_contains 2 = .ok (.iconst 0, 1) := dk_3 (dk_at dksX4_contains_0 2 rfl rfl)
theorem dX4_contains_3 : decode cX4_contains 3 = .ok (.istore_n 3, 1) := dk_62 (dk_at dksX4_contains_0 3 rfl rfl)
theorem dX4_contains_4 : decode cX4_contains 4 = .ok (.iload_n 3, 1) := dk_29 (dk_at dksX4_contains_0 4 rfl rfl)
theorem dX4_contains_5 : decode cX4_contains 5 = .ok (.aload_n 0, 1) := dk_42 (dk_at dksX4_contains_0 5 rfl rfl)
theorem dX4_contains_6 : decode cX4_contains 6 = .ok (.invokevirtual 32, 3) := dk_182 0 32 (dk_at dksX4_contains_0 6 rfl rfl)
theorem dX4_contains_9 : decode cX4_contains 9 = .ok (.if_icmp .ge 28, 3) := dk_162 0 28 (dk_at dksX4_contains_0 9 rfl rfl)
theorem dX4_contains_12 : decode cX4_contains 12 = .ok (.iload_n 2, 1) := dk_28 (dk_at dksX4_contains_0 12 rfl rfl)
theorem dX4_contains_13 : decode cX4_contains 13 = .ok (.iload_n 1, 1) := dk_27 (dk_at dksX4_contains_0 13 rfl rfl)
theorem dX4_contains_14 : decode cX4_contains 14 = .ok (.aload_n 0, 1) := dk_42 (dk_at dksX4_contains_0 14 rfl rfl)
theorem dX4_contains_15 : decode cX4_contains 15 = .ok (.iload_n 3, 1) := dk_29 (dk_at dksX4_contains_0 15 rfl rfl)
theorem dX4_contains_16 : decode cX4_contains 16 = .ok (.invokevirtual 29, 3) := dk_182 0 29 (dk_at dksX4_contains_0 16 rfl rfl)
theorem dX4_contains_19 : decode cX4_contains 19 = .ok (.aload_n 0, 1) := dk_42 (dk_at dksX4_contains_0 19 rfl rfl)
theorem dX4_contains_20 : decode cX4_contains 20 = .ok (.iload_n 3, 1) := dk_29 (dk_at dksX4_contains_0 20 rfl rfl)
theorem dX4_contains_21 : decode cX4_contains 21 = .ok (.invokevirtual 25, 3) := dk_182 0 25 (dk_at dksX4_contains_0 21 rfl rfl)
theorem dX4_contains_24 : decode cX4_contains 24 = .ok (.iconst 1, 1) := dk_4 (dk_at dksX4_contains_1 0 rfl rfl)
theorem dX4_contains_25 : decode cX4_contains 25 = .ok (.isub, 1) := dk_100 (dk_at dksX4_contains_1 1 rfl rfl)
theorem dX4_contains_26 : decode cX4_contains 26 = .ok (.invokestatic 36, 3) := dk_184 0 36 (dk_at dksX4_contains_1 2 rfl rfl)
theorem dX4_contains_29 : decode cX4_contains 29 = .ok (.ior, 1) := dk_128 (dk_at dksX4_contains_1 5 rfl rfl)
theorem dX4_contains_30 : decode cX4_contains 30 = .ok (.istore_n 2, 1) := dk_61 (dk_at dksX4_contains_1 6 rfl rfl)
theorem dX4_contains_31 : decode cX4_contains 31 = .ok (.iinc 3 1, 3) := dk_132 3 1 (dk_at dksX4_contains_1 7 rfl rfl)
theorem dX4_contains_34 : decode cX4_contains 34 = .ok (.goto (-30), 3) := dk_167 255 226 (dk_at dksX4_contains_1 10 rfl rfl)
theorem dX4_contains_37 : decode cX4_contains 37 = .ok (.iload_n 2, 1) := dk_28 (dk_at dksX4_contains_1 13 rfl rfl)
theorem dX4_contains_38 : decode cX4_contains 38 = .ok (.ireturn, 1) := dk_172 (dk_at dksX4_contains_1 14 rfl rfl)
abbrev cX4_mirrored : ByteArray := prog_19_method_13_code
def yX4_mirrored : MethodName := ⟨RX4, "mirrored", "()LPolygonBoard$Spans;"⟩
def dkwX4_mirrored_1 : List UInt8 := [182, 0, 25, 100, 16, 24, 42, 28, 182, 0, 29, 100, 182, 0, 47, 132, 2, 255, 167, 255, 229, 43, 176]
abbrev dktX4_mirrored_1 : List UInt8 := dkwX4_mirrored_1 ++ []
def dkwX4_mirrored_0 : List UInt8 := [187, 0, 10, 89, 183, 0, 40, 76, 42, 182, 0, 32, 4, 100, 61, 28, 155, 0, 29, 43, 16, 24, 42, 28]
abbrev dktX4_mirrored_0 : List UInt8 := dkwX4_mirrored_0 ++ dktX4_mirrored_1
theorem dksX4_mirrored_0 : cX4_mirrored.data.toList.drop 0 = dktX4_mirrored_0 := by decide +kernel
theorem dksX4_mirrored_1 : cX4_mirrored.data.toList.drop 24 = dktX4_mirrored_1 := dk_seg dksX4_mirrored_0 24 rfl rfl
theorem dX4_mirrored_0 : decode cX4_mirrored 0 = .ok (.new 10, 3) := dk_187 0 10 (dk_at dksX4_mirrored_0 0 rfl rfl)
theorem dX4_mirrored_3 : decode cX4_mirrored 3 = .ok (.dup, 1) := dk_89 (dk_at dksX4_mirrored_0 3 rfl rfl)
theorem dX4_mirrored_4 : decode cX4_mirrored 4 = .ok (.invokespecial 40, 3) := dk_183 0 40 (dk_at dksX4_mirrored_0 4 rfl rfl)
theorem dX4_mirrored_7 : decode cX4_mirrored 7 = .ok (.astore_n 1, 1) := dk_76 (dk_at dksX4_mirrored_0 7 rfl rfl)
theorem dX4_mirrored_8 : decode cX4_mirrored 8 = .ok (.aload_n 0, 1) := dk_42 (dk_at dksX4_mirrored_0 8 rfl rfl)
theorem dX4_mirrored_9 : decode cX4_mirrored 9 = .ok (.invokevirtual 32, 3) := dk_182 0 32 (dk_at dksX4_mirrored_0 9 rfl rfl)
theorem dX4_mirrored_12 : decode cX4_mirrored 12 = .ok (.iconst 1, 1) := dk_4 (dk_at dksX4_mirrored_0 12 rfl rfl)
theorem dX4_mirrored_13 : decode cX4_mirrored 13 = .ok (.isub, 1) := dk_100 (dk_at dksX4_mirrored_0 13 rfl rfl)
theorem dX4_mirrored_14 : decode cX4_mirrored 14 = .ok (.istore_n 2, 1) := dk_61 (dk_at dksX4_mirrored_0 14 rfl rfl)
theorem dX4_mirrored_15 : decode cX4_mirrored 15 = .ok (.iload_n 2, 1) := dk_28 (dk_at dksX4_mirrored_0 15 rfl rfl)
theorem dX4_mirrored_16 : decode cX4_mirrored 16 = .ok (.ifCond .lt 29, 3) := dk_155 0 29 (dk_at dksX4_mirrored_0 16 rfl rfl)
theorem dX4_mirrored_19 : decode cX4_mirrored 19 = .ok (.aload_n 1, 1) := dk_43 (dk_at dksX4_mirrored_0 19 rfl rfl)
theorem dX4_mirrored_20 : decode cX4_mirrored 20 = .ok (.bipush 24, 2) := dk_16 24 (dk_at dksX4_mirrored_0 20 rfl rfl)
theorem dX4_mirrored_22 : decode cX4_mirrored 22 = .ok (.aload_n 0, 1) := dk_42 (dk_at dksX4_mirrored_0 22 rfl rfl)
theorem dX4_mirrored_23 : decode cX4_mirrored 23 = .ok (.iload_n 2, 1) := dk_28 (dk_at dksX4_mirrored_0 23 rfl rfl)
theorem dX4_mirrored_24 : decode cX4_mirrored 24 = .ok (.invokevirtual 25, 3) := dk_182 0 25 (dk_at dksX4_mirrored_1 0 rfl rfl)
theorem dX4_mirrored_27 : decode cX4_mirrored 27 = .ok (.isub, 1) := dk_100 (dk_at dksX4_mirrored_1 3 rfl rfl)
theorem dX4_mirrored_28 : decode cX4_mirrored 28 = .ok (.bipush 24, 2) := dk_16 24 (dk_at dksX4_mirrored_1 4 rfl rfl)
theorem dX4_mirrored_30 : decode cX4_mirrored 30 = .ok (.aload_n 0, 1) := dk_42 (dk_at dksX4_mirrored_1 6 rfl rfl)
theorem dX4_mirrored_31 : decode cX4_mirrored 31 = .ok (.iload_n 2, 1) := dk_28 (dk_at dksX4_mirrored_1 7 rfl rfl)
theorem dX4_mirrored_32 : decode cX4_mirrored 32 = .ok (.invokevirtual 29, 3) := dk_182 0 29 (dk_at dksX4_mirrored_1 8 rfl rfl)
theorem dX4_mirrored_35 : decode cX4_mirrored 35 = .ok (.isub, 1) := dk_100 (dk_at dksX4_mirrored_1 11 rfl rfl)
theorem dX4_mirrored_36 : decode cX4_mirrored 36 = .ok (.invokevirtual 47, 3) := dk_182 0 47 (dk_at dksX4_mirrored_1 12 rfl rfl)
theorem dX4_mirrored_39 : decode cX4_mirrored 39 = .ok (.iinc 2 (-1), 3) := dk_132 2 255 (dk_at dksX4_mirrored_1 15 rfl rfl)
theorem dX4_mirrored_42 : decode cX4_mirrored 42 = .ok (.goto (-27), 3) := dk_167 255 229 (dk_at dksX4_mirrored_1 18 rfl rfl)
theorem dX4_mirrored_45 : decode cX4_mirrored 45 = .ok (.aload_n 1, 1) := dk_43 (dk_at dksX4_mirrored_1 21 rfl rfl)
theorem dX4_mirrored_46 : decode cX4_mirrored 46 = .ok (.areturn, 1) := dk_176 (dk_at dksX4_mirrored_1 22 rfl rfl)
abbrev cX4_length : ByteArray := prog_19_method_10_code
def yX4_length : MethodName := ⟨RX4, "length", "()I"⟩
def dkwX4_length_1 : List UInt8 := [167, 255, 237, 27, 172]
abbrev dktX4_length_1 : List UInt8 := dkwX4_length_1 ++ []
def dkwX4_length_0 : List UInt8 := [3, 60, 3, 61, 28, 42, 182, 0, 32, 162, 0, 17, 27, 42, 28, 182, 0, 51, 96, 60, 132, 2, 1]
abbrev dktX4_length_0 : List UInt8 := dkwX4_length_0 ++ dktX4_length_1
theorem dksX4_length_0 : cX4_length.data.toList.drop 0 = dktX4_length_0 := by decide +kernel
theorem dksX4_length_1 : cX4_length.data.toList.drop 23 = dktX4_length_1 := dk_seg dksX4_length_0 23 rfl rfl
theorem dX4_length_0 : decode cX4_length 0 = .ok (.iconst 0, 1) := dk_3 (dk_at dksX4_length_0 0 rfl rfl)
theorem dX4_length_1 : decode cX4_length 1 = .ok (.istore_n 1, 1) := dk_60 (dk_at dksX4_length_0 1 rfl rfl)
theorem dX4_length_2 : decode cX4_length 2 = .ok (.iconst 0, 1) := dk_3 (dk_at dksX4_length_0 2 rfl rfl)
theorem dX4_length_3 : decode cX4_length 3 = .ok (.istore_n 2, 1) := dk_61 (dk_at dksX4_length_0 3 rfl rfl)
theorem dX4_length_4 : decode cX4_length 4 = .ok (.iload_n 2, 1) := dk_28 (dk_at dksX4_length_0 4 rfl rfl)
theorem dX4_length_5 : decode cX4_length 5 = .ok (.aload_n 0, 1) := dk_42 (dk_at dksX4_length_0 5 rfl rfl)
theorem dX4_length_6 : decode cX4_length 6 = .ok (.invokevirtual 32, 3) := dk_182 0 32 (dk_at dksX4_length_0 6 rfl rfl)
theorem dX4_length_9 : decode cX4_length 9 = .ok (.if_icmp .ge 17, 3) := dk_162 0 17 (dk_at dksX4_length_0 9 rfl rfl)
theorem dX4_length_12 : decode cX4_length 12 = .ok (.iload_n 1, 1) := dk_27 (dk_at dksX4_length_0 12 rfl rfl)
theorem dX4_length_13 : decode cX4_length 13 = .ok (.aload_n 0, 1) := dk_42 (dk_at dksX4_length_0 13 rfl rfl)
theorem dX4_length_14 : decode cX4_length 14 = .ok (.iload_n 2, 1) := dk_28 (dk_at dksX4_length_0 14 rfl rfl)
theorem dX4_length_15 : decode cX4_length 15 = .ok (.invokevirtual 51, 3) := dk_182 0 51 (dk_at dksX4_length_0 15 rfl rfl)
theorem dX4_length_18 : decode cX4_length 18 = .ok (.iadd, 1) := dk_96 (dk_at dksX4_length_0 18 rfl rfl)
theorem dX4_length_19 : decode cX4_length 19 = .ok (.istore_n 1, 1) := dk_60 (dk_at dksX4_length_0 19 rfl rfl)
theorem dX4_length_20 : decode cX4_length 20 = .ok (.iinc 2 1, 3) := dk_132 2 1 (dk_at dksX4_length_0 20 rfl rfl)
theorem dX4_length_23 : decode cX4_length 23 = .ok (.goto (-19), 3) := dk_167 255 237 (dk_at dksX4_length_1 0 rfl rfl)
theorem dX4_length_26 : decode cX4_length 26 = .ok (.iload_n 1, 1) := dk_27 (dk_at dksX4_length_1 3 rfl rfl)
theorem dX4_length_27 : decode cX4_length 27 = .ok (.ireturn, 1) := dk_172 (dk_at dksX4_length_1 4 rfl rfl)
abbrev cX4_width : ByteArray := prog_19_method_6_code
def yX4_width : MethodName := ⟨RX4, "width", "(I)I"⟩
def dkwX4_width_0 : List UInt8 := [42, 27, 182, 0, 25, 42, 27, 182, 0, 29, 100, 172]
abbrev dktX4_width_0 : List UInt8 := dkwX4_width_0 ++ []
theorem dksX4_width_0 : cX4_width.data.toList.drop 0 = dktX4_width_0 := by decide +kernel
theorem dX4_width_0 : decode cX4_width 0 = .ok (.aload_n 0, 1) := dk_42 (dk_at dksX4_width_0 0 rfl rfl)
theorem dX4_width_1 : decode cX4_width 1 = .ok (.iload_n 1, 1) := dk_27 (dk_at dksX4_width_0 1 rfl rfl)
theorem dX4_width_2 : decode cX4_width 2 = .ok (.invokevirtual 25, 3) := dk_182 0 25 (dk_at dksX4_width_0 2 rfl rfl)
theorem dX4_width_5 : decode cX4_width 5 = .ok (.aload_n 0, 1) := dk_42 (dk_at dksX4_width_0 5 rfl rfl)
theorem dX4_width_6 : decode cX4_width 6 = .ok (.iload_n 1, 1) := dk_27 (dk_at dksX4_width_0 6 rfl rfl)
theorem dX4_width_7 : decode cX4_width 7 = .ok (.invokevirtual 29, 3) := dk_182 0 29 (dk_at dksX4_width_0 7 rfl rfl)
theorem dX4_width_10 : decode cX4_width 10 = .ok (.isub, 1) := dk_100 (dk_at dksX4_width_0 10 rfl rfl)
theorem dX4_width_11 : decode cX4_width 11 = .ok (.ireturn, 1) := dk_172 (dk_at dksX4_width_0 11 rfl rfl)
theorem q70 : (Jvm.Cond.initialized "PolygonBoard$Spans") ∈ lw_all := lw_g (lw_at lw_m1 20 rfl) rfl
theorem q199 : (Jvm.Cond.selects "PolygonBoard$Spans" ({ cls := "java/lang/Object", name := "getClass", desc := "()Ljava/lang/Class;" } : Jvm.MethodName) ({ cls := "java/lang/Object", name := "getClass", desc := "()Ljava/lang/Class;" } : Jvm.MethodName)) ∈ lw_all := lw_g (lw_at lw_m1 149 rfl) rfl
theorem q405 : (Jvm.Cond.instantiable "PolygonBoard$Spans" (2 : Nat)) ∈ lw_all := lw_g (lw_at lw_m2 115 rfl) rfl
theorem q407 : (Jvm.Cond.instanceMethod ({ cls := "PolygonBoard$Spans", name := "<init>", desc := "()V" } : Jvm.MethodName)) ∈ lw_all := lw_g (lw_at lw_m2 117 rfl) rfl
theorem q408 : (Jvm.Cond.code ({ cls := "PolygonBoard$Spans", name := "<init>", desc := "()V" } : Jvm.MethodName) prog_19_method_1_code (1 : Nat) (Option.none : Option Jvm.ClassFile.FieldType)) ∈ lw_all := lw_g (lw_at lw_m2 118 rfl) rfl
theorem q409 : (Jvm.Cond.methodLink "PolygonBoard$Spans" (3 : Nat) ({ cls := "java/lang/Object", name := "<init>", desc := "()V" } : Jvm.MethodName)) ∈ lw_all := lw_g (lw_at lw_m2 119 rfl) rfl
theorem q410 : (Jvm.Cond.fieldLink "PolygonBoard$Spans" (9 : Nat) "PolygonBoard$Spans" "ends" "[I") ∈ lw_all := lw_g (lw_at lw_m2 120 rfl) rfl
theorem q411 : (Jvm.Cond.fieldLink "PolygonBoard$Spans" (15 : Nat) "PolygonBoard$Spans" "count" "I") ∈ lw_all := lw_g (lw_at lw_m2 121 rfl) rfl
theorem q412 : (Jvm.Cond.lays "PolygonBoard$Spans" "PolygonBoard$Spans" "ends" "[I") ∈ lw_all := lw_g (lw_at lw_m2 122 rfl) rfl
theorem q413 : (Jvm.Cond.soleField "PolygonBoard$Spans" "ends") ∈ lw_all := lw_g (lw_at lw_m2 123 rfl) rfl
theorem q414 : (Jvm.Cond.lays "PolygonBoard$Spans" "PolygonBoard$Spans" "count" "I") ∈ lw_all := lw_g (lw_at lw_m2 124 rfl) rfl
theorem q415 : (Jvm.Cond.soleField "PolygonBoard$Spans" "count") ∈ lw_all := lw_g (lw_at lw_m2 125 rfl) rfl
theorem q416 : (Jvm.Cond.superclass "PolygonBoard$Spans" "java/lang/Object") ∈ lw_all := lw_g (lw_at lw_m2 126 rfl) rfl
theorem q419 : (Jvm.Cond.instanceMethod ({ cls := "PolygonBoard$Spans", name := "add", desc := "(II)V" } : Jvm.MethodName)) ∈ lw_all := lw_g (lw_at lw_m2 129 rfl) rfl
theorem q420 : (Jvm.Cond.selects "PolygonBoard$Spans" ({ cls := "PolygonBoard$Spans", name := "add", desc := "(II)V" } : Jvm.MethodName) ({ cls := "PolygonBoard$Spans", name := "add", desc := "(II)V" } : Jvm.MethodName)) ∈ lw_all := lw_g (lw_at lw_m2 130 rfl) rfl
theorem q421 : (Jvm.Cond.code ({ cls := "PolygonBoard$Spans", name := "add", desc := "(II)V" } : Jvm.MethodName) prog_19_method_2_code (5 : Nat) (Option.none : Option Jvm.ClassFile.FieldType)) ∈ lw_all := lw_g (lw_at lw_m2 131 rfl) rfl
theorem q422 : (Jvm.Cond.methodLink "PolygonBoard$Spans" (19 : Nat) ({ cls := "java/lang/Math", name := "max", desc := "(II)I" } : Jvm.MethodName)) ∈ lw_all := lw_g (lw_at lw_m2 132 rfl) rfl
theorem q428 : (Jvm.Cond.instanceMethod ({ cls := "PolygonBoard$Spans", name := "size", desc := "()I" } : Jvm.MethodName)) ∈ lw_all := lw_g (lw_at lw_m2 138 rfl) rfl
theorem q429 : (Jvm.Cond.selects "PolygonBoard$Spans" ({ cls := "PolygonBoard$Spans", name := "size", desc := "()I" } : Jvm.MethodName) ({ cls := "PolygonBoard$Spans", name := "size", desc := "()I" } : Jvm.MethodName)) ∈ lw_all := lw_g (lw_at lw_m2 139 rfl) rfl
theorem q430 : (Jvm.Cond.code ({ cls := "PolygonBoard$Spans", name := "size", desc := "()I" } : Jvm.MethodName) prog_19_method_3_code (1 : Nat) (Option.some Jvm.ClassFile.FieldType.int)) ∈ lw_all := lw_g (lw_at lw_m2 140 rfl) rfl
theorem q453 : (Jvm.Cond.instanceMethod ({ cls := "PolygonBoard$Spans", name := "isSame", desc := "(LPolygonBoard$Spans;)Z" } : Jvm.MethodName)) ∈ lw_all := lw_g (lw_at lw_m2 163 rfl) rfl
theorem q454 : (Jvm.Cond.selects "PolygonBoard$Spans" ({ cls := "PolygonBoard$Spans", name := "isSame", desc := "(LPolygonBoard$Spans;)Z" } : Jvm.MethodName) ({ cls := "PolygonBoard$Spans", name := "isSame", desc := "(LPolygonBoard$Spans;)Z" } : Jvm.MethodName)) ∈ lw_all := lw_g (lw_at lw_m2 164 rfl) rfl
theorem q455 : (Jvm.Cond.code ({ cls := "PolygonBoard$Spans", name := "isSame", desc := "(LPolygonBoard$Spans;)Z" } : Jvm.MethodName) prog_19_method_7_code (4 : Nat) (Option.some Jvm.ClassFile.FieldType.boolean)) ∈ lw_all := lw_g (lw_at lw_m2 165 rfl) rfl
theorem q588 : (Jvm.Cond.instanceMethod ({ cls := "PolygonBoard$Spans", name := "left", desc := "(I)I" } : Jvm.MethodName)) ∈ lw_all := lw_g (lw_at lw_m3 58 rfl) rfl
theorem q589 : (Jvm.Cond.selects "PolygonBoard$Spans" ({ cls := "PolygonBoard$Spans", name := "left", desc := "(I)I" } : Jvm.MethodName) ({ cls := "PolygonBoard$Spans", name := "left", desc := "(I)I" } : Jvm.MethodName)) ∈ lw_all := lw_g (lw_at lw_m3 59 rfl) rfl
theorem q590 : (Jvm.Cond.code ({ cls := "PolygonBoard$Spans", name := "left", desc := "(I)I" } : Jvm.MethodName) prog_19_method_4_code (2 : Nat) (Option.some Jvm.ClassFile.FieldType.int)) ∈ lw_all := lw_g (lw_at lw_m3 60 rfl) rfl
theorem q592 : (Jvm.Cond.instanceMethod ({ cls := "PolygonBoard$Spans", name := "right", desc := "(I)I" } : Jvm.MethodName)) ∈ lw_all := lw_g (lw_at lw_m3 62 rfl) rfl
theorem q593 : (Jvm.Cond.selects "PolygonBoard$Spans" ({ cls := "PolygonBoard$Spans", name := "right", desc := "(I)I" } : Jvm.MethodName) ({ cls := "PolygonBoard$Spans", name := "right", desc := "(I)I" } : Jvm.MethodName)) ∈ lw_all := lw_g (lw_at lw_m3 63 rfl) rfl
theorem q594 : (Jvm.Cond.code ({ cls := "PolygonBoard$Spans", name := "right", desc := "(I)I" } : Jvm.MethodName) prog_19_method_5_code (2 : Nat) (Option.some Jvm.ClassFile.FieldType.int)) ∈ lw_all := lw_g (lw_at lw_m3 64 rfl) rfl
theorem q695 : (Jvm.Cond.instanceMethod ({ cls := "PolygonBoard$Spans", name := "combine", desc := "(LPolygonBoard$Spans;LPolygonBoard$Operation;)LPolygonBoard$Spans;" } : Jvm.MethodName)) ∈ lw_all := lw_g (lw_at lw_m3 165 rfl) rfl
theorem q696 : (Jvm.Cond.selects "PolygonBoard$Spans" ({ cls := "PolygonBoard$Spans", name := "combine", desc := "(LPolygonBoard$Spans;LPolygonBoard$Operation;)LPolygonBoard$Spans;" } : Jvm.MethodName) ({ cls := "PolygonBoard$Spans", name := "combine", desc := "(LPolygonBoard$Spans;LPolygonBoard$Operation;)LPolygonBoard$Spans;" } : Jvm.MethodName)) ∈ lw_all := lw_g (lw_at lw_m3 166 rfl) rfl
theorem q697 : (Jvm.Cond.code ({ cls := "PolygonBoard$Spans", name := "combine", desc := "(LPolygonBoard$Spans;LPolygonBoard$Operation;)LPolygonBoard$Spans;" } : Jvm.MethodName) prog_19_method_9_code (9 : Nat) (Option.some (Jvm.ClassFile.FieldType.object "PolygonBoard$Spans"))) ∈ lw_all := lw_g (lw_at lw_m3 167 rfl) rfl
theorem q698 : (Jvm.Cond.classLink "PolygonBoard$Spans" (10 : Nat) "PolygonBoard$Spans") ∈ lw_all := lw_g (lw_at lw_m3 168 rfl) rfl
theorem q699 : (Jvm.Cond.methodLink "PolygonBoard$Spans" (40 : Nat) ({ cls := "PolygonBoard$Spans", name := "<init>", desc := "()V" } : Jvm.MethodName)) ∈ lw_all := lw_g (lw_at lw_m3 169 rfl) rfl
theorem q700 : (Jvm.Cond.methodLink "PolygonBoard$Spans" (41 : Nat) ({ cls := "PolygonBoard$Operation", name := "keeps", desc := "(ZZ)Z" } : Jvm.MethodName)) ∈ lw_all := lw_g (lw_at lw_m3 170 rfl) rfl
theorem q715 : (Jvm.Cond.methodLink "PolygonBoard$Spans" (47 : Nat) ({ cls := "PolygonBoard$Spans", name := "add", desc := "(II)V" } : Jvm.MethodName)) ∈ lw_all := lw_g (lw_at lw_m3 185 rfl) rfl
theorem q877 : (Jvm.Cond.instanceMethod ({ cls := "PolygonBoard$Spans", name := "widened", desc := "(I)LPolygonBoard$Spans;" } : Jvm.MethodName)) ∈ lw_all := lw_g (lw_at lw_m4 107 rfl) rfl
theorem q878 : (Jvm.Cond.selects "PolygonBoard$Spans" ({ cls := "PolygonBoard$Spans", name := "widened", desc := "(I)LPolygonBoard$Spans;" } : Jvm.MethodName) ({ cls := "PolygonBoard$Spans", name := "widened", desc := "(I)LPolygonBoard$Spans;" } : Jvm.MethodName)) ∈ lw_all := lw_g (lw_at lw_m4 108 rfl) rfl
theorem q879 : (Jvm.Cond.code ({ cls := "PolygonBoard$Spans", name := "widened", desc := "(I)LPolygonBoard$Spans;" } : Jvm.MethodName) prog_19_method_11_code (4 : Nat) (Option.some (Jvm.ClassFile.FieldType.object "PolygonBoard$Spans"))) ∈ lw_all := lw_g (lw_at lw_m4 109 rfl) rfl
theorem q880 : (Jvm.Cond.methodLink "PolygonBoard$Spans" (32 : Nat) ({ cls := "PolygonBoard$Spans", name := "size", desc := "()I" } : Jvm.MethodName)) ∈ lw_all := lw_g (lw_at lw_m4 110 rfl) rfl
theorem q881 : (Jvm.Cond.methodLink "PolygonBoard$Spans" (29 : Nat) ({ cls := "PolygonBoard$Spans", name := "left", desc := "(I)I" } : Jvm.MethodName)) ∈ lw_all := lw_g (lw_at lw_m4 111 rfl) rfl
theorem q882 : (Jvm.Cond.methodLink "PolygonBoard$Spans" (25 : Nat) ({ cls := "PolygonBoard$Spans", name := "right", desc := "(I)I" } : Jvm.MethodName)) ∈ lw_all := lw_g (lw_at lw_m4 112 rfl) rfl
theorem q929 : (Jvm.Cond.instanceMethod ({ cls := "PolygonBoard$Spans", name := "moved", desc := "(I)LPolygonBoard$Spans;" } : Jvm.MethodName)) ∈ lw_all := lw_g (lw_at lw_m4 159 rfl) rfl
theorem q930 : (Jvm.Cond.selects "PolygonBoard$Spans" ({ cls := "PolygonBoard$Spans", name := "moved", desc := "(I)LPolygonBoard$Spans;" } : Jvm.MethodName) ({ cls := "PolygonBoard$Spans", name := "moved", desc := "(I)LPolygonBoard$Spans;" } : Jvm.MethodName)) ∈ lw_all := lw_g (lw_at lw_m4 160 rfl) rfl
theorem q931 : (Jvm.Cond.code ({ cls := "PolygonBoard$Spans", name := "moved", desc := "(I)LPolygonBoard$Spans;" } : Jvm.MethodName) prog_19_method_12_code (4 : Nat) (Option.some (Jvm.ClassFile.FieldType.object "PolygonBoard$Spans"))) ∈ lw_all := lw_g (lw_at lw_m4 161 rfl) rfl
theorem q945 : (Jvm.Cond.instanceMethod ({ cls := "PolygonBoard$Spans", name := "contains", desc := "(I)Z" } : Jvm.MethodName)) ∈ lw_all := lw_g (lw_at lw_m4 175 rfl) rfl
theorem q946 : (Jvm.Cond.selects "PolygonBoard$Spans" ({ cls := "PolygonBoard$Spans", name := "contains", desc := "(I)Z" } : Jvm.MethodName) ({ cls := "PolygonBoard$Spans", name := "contains", desc := "(I)Z" } : Jvm.MethodName)) ∈ lw_all := lw_g (lw_at lw_m4 176 rfl) rfl
theorem q947 : (Jvm.Cond.code ({ cls := "PolygonBoard$Spans", name := "contains", desc := "(I)Z" } : Jvm.MethodName) prog_19_method_8_code (4 : Nat) (Option.some Jvm.ClassFile.FieldType.boolean)) ∈ lw_all := lw_g (lw_at lw_m4 177 rfl) rfl
theorem q948 : (Jvm.Cond.methodLinkNest "PolygonBoard$Spans" (36 : Nat) ({ cls := "PolygonBoard", name := "isBetween", desc := "(III)Z" } : Jvm.MethodName) "PolygonBoard") ∈ lw_tbl := lw_at lw_m4 178 rfl
theorem q961 : (Jvm.Cond.instanceMethod ({ cls := "PolygonBoard$Spans", name := "mirrored", desc := "()LPolygonBoard$Spans;" } : Jvm.MethodName)) ∈ lw_all := lw_g (lw_at lw_m4 191 rfl) rfl
theorem q962 : (Jvm.Cond.selects "PolygonBoard$Spans" ({ cls := "PolygonBoard$Spans", name := "mirrored", desc := "()LPolygonBoard$Spans;" } : Jvm.MethodName) ({ cls := "PolygonBoard$Spans", name := "mirrored", desc := "()LPolygonBoard$Spans;" } : Jvm.MethodName)) ∈ lw_all := lw_g (lw_at lw_m4 192 rfl) rfl
theorem q963 : (Jvm.Cond.code ({ cls := "PolygonBoard$Spans", name := "mirrored", desc := "()LPolygonBoard$Spans;" } : Jvm.MethodName) prog_19_method_13_code (3 : Nat) (Option.some (Jvm.ClassFile.FieldType.object "PolygonBoard$Spans"))) ∈ lw_all := lw_g (lw_at lw_m4 193 rfl) rfl
theorem q1157 : (Jvm.Cond.instanceMethod ({ cls := "PolygonBoard$Spans", name := "length", desc := "()I" } : Jvm.MethodName)) ∈ lw_all := lw_g (lw_at lw_m5 147 rfl) rfl
theorem q1158 : (Jvm.Cond.selects "PolygonBoard$Spans" ({ cls := "PolygonBoard$Spans", name := "length", desc := "()I" } : Jvm.MethodName) ({ cls := "PolygonBoard$Spans", name := "length", desc := "()I" } : Jvm.MethodName)) ∈ lw_all := lw_g (lw_at lw_m5 148 rfl) rfl
theorem q1159 : (Jvm.Cond.code ({ cls := "PolygonBoard$Spans", name := "length", desc := "()I" } : Jvm.MethodName) prog_19_method_10_code (3 : Nat) (Option.some Jvm.ClassFile.FieldType.int)) ∈ lw_all := lw_g (lw_at lw_m5 149 rfl) rfl
theorem q1160 : (Jvm.Cond.methodLink "PolygonBoard$Spans" (51 : Nat) ({ cls := "PolygonBoard$Spans", name := "width", desc := "(I)I" } : Jvm.MethodName)) ∈ lw_all := lw_g (lw_at lw_m5 150 rfl) rfl
theorem q1161 : (Jvm.Cond.instanceMethod ({ cls := "PolygonBoard$Spans", name := "width", desc := "(I)I" } : Jvm.MethodName)) ∈ lw_all := lw_g (lw_at lw_m5 151 rfl) rfl
theorem q1162 : (Jvm.Cond.selects "PolygonBoard$Spans" ({ cls := "PolygonBoard$Spans", name := "width", desc := "(I)I" } : Jvm.MethodName) ({ cls := "PolygonBoard$Spans", name := "width", desc := "(I)I" } : Jvm.MethodName)) ∈ lw_all := lw_g (lw_at lw_m5 152 rfl) rfl
theorem q1163 : (Jvm.Cond.code ({ cls := "PolygonBoard$Spans", name := "width", desc := "(I)I" } : Jvm.MethodName) prog_19_method_6_code (2 : Nat) (Option.some Jvm.ClassFile.FieldType.int)) ∈ lw_all := lw_g (lw_at lw_m5 153 rfl) rfl
theorem q2135 : (Jvm.Cond.castable "PolygonBoard$Spans" "java/lang/Object") ∈ lw_tbl := lw_at lw_m9 165 rfl
theorem in_X4 : ∀ w ∈ wsX40, w ∈ lw_all := lw_in wsX40 [412, 414] (by decide +kernel) (by decide +kernel)
/-! PolygonBoard$Band -/
set_option maxRecDepth 100000
def RX5 : String := "PolygonBoard$Band"
def TX5 : u_T := fun k => match k with
  | 0 => ("PolygonBoard$Band", "low", "I", true)
  | 1 => ("PolygonBoard$Band", "spans", "LPolygonBoard$Spans;", true)
  | _ => ("PolygonBoard$Band", "high", "I", false)
def tyX5 : Nat → FieldType := fun k => match k with
  | 0 => .int
  | 1 => .object "PolygonBoard$Spans"
  | _ => .int
abbrev wsX50 : List Cond := u_ws RX5 TX5 3
theorem nmX5 : ∀ a, a < 3 → ∀ b, b < 3 → a ≠ b → (TX5 a).2.1 ≠ (TX5 b).2.1 := by decide +kernel
theorem tyX5_ok : ∀ k, k < 3 → parseFieldDescriptor (TX5 k).2.2.1 = some (tyX5 k) := by decide +kernel
abbrev cX5_init : ByteArray := prog_3_method_1_code
def yX5_init : MethodName := ⟨RX5, "<init>", "(IILPolygonBoard$Spans;)V"⟩
def dkwX5_init_0 : List UInt8 := [42, 183, 0, 1, 42, 27, 181, 0, 7, 42, 28, 181, 0, 13, 42, 45, 181, 0, 16, 177]
abbrev dktX5_init_0 : List UInt8 := dkwX5_init_0 ++ []
theorem dksX5_init_0 : cX5_init.data.toList.drop 0 = dktX5_init_0 := by decide +kernel
theorem dX5_init_0 : decode cX5_init 0 = .ok (.aload_n 0, 1) := dk_42 (dk_at dksX5_init_0 0 rfl rfl)
theorem dX5_init_1 : decode cX5_init 1 = .ok (.invokespecial 1, 3) := dk_183 0 1 (dk_at dksX5_init_0 1 rfl rfl)
theorem dX5_init_4 : decode cX5_init 4 = .ok (.aload_n 0, 1) := dk_42 (dk_at dksX5_init_0 4 rfl rfl)
theorem dX5_init_5 : decode cX5_init 5 = .ok (.iload_n 1, 1) := dk_27 (dk_at dksX5_init_0 5 rfl rfl)
theorem dX5_init_6 : decode cX5_init 6 = .ok (.putfield 7, 3) := dk_181 0 7 (dk_at dksX5_init_0 6 rfl rfl)
theorem dX5_init_9 : decode cX5_init 9 = .ok (.aload_n 0, 1) := dk_42 (dk_at dksX5_init_0 9 rfl rfl)
theorem dX5_init_10 : decode cX5_init 10 = .ok (.iload_n 2, 1) := dk_28 (dk_at dksX5_init_0 10 rfl rfl)
theorem dX5_init_11 : decode cX5_init 11 = .ok (.putfield 13, 3) := dk_181 0 13 (dk_at dksX5_init_0 11 rfl rfl)
theorem dX5_init_14 : decode cX5_init 14 = .ok (.aload_n 0, 1) := dk_42 (dk_at dksX5_init_0 14 rfl rfl)
theorem dX5_init_15 : decode cX5_init 15 = .ok (.aload_n 3, 1) := dk_45 (dk_at dksX5_init_0 15 rfl rfl)
theorem dX5_init_16 : decode cX5_init 16 = .ok (.putfield 16, 3) := dk_181 0 16 (dk_at dksX5_init_0 16 rfl rfl)
theorem dX5_init_19 : decode cX5_init 19 = .ok (.return_, 1) := dk_177 (dk_at dksX5_init_0 19 rfl rfl)
abbrev cX5_height : ByteArray := prog_3_method_2_code
def yX5_height : MethodName := ⟨RX5, "height", "()I"⟩
def dkwX5_height_0 : List UInt8 := [42, 180, 0, 13, 42, 180, 0, 7, 100, 172]
abbrev dktX5_height_0 : List UInt8 := dkwX5_height_0 ++ []
theorem dksX5_height_0 : cX5_height.data.toList.drop 0 = dktX5_height_0 := by decide +kernel
theorem dX5_height_0 : decode cX5_height 0 = .ok (.aload_n 0, 1) := dk_42 (dk_at dksX5_height_0 0 rfl rfl)
theorem dX5_height_1 : decode cX5_height 1 = .ok (.getfield 13, 3) := dk_180 0 13 (dk_at dksX5_height_0 1 rfl rfl)
theorem dX5_height_4 : decode cX5_height 4 = .ok (.aload_n 0, 1) := dk_42 (dk_at dksX5_height_0 4 rfl rfl)
theorem dX5_height_5 : decode cX5_height 5 = .ok (.getfield 7, 3) := dk_180 0 7 (dk_at dksX5_height_0 5 rfl rfl)
theorem dX5_height_8 : decode cX5_height 8 = .ok (.isub, 1) := dk_100 (dk_at dksX5_height_0 8 rfl rfl)
theorem dX5_height_9 : decode cX5_height 9 = .ok (.ireturn, 1) := dk_172 (dk_at dksX5_height_0 9 rfl rfl)
theorem q71 : (Jvm.Cond.initialized "PolygonBoard$Band") ∈ lw_all := lw_g (lw_at lw_m1 21 rfl) rfl
theorem q185 : (Jvm.Cond.selects "PolygonBoard$Band" ({ cls := "java/lang/Object", name := "getClass", desc := "()Ljava/lang/Class;" } : Jvm.MethodName) ({ cls := "java/lang/Object", name := "getClass", desc := "()Ljava/lang/Class;" } : Jvm.MethodName)) ∈ lw_all := lw_g (lw_at lw_m1 135 rfl) rfl
theorem q456 : (Jvm.Cond.instantiable "PolygonBoard$Band" (3 : Nat)) ∈ lw_all := lw_g (lw_at lw_m2 166 rfl) rfl
theorem q458 : (Jvm.Cond.instanceMethod ({ cls := "PolygonBoard$Band", name := "<init>", desc := "(IILPolygonBoard$Spans;)V" } : Jvm.MethodName)) ∈ lw_all := lw_g (lw_at lw_m2 168 rfl) rfl
theorem q459 : (Jvm.Cond.code ({ cls := "PolygonBoard$Band", name := "<init>", desc := "(IILPolygonBoard$Spans;)V" } : Jvm.MethodName) prog_3_method_1_code (4 : Nat) (Option.none : Option Jvm.ClassFile.FieldType)) ∈ lw_all := lw_g (lw_at lw_m2 169 rfl) rfl
theorem q460 : (Jvm.Cond.methodLink "PolygonBoard$Band" (1 : Nat) ({ cls := "java/lang/Object", name := "<init>", desc := "()V" } : Jvm.MethodName)) ∈ lw_all := lw_g (lw_at lw_m2 170 rfl) rfl
theorem q461 : (Jvm.Cond.fieldLink "PolygonBoard$Band" (7 : Nat) "PolygonBoard$Band" "low" "I") ∈ lw_all := lw_g (lw_at lw_m2 171 rfl) rfl
theorem q465 : (Jvm.Cond.fieldLink "PolygonBoard$Band" (16 : Nat) "PolygonBoard$Band" "spans" "LPolygonBoard$Spans;") ∈ lw_all := lw_g (lw_at lw_m2 175 rfl) rfl
theorem q469 : (Jvm.Cond.fieldLink "PolygonBoard$Band" (13 : Nat) "PolygonBoard$Band" "high" "I") ∈ lw_all := lw_g (lw_at lw_m2 179 rfl) rfl
theorem q472 : (Jvm.Cond.laysFinal "PolygonBoard$Band" "PolygonBoard$Band" "low" "I") ∈ lw_all := lw_g (lw_at lw_m2 182 rfl) rfl
theorem q473 : (Jvm.Cond.soleField "PolygonBoard$Band" "low") ∈ lw_all := lw_g (lw_at lw_m2 183 rfl) rfl
theorem q474 : (Jvm.Cond.laysFinal "PolygonBoard$Band" "PolygonBoard$Band" "spans" "LPolygonBoard$Spans;") ∈ lw_all := lw_g (lw_at lw_m2 184 rfl) rfl
theorem q475 : (Jvm.Cond.soleField "PolygonBoard$Band" "spans") ∈ lw_all := lw_g (lw_at lw_m2 185 rfl) rfl
theorem q476 : (Jvm.Cond.lays "PolygonBoard$Band" "PolygonBoard$Band" "high" "I") ∈ lw_all := lw_g (lw_at lw_m2 186 rfl) rfl
theorem q477 : (Jvm.Cond.soleField "PolygonBoard$Band" "high") ∈ lw_all := lw_g (lw_at lw_m2 187 rfl) rfl
theorem q478 : (Jvm.Cond.superclass "PolygonBoard$Band" "java/lang/Object") ∈ lw_all := lw_g (lw_at lw_m2 188 rfl) rfl
theorem q1148 : (Jvm.Cond.instanceMethod ({ cls := "PolygonBoard$Band", name := "height", desc := "()I" } : Jvm.MethodName)) ∈ lw_all := lw_g (lw_at lw_m5 138 rfl) rfl
theorem q1149 : (Jvm.Cond.selects "PolygonBoard$Band" ({ cls := "PolygonBoard$Band", name := "height", desc := "()I" } : Jvm.MethodName) ({ cls := "PolygonBoard$Band", name := "height", desc := "()I" } : Jvm.MethodName)) ∈ lw_all := lw_g (lw_at lw_m5 139 rfl) rfl
theorem q1150 : (Jvm.Cond.code ({ cls := "PolygonBoard$Band", name := "height", desc := "()I" } : Jvm.MethodName) prog_3_method_2_code (1 : Nat) (Option.some Jvm.ClassFile.FieldType.int)) ∈ lw_all := lw_g (lw_at lw_m5 140 rfl) rfl
theorem q2136 : (Jvm.Cond.castable "PolygonBoard$Band" "java/lang/Object") ∈ lw_tbl := lw_at lw_m9 166 rfl
theorem in_X5 : ∀ w ∈ wsX50, w ∈ lw_all := lw_in wsX50 [472, 474, 476] (by decide +kernel) (by decide +kernel)
/-! PolygonBoard$Operation -/
set_option maxRecDepth 100000
def RX6 : String := "PolygonBoard$Operation"
abbrev cX6_of : ByteArray := prog_7_method_5_code
def yX6_of : MethodName := ⟨RX6, "of", "(C)LPolygonBoard$Operation;"⟩
def dkwX6_of_1 : List UInt8 := [26, 160, 0, 6, 25, 4, 176, 132, 3, 1, 167, 255, 231, 1, 176]
abbrev dktX6_of_1 : List UInt8 := dkwX6_of_1 ++ []
def dkwX6_of_0 : List UInt8 := [184, 0, 39, 76, 43, 190, 61, 3, 62, 29, 28, 162, 0, 26, 43, 29, 50, 58, 4, 25, 4, 180, 0, 35]
abbrev dktX6_of_0 : List UInt8 := dkwX6_of_0 ++ dktX6_of_1
theorem dksX6_of_0 : cX6_of.data.toList.drop 0 = dktX6_of_0 := by decide +kernel
theorem dksX6_of_1 : cX6_of.data.toList.drop 24 = dktX6_of_1 := dk_seg dksX6_of_0 24 rfl rfl
theorem dX6_of_0 : decode cX6_of 0 = .ok (.invokestatic 39, 3) := dk_184 0 39 (dk_at dksX6_of_0 0 rfl rfl)
theorem dX6_of_3 : decode cX6_of 3 = .ok (.astore_n 1, 1) := dk_76 (dk_at dksX6_of_0 3 rfl rfl)
theorem dX6_of_4 : decode cX6_of 4 = .ok (.aload_n 1, 1) := dk_43 (dk_at dksX6_of_0 4 rfl rfl)
theorem dX6_of_5 : decode cX6_of 5 = .ok (.arraylength, 1) := dk_190 (dk_at dksX6_of_0 5 rfl rfl)
theorem dX6_of_6 : decode cX6_of 6 = .ok (.istore_n 2, 1) := dk_61 (dk_at dksX6_of_0 6 rfl rfl)
theorem dX6_of_7 : decode cX6_of 7 = .ok (.iconst 0, 1) := dk_3 (dk_at dksX6_of_0 7 rfl rfl)
theorem dX6_of_8 : decode cX6_of 8 = .ok (.istore_n 3, 1) := dk_62 (dk_at dksX6_of_0 8 rfl rfl)
theorem dX6_of_9 : decode cX6_of 9 = .ok (.iload_n 3, 1) := dk_29 (dk_at dksX6_of_0 9 rfl rfl)
theorem dX6_of_10 : decode cX6_of 10 = .ok (.iload_n 2, 1) := dk_28 (dk_at dksX6_of_0 10 rfl rfl)
theorem dX6_of_11 : decode cX6_of 11 = .ok (.if_icmp .ge 26, 3) := dk_162 0 26 (dk_at dksX6_of_0 11 rfl rfl)
theorem dX6_of_14 : decode cX6_of 14 = .ok (.aload_n 1, 1) := dk_43 (dk_at dksX6_of_0 14 rfl rfl)
theorem dX6_of_15 : decode cX6_of 15 = .ok (.iload_n 3, 1) := dk_29 (dk_at dksX6_of_0 15 rfl rfl)
theorem dX6_of_16 : decode cX6_of 16 = .ok (.aaload, 1) := dk_50 (dk_at dksX6_of_0 16 rfl rfl)
theorem dX6_of_17 : decode cX6_of 17 = .ok (.astore 4, 2) := dk_58 4 (dk_at dksX6_of_0 17 rfl rfl)
theorem dX6_of_19 : decode cX6_of 19 = .ok (.aload 4, 2) := dk_25 4 (dk_at dksX6_of_0 19 rfl rfl)
theorem dX6_of_21 : decode cX6_of 21 = .ok (.getfield 35, 3) := dk_180 0 35 (dk_at dksX6_of_0 21 rfl rfl)
theorem dX6_of_24 : decode cX6_of 24 = .ok (.iload_n 0, 1) := dk_26 (dk_at dksX6_of_1 0 rfl rfl)
theorem dX6_of_25 : decode cX6_of 25 = .ok (.if_icmp .ne 6, 3) := dk_160 0 6 (dk_at dksX6_of_1 1 rfl rfl)
theorem dX6_of_28 : decode cX6_of 28 = .ok (.aload 4, 2) := dk_25 4 (dk_at dksX6_of_1 4 rfl rfl)
theorem dX6_of_30 : decode cX6_of 30 = .ok (.areturn, 1) := dk_176 (dk_at dksX6_of_1 6 rfl rfl)
theorem dX6_of_31 : decode cX6_of 31 = .ok (.iinc 3 1, 3) := dk_132 3 1 (dk_at dksX6_of_1 7 rfl rfl)
theorem dX6_of_34 : decode cX6_of 34 = .ok (.goto (-25), 3) := dk_167 255 231 (dk_at dksX6_of_1 10 rfl rfl)
theorem dX6_of_37 : decode cX6_of 37 = .ok (.aconst_null, 1) := dk_1 (dk_at dksX6_of_1 13 rfl rfl)
theorem dX6_of_38 : decode cX6_of 38 = .ok (.areturn, 1) := dk_176 (dk_at dksX6_of_1 14 rfl rfl)
abbrev cX6_values : ByteArray := prog_7_method_1_code
def yX6_values : MethodName := ⟨RX6, "values", "()[LPolygonBoard$Operation;"⟩
def dkwX6_values_0 : List UInt8 := [178, 0, 16, 182, 0, 20, 192, 0, 21, 176]
abbrev dktX6_values_0 : List UInt8 := dkwX6_values_0 ++ []
theorem dksX6_values_0 : cX6_values.data.toList.drop 0 = dktX6_values_0 := by decide +kernel
theorem dX6_values_0 : decode cX6_values 0 = .ok (.getstatic 16, 3) := dk_178 0 16 (dk_at dksX6_values_0 0 rfl rfl)
theorem dX6_values_3 : decode cX6_values 3 = .ok (.invokevirtual 20, 3) := dk_182 0 20 (dk_at dksX6_values_0 3 rfl rfl)
theorem dX6_values_6 : decode cX6_values 6 = .ok (.checkcast 21, 3) := dk_192 0 21 (dk_at dksX6_values_0 6 rfl rfl)
theorem dX6_values_9 : decode cX6_values 9 = .ok (.areturn, 1) := dk_176 (dk_at dksX6_values_0 9 rfl rfl)
theorem q73 : (Jvm.Cond.initialized "PolygonBoard$Operation") ∈ lw_all := lw_g (lw_at lw_m1 23 rfl) rfl
theorem q482 : (Jvm.Cond.laysStatic "PolygonBoard$Operation" "UNION" "LPolygonBoard$Operation;") ∈ lw_tbl := lw_at lw_m2 192 rfl
theorem q701 : (Jvm.Cond.declares ({ cls := "PolygonBoard$Operation", name := "keeps", desc := "(ZZ)Z" } : Jvm.MethodName)) ∈ lw_tbl := lw_at lw_m3 171 rfl
theorem q702 : (Jvm.Cond.sameMethod "PolygonBoard$Operation" "PolygonBoard$Operation" "keeps" "(ZZ)Z") ∈ lw_all := lw_g (lw_at lw_m3 172 rfl) rfl
theorem q737 : (Jvm.Cond.laysStatic "PolygonBoard$Operation" "DIFFERENCE" "LPolygonBoard$Operation;") ∈ lw_tbl := lw_at lw_m3 207 rfl
theorem q843 : (Jvm.Cond.static ({ cls := "PolygonBoard$Operation", name := "of", desc := "(C)LPolygonBoard$Operation;" } : Jvm.MethodName)) ∈ lw_all := lw_g (lw_at lw_m4 73 rfl) rfl
theorem q844 : (Jvm.Cond.code ({ cls := "PolygonBoard$Operation", name := "of", desc := "(C)LPolygonBoard$Operation;" } : Jvm.MethodName) prog_7_method_5_code (5 : Nat) (Option.some (Jvm.ClassFile.FieldType.object "PolygonBoard$Operation"))) ∈ lw_all := lw_g (lw_at lw_m4 74 rfl) rfl
theorem q845 : (Jvm.Cond.methodLink "PolygonBoard$Operation" (39 : Nat) ({ cls := "PolygonBoard$Operation", name := "values", desc := "()[LPolygonBoard$Operation;" } : Jvm.MethodName)) ∈ lw_all := lw_g (lw_at lw_m4 75 rfl) rfl
theorem q846 : (Jvm.Cond.static ({ cls := "PolygonBoard$Operation", name := "values", desc := "()[LPolygonBoard$Operation;" } : Jvm.MethodName)) ∈ lw_all := lw_g (lw_at lw_m4 76 rfl) rfl
theorem q847 : (Jvm.Cond.code ({ cls := "PolygonBoard$Operation", name := "values", desc := "()[LPolygonBoard$Operation;" } : Jvm.MethodName) prog_7_method_1_code (0 : Nat) (Option.some (Jvm.ClassFile.FieldType.array (Jvm.ClassFile.FieldType.object "PolygonBoard$Operation")))) ∈ lw_all := lw_g (lw_at lw_m4 77 rfl) rfl
theorem q848 : (Jvm.Cond.fieldLink "PolygonBoard$Operation" (16 : Nat) "PolygonBoard$Operation" "$VALUES" "[LPolygonBoard$Operation;") ∈ lw_all := lw_g (lw_at lw_m4 78 rfl) rfl
theorem q849 : (Jvm.Cond.laysStatic "PolygonBoard$Operation" "$VALUES" "[LPolygonBoard$Operation;") ∈ lw_tbl := lw_at lw_m4 79 rfl
theorem q850 : (Jvm.Cond.methodLink "PolygonBoard$Operation" (20 : Nat) ({ cls := "[LPolygonBoard$Operation;", name := "clone", desc := "()Ljava/lang/Object;" } : Jvm.MethodName)) ∈ lw_all := lw_g (lw_at lw_m4 80 rfl) rfl
theorem q857 : (Jvm.Cond.classLink "PolygonBoard$Operation" (21 : Nat) "[LPolygonBoard$Operation;") ∈ lw_all := lw_g (lw_at lw_m4 87 rfl) rfl
theorem q902 : (Jvm.Cond.laysStatic "PolygonBoard$Operation" "INTERSECTION" "LPolygonBoard$Operation;") ∈ lw_tbl := lw_at lw_m4 132 rfl
theorem q1155 : (Jvm.Cond.laysStatic "PolygonBoard$Operation" "EXCLUSIVE" "LPolygonBoard$Operation;") ∈ lw_tbl := lw_at lw_m5 145 rfl
theorem q2127 : (Jvm.Cond.castable "PolygonBoard$Operation" "java/lang/Object") ∈ lw_tbl := lw_at lw_m9 157 rfl
theorem q2173 : (Jvm.Cond.fieldLink "PolygonBoard$Operation" (35 : Nat) "PolygonBoard$Operation" "letter" "C") ∈ lw_all := lw_g (lw_at lw_m9 203 rfl) rfl
/-! PolygonBoard$Scan -/
set_option maxRecDepth 100000
def RX7 : String := "PolygonBoard$Scan"
abbrev cX7_init : ByteArray := prog_18_method_1_code
def yX7_init : MethodName := ⟨RX7, "<init>", "()V"⟩
theorem dX7_init_0 : decode cX7_init 0 = .ok (.aload_n 0, 1) := by decide +kernel
theorem dX7_init_1 : decode cX7_init 1 = .ok (.invokespecial 1, 3) := by decide +kernel
theorem dX7_init_4 : decode cX7_init 4 = .ok (.return_, 1) := by decide +kernel
abbrev cX7_scan : ByteArray := prog_18_method_2_code
def yX7_scan : MethodName := ⟨RX7, "scan", "(LPolygonBoard$Region;)V"⟩
def dkwX7_scan_3 : List UInt8 := [180, 0, 52, 182, 0, 55, 132, 4, 1, 167, 255, 211, 167, 255, 186, 177]
abbrev dktX7_scan_3 : List UInt8 := dkwX7_scan_3 ++ []
def dkwX7_scan_2 : List UInt8 := [42, 45, 180, 0, 31, 21, 4, 182, 0, 41, 45, 180, 0, 45, 45, 180, 0, 31, 21, 4, 182, 0, 49, 45]
abbrev dktX7_scan_2 : List UInt8 := dkwX7_scan_2 ++ dktX7_scan_3
def dkwX7_scan_1 : List UInt8 := [185, 0, 25, 1, 0, 192, 0, 29, 78, 3, 54, 4, 21, 4, 45, 180, 0, 31, 182, 0, 35, 162, 0, 39]
abbrev dktX7_scan_1 : List UInt8 := dkwX7_scan_1 ++ dktX7_scan_2
def dkwX7_scan_0 : List UInt8 := [43, 180, 0, 7, 185, 0, 13, 1, 0, 77, 44, 185, 0, 19, 1, 0, 153, 0, 67, 44]
abbrev dktX7_scan_0 : List UInt8 := dkwX7_scan_0 ++ dktX7_scan_1
theorem dksX7_scan_0 : cX7_scan.data.toList.drop 0 = dktX7_scan_0 := by decide +kernel
theorem dksX7_scan_1 : cX7_scan.data.toList.drop 20 = dktX7_scan_1 := dk_seg dksX7_scan_0 20 rfl rfl
theorem dksX7_scan_2 : cX7_scan.data.toList.drop 44 = dktX7_scan_2 := dk_seg dksX7_scan_1 24 rfl rfl
theorem dksX7_scan_3 : cX7_scan.data.toList.drop 68 = dktX7_scan_3 := dk_seg dksX7_scan_2 24 rfl rfl
theorem dX7_scan_0 : decode cX7_scan 0 = .ok (.aload_n 1, 1) := dk_43 (dk_at dksX7_scan_0 0 rfl rfl)
theorem dX7_scan_1 : decode cX7_scan 1 = .ok (.getfield 7, 3) := dk_180 0 7 (dk_at dksX7_scan_0 1 rfl rfl)
theorem dX7_scan_4 : decode cX7_scan 4 = .ok (.invokeinterface 13 1, 5) := by decide +kernel
theorem dX7_scan_9 : decode cX7_scan 9 = .ok (.astore_n 2, 1) := dk_77 (dk_at dksX7_scan_0 9 rfl rfl)
theorem dX7_scan_10 : decode cX7_scan 10 = .ok (.aload_n 2, 1) := dk_44 (dk_at dksX7_scan_0 10 rfl rfl)
theorem dX7_scan_11 : decode cX7_scan 11 = .ok (.invokeinterface 19 1, 5) := by decide +kernel
theorem dX7_scan_16 : decode cX7_scan 16 = .ok (.ifCond .eq 67, 3) := dk_153 0 67 (dk_at dksX7_scan_0 16 rfl rfl)
theorem dX7_scan_19 : decode cX7_scan 19 = .ok (.aload_n 2, 1) := dk_44 (dk_at dksX7_scan_0 19 rfl rfl)
theorem dX7_scan_20 : decode cX7_scan 20 = .ok (.invokeinterface 25 1, 5) := by decide +kernel
theorem dX7_scan_25 : decode cX7_scan 25 = .ok (.checkcast 29, 3) := dk_192 0 29 (dk_at dksX7_scan_1 5 rfl rfl)
theorem dX7_scan_28 : decode cX7_scan 28 = .ok (.astore_n 3, 1) := dk_78 (dk_at dksX7_scan_1 8 rfl rfl)
theorem dX7_scan_29 : decode cX7_scan 29 = .ok (.iconst 0, 1) := dk_3 (dk_at dksX7_scan_1 9 rfl rfl)
theorem dX7_scan_30 : decode cX7_scan 30 = .ok (.istore 4, 2) := dk_54 4 (dk_at dksX7_scan_1 10 rfl rfl)
theorem dX7_scan_32 : decode cX7_scan 32 = .ok (.iload 4, 2) := dk_21 4 (dk_at dksX7_scan_1 12 rfl rfl)
theorem dX7_scan_34 : decode cX7_scan 34 = .ok (.aload_n 3, 1) := dk_45 (dk_at dksX7_scan_1 14 rfl rfl)
theorem dX7_scan_35 : decode cX7_scan 35 = .ok (.getfield 31, 3) := dk_180 0 31 (dk_at dksX7_scan_1 15 rfl rfl)
theorem dX7_scan_38 : decode cX7_scan 38 = .ok (.invokevirtual 35, 3) := dk_182 0 35 (dk_at dksX7_scan_1 18 rfl rfl)
theorem dX7_scan_41 : decode cX7_scan 41 = .ok (.if_icmp .ge 39, 3) := dk_162 0 39 (dk_at dksX7_scan_1 21 rfl rfl)
theorem dX7_scan_44 : decode cX7_scan 44 = .ok (.aload_n 0, 1) := dk_42 (dk_at dksX7_scan_2 0 rfl rfl)
theorem dX7_scan_45 : decode cX7_scan 45 = .ok (.aload_n 3, 1) := dk_45 (dk_at dksX7_scan_2 1 rfl rfl)
theorem dX7_scan_46 : decode cX7_scan 46 = .ok (.getfield 31, 3) := dk_180 0 31 (dk_at dksX7_scan_2 2 rfl rfl)
theorem dX7_scan_49 : decode cX7_scan 49 = .ok (.iload 4, 2) := dk_21 4 (dk_at dksX7_scan_2 5 rfl rfl)
theorem dX7_scan_51 : decode cX7_scan 51 = .ok (.invokevirtual 41, 3) := dk_182 0 41 (dk_at dksX7_scan_2 7 rfl rfl)
theorem dX7_scan_54 : decode cX7_scan 54 = .ok (.aload_n 3, 1) := dk_45 (dk_at dksX7_scan_2 10 rfl rfl)
theorem dX7_scan_55 : decode cX7_scan 55 = .ok (.getfield 45, 3) := dk_180 0 45 (dk_at dksX7_scan_2 11 rfl rfl)
theorem dX7_scan_58 : decode cX7_scan 58 = .ok (.aload_n 3, 1) := dk_45 (dk_at dksX7_scan_2 14 rfl rfl)
theorem dX7_scan_59 : decode cX7_scan 59 = .ok (.getfield 31, 3) := dk_180 0 31 (dk_at dksX7_scan_2 15 rfl rfl)
theorem dX7_scan_62 : decode cX7_scan 62 = .ok (.iload 4, 2) := dk_21 4 (dk_at dksX7_scan_2 18 rfl rfl)
theorem dX7_scan_64 : decode cX7_scan 64 = .ok (.invokevirtual 49, 3) := dk_182 0 49 (dk_at dksX7_scan_2 20 rfl rfl)
theorem dX7_scan_67 : decode cX7_scan 67 = .ok (.aload_n 3, 1) := dk_45 (dk_at dksX7_scan_2 23 rfl rfl)
theorem dX7_scan_68 : decode cX7_scan 68 = .ok (.getfield 52, 3) := dk_180 0 52 (dk_at dksX7_scan_3 0 rfl rfl)
theorem dX7_scan_71 : decode cX7_scan 71 = .ok (.invokevirtual 55, 3) := dk_182 0 55 (dk_at dksX7_scan_3 3 rfl rfl)
theorem dX7_scan_74 : decode cX7_scan 74 = .ok (.iinc 4 1, 3) := dk_132 4 1 (dk_at dksX7_scan_3 6 rfl rfl)
theorem dX7_scan_77 : decode cX7_scan 77 = .ok (.goto (-45), 3) := dk_167 255 211 (dk_at dksX7_scan_3 9 rfl rfl)
theorem dX7_scan_80 : decode cX7_scan 80 = .ok (.goto (-70), 3) := dk_167 255 186 (dk_at dksX7_scan_3 12 rfl rfl)
theorem dX7_scan_83 : decode cX7_scan 83 = .ok (.return_, 1) := dk_177 (dk_at dksX7_scan_3 15 rfl rfl)
abbrev cX7_visit : ByteArray := prog_18_method_3_code
def yX7_visit : MethodName := ⟨RX7, "visit", "(IIII)V"⟩
def dkwX7_visit_0 : List UInt8 := [42, 89, 180, 0, 61, 4, 96, 181, 0, 61, 177]
abbrev dktX7_visit_0 : List UInt8 := dkwX7_visit_0 ++ []
theorem dksX7_visit_0 : cX7_visit.data.toList.drop 0 = dktX7_visit_0 := by decide +kernel
theorem dX7_visit_0 : decode cX7_visit 0 = .ok (.aload_n 0, 1) := dk_42 (dk_at dksX7_visit_0 0 rfl rfl)
theorem dX7_visit_1 : decode cX7_visit 1 = .ok (.dup, 1) := dk_89 (dk_at dksX7_visit_0 1 rfl rfl)
theorem dX7_visit_2 : decode cX7_visit 2 = .ok (.getfield 61, 3) := dk_180 0 61 (dk_at dksX7_visit_0 2 rfl rfl)
theorem dX7_visit_5 : decode cX7_visit 5 = .ok (.iconst 1, 1) := dk_4 (dk_at dksX7_visit_0 5 rfl rfl)
theorem dX7_visit_6 : decode cX7_visit 6 = .ok (.iadd, 1) := dk_96 (dk_at dksX7_visit_0 6 rfl rfl)
theorem dX7_visit_7 : decode cX7_visit 7 = .ok (.putfield 61, 3) := dk_181 0 61 (dk_at dksX7_visit_0 7 rfl rfl)
theorem dX7_visit_10 : decode cX7_visit 10 = .ok (.return_, 1) := dk_177 (dk_at dksX7_visit_0 10 rfl rfl)
theorem q74 : (Jvm.Cond.initialized "PolygonBoard$Scan") ∈ lw_all := lw_g (lw_at lw_m1 24 rfl) rfl
theorem q140 : (Jvm.Cond.fieldLinkNest "PolygonBoard$Scan" (7 : Nat) "PolygonBoard$Region" "bands" "Ljava/util/List;" "PolygonBoard") ∈ lw_tbl := lw_at lw_m1 90 rfl
theorem q462 : (Jvm.Cond.fieldLinkNest "PolygonBoard$Scan" (45 : Nat) "PolygonBoard$Band" "low" "I" "PolygonBoard") ∈ lw_tbl := lw_at lw_m2 172 rfl
theorem q467 : (Jvm.Cond.fieldLinkNest "PolygonBoard$Scan" (31 : Nat) "PolygonBoard$Band" "spans" "LPolygonBoard$Spans;" "PolygonBoard") ∈ lw_tbl := lw_at lw_m2 177 rfl
theorem q470 : (Jvm.Cond.fieldLinkNest "PolygonBoard$Scan" (52 : Nat) "PolygonBoard$Band" "high" "I" "PolygonBoard") ∈ lw_tbl := lw_at lw_m2 180 rfl
theorem q497 : (Jvm.Cond.instanceMethod ({ cls := "PolygonBoard$Scan", name := "<init>", desc := "()V" } : Jvm.MethodName)) ∈ lw_all := lw_g (lw_at lw_m2 207 rfl) rfl
theorem q498 : (Jvm.Cond.code ({ cls := "PolygonBoard$Scan", name := "<init>", desc := "()V" } : Jvm.MethodName) prog_18_method_1_code (1 : Nat) (Option.none : Option Jvm.ClassFile.FieldType)) ∈ lw_all := lw_g (lw_at lw_m2 208 rfl) rfl
theorem q499 : (Jvm.Cond.methodLink "PolygonBoard$Scan" (1 : Nat) ({ cls := "java/lang/Object", name := "<init>", desc := "()V" } : Jvm.MethodName)) ∈ lw_all := lw_g (lw_at lw_m2 209 rfl) rfl
theorem q502 : (Jvm.Cond.fieldLink "PolygonBoard$Scan" (61 : Nat) "PolygonBoard$Scan" "rectangles" "I") ∈ lw_all := lw_g (lw_at lw_m2 212 rfl) rfl
theorem q507 : (Jvm.Cond.soleField "PolygonBoard$Scan" "rectangles") ∈ lw_all := lw_g (lw_at lw_m2 217 rfl) rfl
theorem q515 : (Jvm.Cond.declares ({ cls := "PolygonBoard$Scan", name := "scan", desc := "(LPolygonBoard$Region;)V" } : Jvm.MethodName)) ∈ lw_tbl := lw_at lw_m2 225 rfl
theorem q517 : (Jvm.Cond.instanceMethod ({ cls := "PolygonBoard$Scan", name := "scan", desc := "(LPolygonBoard$Region;)V" } : Jvm.MethodName)) ∈ lw_all := lw_g (lw_at lw_m2 227 rfl) rfl
theorem q518 : (Jvm.Cond.code ({ cls := "PolygonBoard$Scan", name := "scan", desc := "(LPolygonBoard$Region;)V" } : Jvm.MethodName) prog_18_method_2_code (5 : Nat) (Option.none : Option Jvm.ClassFile.FieldType)) ∈ lw_all := lw_g (lw_at lw_m2 228 rfl) rfl
theorem q519 : (Jvm.Cond.interfaceEntry "PolygonBoard$Scan" (13 : Nat)) ∈ lw_tbl := lw_at lw_m2 229 rfl
theorem q520 : (Jvm.Cond.methodLink "PolygonBoard$Scan" (13 : Nat) ({ cls := "java/util/List", name := "iterator", desc := "()Ljava/util/Iterator;" } : Jvm.MethodName)) ∈ lw_all := lw_g (lw_at lw_m2 230 rfl) rfl
theorem q547 : (Jvm.Cond.interfaceEntry "PolygonBoard$Scan" (19 : Nat)) ∈ lw_tbl := lw_at lw_m3 17 rfl
theorem q548 : (Jvm.Cond.methodLink "PolygonBoard$Scan" (19 : Nat) ({ cls := "java/util/Iterator", name := "hasNext", desc := "()Z" } : Jvm.MethodName)) ∈ lw_all := lw_g (lw_at lw_m3 18 rfl) rfl
theorem q557 : (Jvm.Cond.interfaceEntry "PolygonBoard$Scan" (25 : Nat)) ∈ lw_tbl := lw_at lw_m3 27 rfl
theorem q558 : (Jvm.Cond.methodLink "PolygonBoard$Scan" (25 : Nat) ({ cls := "java/util/Iterator", name := "next", desc := "()Ljava/lang/Object;" } : Jvm.MethodName)) ∈ lw_all := lw_g (lw_at lw_m3 28 rfl) rfl
theorem q585 : (Jvm.Cond.classLink "PolygonBoard$Scan" (29 : Nat) "PolygonBoard$Band") ∈ lw_all := lw_g (lw_at lw_m3 55 rfl) rfl
theorem q586 : (Jvm.Cond.methodLink "PolygonBoard$Scan" (35 : Nat) ({ cls := "PolygonBoard$Spans", name := "size", desc := "()I" } : Jvm.MethodName)) ∈ lw_all := lw_g (lw_at lw_m3 56 rfl) rfl
theorem q587 : (Jvm.Cond.methodLink "PolygonBoard$Scan" (41 : Nat) ({ cls := "PolygonBoard$Spans", name := "left", desc := "(I)I" } : Jvm.MethodName)) ∈ lw_all := lw_g (lw_at lw_m3 57 rfl) rfl
theorem q591 : (Jvm.Cond.methodLink "PolygonBoard$Scan" (49 : Nat) ({ cls := "PolygonBoard$Spans", name := "right", desc := "(I)I" } : Jvm.MethodName)) ∈ lw_all := lw_g (lw_at lw_m3 61 rfl) rfl
theorem q595 : (Jvm.Cond.methodLink "PolygonBoard$Scan" (55 : Nat) ({ cls := "PolygonBoard$Scan", name := "visit", desc := "(IIII)V" } : Jvm.MethodName)) ∈ lw_all := lw_g (lw_at lw_m3 65 rfl) rfl
theorem q596 : (Jvm.Cond.instanceMethod ({ cls := "PolygonBoard$Scan", name := "visit", desc := "(IIII)V" } : Jvm.MethodName)) ∈ lw_all := lw_g (lw_at lw_m3 66 rfl) rfl
theorem q597 : (Jvm.Cond.sameMethod "PolygonBoard$Scan" "PolygonBoard$Scan" "visit" "(IIII)V") ∈ lw_all := lw_g (lw_at lw_m3 67 rfl) rfl
theorem q602 : (Jvm.Cond.code ({ cls := "PolygonBoard$Scan", name := "visit", desc := "(IIII)V" } : Jvm.MethodName) prog_18_method_3_code (5 : Nat) (Option.none : Option Jvm.ClassFile.FieldType)) ∈ lw_all := lw_g (lw_at lw_m3 72 rfl) rfl
theorem q2120 : (Jvm.Cond.sameMethod "PolygonBoard$Scan" "PolygonBoard$Scan" "scan" "(LPolygonBoard$Region;)V") ∈ lw_all := lw_g (lw_at lw_m9 150 rfl) rfl
/-! PolygonBoard$AreaScan -/
set_option maxRecDepth 100000
def RX8 : String := "PolygonBoard$AreaScan"
def TX8 : u_T := fun k => match k with
  | 0 => ("PolygonBoard$Scan", "rectangles", "I", false)
  | _ => ("PolygonBoard$AreaScan", "area", "I", false)
def tyX8 : Nat → FieldType := fun k => match k with
  | 0 => .int
  | _ => .int
abbrev wsX80 : List Cond := u_ws RX8 TX8 2
theorem nmX8 : ∀ a, a < 2 → ∀ b, b < 2 → a ≠ b → (TX8 a).2.1 ≠ (TX8 b).2.1 := by decide +kernel
theorem tyX8_ok : ∀ k, k < 2 → parseFieldDescriptor (TX8 k).2.2.1 = some (tyX8 k) := by decide +kernel
abbrev cX8_init : ByteArray := prog_2_method_1_code
def yX8_init : MethodName := ⟨RX8, "<init>", "()V"⟩
theorem dX8_init_0 : decode cX8_init 0 = .ok (.aload_n 0, 1) := by decide +kernel
theorem dX8_init_1 : decode cX8_init 1 = .ok (.invokespecial 1, 3) := by decide +kernel
theorem dX8_init_4 : decode cX8_init 4 = .ok (.return_, 1) := by decide +kernel
abbrev cX8_scanned : ByteArray := prog_2_method_3_code
def yX8_scanned : MethodName := ⟨RX8, "scanned", "(LPolygonBoard$Region;)LPolygonBoard$AreaScan;"⟩
def dkwX8_scanned_0 : List UInt8 := [42, 43, 182, 0, 17, 42, 176]
abbrev dktX8_scanned_0 : List UInt8 := dkwX8_scanned_0 ++ []
theorem dksX8_scanned_0 : cX8_scanned.data.toList.drop 0 = dktX8_scanned_0 := by decide +kernel
theorem dX8_scanned_0 : decode cX8_scanned 0 = .ok (.aload_n 0, 1) := dk_42 (dk_at dksX8_scanned_0 0 rfl rfl)
theorem dX8_scanned_1 : decode cX8_scanned 1 = .ok (.aload_n 1, 1) := dk_43 (dk_at dksX8_scanned_0 1 rfl rfl)
theorem dX8_scanned_2 : decode cX8_scanned 2 = .ok (.invokevirtual 17, 3) := dk_182 0 17 (dk_at dksX8_scanned_0 2 rfl rfl)
theorem dX8_scanned_5 : decode cX8_scanned 5 = .ok (.aload_n 0, 1) := dk_42 (dk_at dksX8_scanned_0 5 rfl rfl)
theorem dX8_scanned_6 : decode cX8_scanned 6 = .ok (.areturn, 1) := dk_176 (dk_at dksX8_scanned_0 6 rfl rfl)
abbrev cX8_visit : ByteArray := prog_2_method_2_code
def yX8_visit : MethodName := ⟨RX8, "visit", "(IIII)V"⟩
def dkwX8_visit_1 : List UInt8 := [181, 0, 11, 177]
abbrev dktX8_visit_1 : List UInt8 := dkwX8_visit_1 ++ []
def dkwX8_visit_0 : List UInt8 := [42, 27, 28, 29, 21, 4, 183, 0, 7, 42, 89, 180, 0, 11, 29, 27, 100, 21, 4, 28, 100, 104, 96]
abbrev dktX8_visit_0 : List UInt8 := dkwX8_visit_0 ++ dktX8_visit_1
theorem dksX8_visit_0 : cX8_visit.data.toList.drop 0 = dktX8_visit_0 := by decide +kernel
theorem dksX8_visit_1 : cX8_visit.data.toList.drop 23 = dktX8_visit_1 := dk_seg dksX8_visit_0 23 rfl rfl
theorem dX8_visit_0 : decode cX8_visit 0 = .ok (.aload_n 0, 1) := dk_42 (dk_at dksX8_visit_0 0 rfl rfl)
theorem dX8_visit_1 : decode cX8_visit 1 = .ok (.iload_n 1, 1) := dk_27 (dk_at dksX8_visit_0 1 rfl rfl)
theorem dX8_visit_2 : decode cX8_visit 2 = .ok (.iload_n 2, 1) := dk_28 (dk_at dksX8_visit_0 2 rfl rfl)
theorem dX8_visit_3 : decode cX8_visit 3 = .ok (.iload_n 3, 1) := dk_29 (dk_at dksX8_visit_0 3 rfl rfl)
theorem dX8_visit_4 : decode cX8_visit 4 = .ok (.iload 4, 2) := dk_21 4 (dk_at dksX8_visit_0 4 rfl rfl)
theorem dX8_visit_6 : decode cX8_visit 6 = .ok (.invokespecial 7, 3) := dk_183 0 7 (dk_at dksX8_visit_0 6 rfl rfl)
theorem dX8_visit_9 : decode cX8_visit 9 = .ok (.aload_n 0, 1) := dk_42 (dk_at dksX8_visit_0 9 rfl rfl)
theorem dX8_visit_10 : decode cX8_visit 10 = .ok (.dup, 1) := dk_89 (dk_at dksX8_visit_0 10 rfl rfl)
theorem dX8_visit_11 : decode cX8_visit 11 = .ok (.getfield 11, 3) := dk_180 0 11 (dk_at dksX8_visit_0 11 rfl rfl)
theorem dX8_visit_14 : decode cX8_visit 14 = .ok (.iload_n 3, 1) := dk_29 (dk_at dksX8_visit_0 14 rfl rfl)
theorem dX8_visit_15 : decode cX8_visit 15 = .ok (.iload_n 1, 1) := dk_27 (dk_at dksX8_visit_0 15 rfl rfl)
theorem dX8_visit_16 : decode cX8_visit 16 = .ok (.isub, 1) := dk_100 (dk_at dksX8_visit_0 16 rfl rfl)
theorem dX8_visit_17 : decode cX8_visit 17 = .ok (.iload 4, 2) := dk_21 4 (dk_at dksX8_visit_0 17 rfl rfl)
theorem dX8_visit_19 : decode cX8_visit 19 = .ok (.iload_n 2, 1) := dk_28 (dk_at dksX8_visit_0 19 rfl rfl)
theorem dX8_visit_20 : decode cX8_visit 20 = .ok (.isub, 1) := dk_100 (dk_at dksX8_visit_0 20 rfl rfl)
theorem dX8_visit_21 : decode cX8_visit 21 = .ok (.imul, 1) := dk_104 (dk_at dksX8_visit_0 21 rfl rfl)
theorem dX8_visit_22 : decode cX8_visit 22 = .ok (.iadd, 1) := dk_96 (dk_at dksX8_visit_0 22 rfl rfl)
theorem dX8_visit_23 : decode cX8_visit 23 = .ok (.putfield 11, 3) := dk_181 0 11 (dk_at dksX8_visit_1 0 rfl rfl)
theorem dX8_visit_26 : decode cX8_visit 26 = .ok (.return_, 1) := dk_177 (dk_at dksX8_visit_1 3 rfl rfl)
theorem q75 : (Jvm.Cond.initialized "PolygonBoard$AreaScan") ∈ lw_all := lw_g (lw_at lw_m1 25 rfl) rfl
theorem q184 : (Jvm.Cond.selects "PolygonBoard$AreaScan" ({ cls := "java/lang/Object", name := "getClass", desc := "()Ljava/lang/Class;" } : Jvm.MethodName) ({ cls := "java/lang/Object", name := "getClass", desc := "()Ljava/lang/Class;" } : Jvm.MethodName)) ∈ lw_all := lw_g (lw_at lw_m1 134 rfl) rfl
theorem q492 : (Jvm.Cond.instantiable "PolygonBoard$AreaScan" (2 : Nat)) ∈ lw_all := lw_g (lw_at lw_m2 202 rfl) rfl
theorem q494 : (Jvm.Cond.instanceMethod ({ cls := "PolygonBoard$AreaScan", name := "<init>", desc := "()V" } : Jvm.MethodName)) ∈ lw_all := lw_g (lw_at lw_m2 204 rfl) rfl
theorem q495 : (Jvm.Cond.code ({ cls := "PolygonBoard$AreaScan", name := "<init>", desc := "()V" } : Jvm.MethodName) prog_2_method_1_code (1 : Nat) (Option.none : Option Jvm.ClassFile.FieldType)) ∈ lw_all := lw_g (lw_at lw_m2 205 rfl) rfl
theorem q496 : (Jvm.Cond.methodLinkNest "PolygonBoard$AreaScan" (1 : Nat) ({ cls := "PolygonBoard$Scan", name := "<init>", desc := "()V" } : Jvm.MethodName) "PolygonBoard") ∈ lw_tbl := lw_at lw_m2 206 rfl
theorem q500 : (Jvm.Cond.fieldLink "PolygonBoard$AreaScan" (11 : Nat) "PolygonBoard$AreaScan" "area" "I") ∈ lw_all := lw_g (lw_at lw_m2 210 rfl) rfl
theorem q504 : (Jvm.Cond.lays "PolygonBoard$AreaScan" "PolygonBoard$AreaScan" "area" "I") ∈ lw_all := lw_g (lw_at lw_m2 214 rfl) rfl
theorem q505 : (Jvm.Cond.soleField "PolygonBoard$AreaScan" "area") ∈ lw_all := lw_g (lw_at lw_m2 215 rfl) rfl
theorem q506 : (Jvm.Cond.lays "PolygonBoard$AreaScan" "PolygonBoard$Scan" "rectangles" "I") ∈ lw_all := lw_g (lw_at lw_m2 216 rfl) rfl
theorem q508 : (Jvm.Cond.superclass "PolygonBoard$AreaScan" "PolygonBoard$Scan") ∈ lw_all := lw_g (lw_at lw_m2 218 rfl) rfl
theorem q510 : (Jvm.Cond.instanceMethod ({ cls := "PolygonBoard$AreaScan", name := "scanned", desc := "(LPolygonBoard$Region;)LPolygonBoard$AreaScan;" } : Jvm.MethodName)) ∈ lw_all := lw_g (lw_at lw_m2 220 rfl) rfl
theorem q511 : (Jvm.Cond.selects "PolygonBoard$AreaScan" ({ cls := "PolygonBoard$AreaScan", name := "scanned", desc := "(LPolygonBoard$Region;)LPolygonBoard$AreaScan;" } : Jvm.MethodName) ({ cls := "PolygonBoard$AreaScan", name := "scanned", desc := "(LPolygonBoard$Region;)LPolygonBoard$AreaScan;" } : Jvm.MethodName)) ∈ lw_all := lw_g (lw_at lw_m2 221 rfl) rfl
theorem q512 : (Jvm.Cond.code ({ cls := "PolygonBoard$AreaScan", name := "scanned", desc := "(LPolygonBoard$Region;)LPolygonBoard$AreaScan;" } : Jvm.MethodName) prog_2_method_3_code (2 : Nat) (Option.some (Jvm.ClassFile.FieldType.object "PolygonBoard$AreaScan"))) ∈ lw_all := lw_g (lw_at lw_m2 222 rfl) rfl
theorem q513 : (Jvm.Cond.methodLink "PolygonBoard$AreaScan" (17 : Nat) ({ cls := "PolygonBoard$AreaScan", name := "scan", desc := "(LPolygonBoard$Region;)V" } : Jvm.MethodName)) ∈ lw_all := lw_g (lw_at lw_m2 223 rfl) rfl
theorem q514 : (Jvm.Cond.sameMethod "PolygonBoard$AreaScan" "PolygonBoard$Scan" "scan" "(LPolygonBoard$Region;)V") ∈ lw_all := lw_g (lw_at lw_m2 224 rfl) rfl
theorem q516 : (Jvm.Cond.selects "PolygonBoard$AreaScan" ({ cls := "PolygonBoard$AreaScan", name := "scan", desc := "(LPolygonBoard$Region;)V" } : Jvm.MethodName) ({ cls := "PolygonBoard$Scan", name := "scan", desc := "(LPolygonBoard$Region;)V" } : Jvm.MethodName)) ∈ lw_all := lw_g (lw_at lw_m2 226 rfl) rfl
theorem q598 : (Jvm.Cond.selects "PolygonBoard$AreaScan" ({ cls := "PolygonBoard$Scan", name := "visit", desc := "(IIII)V" } : Jvm.MethodName) ({ cls := "PolygonBoard$AreaScan", name := "visit", desc := "(IIII)V" } : Jvm.MethodName)) ∈ lw_all := lw_g (lw_at lw_m3 68 rfl) rfl
theorem q599 : (Jvm.Cond.instanceMethod ({ cls := "PolygonBoard$AreaScan", name := "visit", desc := "(IIII)V" } : Jvm.MethodName)) ∈ lw_all := lw_g (lw_at lw_m3 69 rfl) rfl
theorem q600 : (Jvm.Cond.code ({ cls := "PolygonBoard$AreaScan", name := "visit", desc := "(IIII)V" } : Jvm.MethodName) prog_2_method_2_code (5 : Nat) (Option.none : Option Jvm.ClassFile.FieldType)) ∈ lw_all := lw_g (lw_at lw_m3 70 rfl) rfl
theorem q601 : (Jvm.Cond.methodLink "PolygonBoard$AreaScan" (7 : Nat) ({ cls := "PolygonBoard$Scan", name := "visit", desc := "(IIII)V" } : Jvm.MethodName)) ∈ lw_all := lw_g (lw_at lw_m3 71 rfl) rfl
theorem q2121 : (Jvm.Cond.selects "PolygonBoard$AreaScan" ({ cls := "PolygonBoard$Scan", name := "scan", desc := "(LPolygonBoard$Region;)V" } : Jvm.MethodName) ({ cls := "PolygonBoard$Scan", name := "scan", desc := "(LPolygonBoard$Region;)V" } : Jvm.MethodName)) ∈ lw_all := lw_g (lw_at lw_m9 151 rfl) rfl
theorem q2138 : (Jvm.Cond.castable "PolygonBoard$AreaScan" "java/lang/Object") ∈ lw_tbl := lw_at lw_m9 168 rfl
theorem in_X8 : ∀ w ∈ wsX80, w ∈ lw_all := lw_in wsX80 [506, 504] (by decide +kernel) (by decide +kernel)
/-! PolygonBoard$MomentScan -/
set_option maxRecDepth 100000
def RX9 : String := "PolygonBoard$MomentScan"
def TX9 : u_T := fun k => match k with
  | 0 => ("PolygonBoard$Scan", "rectangles", "I", false)
  | _ => ("PolygonBoard$MomentScan", "moment", "J", false)
def tyX9 : Nat → FieldType := fun k => match k with
  | 0 => .int
  | _ => .long
abbrev wsX90 : List Cond := u_ws RX9 TX9 2
theorem nmX9 : ∀ a, a < 2 → ∀ b, b < 2 → a ≠ b → (TX9 a).2.1 ≠ (TX9 b).2.1 := by decide +kernel
theorem tyX9_ok : ∀ k, k < 2 → parseFieldDescriptor (TX9 k).2.2.1 = some (tyX9 k) := by decide +kernel
abbrev cX9_visit : ByteArray := prog_6_method_3_code
def yX9_visit : MethodName := ⟨RX9, "visit", "(IIII)V"⟩
def dkwX9_visit_2 : List UInt8 := [100, 133, 29, 27, 100, 133, 105, 97, 181, 0, 11, 177]
abbrev dktX9_visit_2 : List UInt8 := dkwX9_visit_2 ++ []
def dkwX9_visit_1 : List UInt8 := [21, 4, 28, 100, 133, 105, 97, 181, 0, 11, 42, 89, 180, 0, 11, 21, 4, 184, 0, 17, 28, 184, 0, 17]
abbrev dktX9_visit_1 : List UInt8 := dkwX9_visit_1 ++ dktX9_visit_2
def dkwX9_visit_0 : List UInt8 := [42, 27, 28, 29, 21, 4, 183, 0, 7, 42, 89, 180, 0, 11, 29, 184, 0, 17, 27, 184, 0, 17, 100, 133]
abbrev dktX9_visit_0 : List UInt8 := dkwX9_visit_0 ++ dktX9_visit_1
theorem dksX9_visit_0 : cX9_visit.data.toList.drop 0 = dktX9_visit_0 := by decide +kernel
theorem dksX9_visit_1 : cX9_visit.data.toList.drop 24 = dktX9_visit_1 := dk_seg dksX9_visit_0 24 rfl rfl
theorem dksX9_visit_2 : cX9_visit.data.toList.drop 48 = dktX9_visit_2 := dk_seg dksX9_visit_1 24 rfl rfl
theorem dX9_visit_0 : decode cX9_visit 0 = .ok (.aload_n 0, 1) := dk_42 (dk_at dksX9_visit_0 0 rfl rfl)
theorem dX9_visit_1 : decode cX9_visit 1 = .ok (.iload_n 1, 1) := dk_27 (dk_at dksX9_visit_0 1 rfl rfl)
theorem dX9_visit_2 : decode cX9_visit 2 = .ok (.iload_n 2, 1) := dk_28 (dk_at dksX9_visit_0 2 rfl rfl)
theorem dX9_visit_3 : decode cX9_visit 3 = .ok (.iload_n 3, 1) := dk_29 (dk_at dksX9_visit_0 3 rfl rfl)
theorem dX9_visit_4 : decode cX9_visit 4 = .ok (.iload 4, 2) := dk_21 4 (dk_at dksX9_visit_0 4 rfl rfl)
theorem dX9_visit_6 : decode cX9_visit 6 = .ok (.invokespecial 7, 3) := dk_183 0 7 (dk_at dksX9_visit_0 6 rfl rfl)
theorem dX9_visit_9 : decode cX9_visit 9 = .ok (.aload_n 0, 1) := dk_42 (dk_at dksX9_visit_0 9 rfl rfl)
theorem dX9_visit_10 : decode cX9_visit 10 = .ok (.dup, 1) := dk_89 (dk_at dksX9_visit_0 10 rfl rfl)
theorem dX9_visit_11 : decode cX9_visit 11 = .ok (.getfield 11, 3) := dk_180 0 11 (dk_at dksX9_visit_0 11 rfl rfl)
theorem dX9_visit_14 : decode cX9_visit 14 = .ok (.iload_n 3, 1) := dk_29 (dk_at dksX9_visit_0 14 rfl rfl)
theorem dX9_visit_15 : decode cX9_visit 15 = .ok (.invokestatic 17, 3) := dk_184 0 17 (dk_at dksX9_visit_0 15 rfl rfl)
theorem dX9_visit_18 : decode cX9_visit 18 = .ok (.iload_n 1, 1) := dk_27 (dk_at dksX9_visit_0 18 rfl rfl)
theorem dX9_visit_19 : decode cX9_visit 19 = .ok (.invokestatic 17, 3) := dk_184 0 17 (dk_at dksX9_visit_0 19 rfl rfl)
theorem dX9_visit_22 : decode cX9_visit 22 = .ok (.isub, 1) := dk_100 (dk_at dksX9_visit_0 22 rfl rfl)
theorem dX9_visit_23 : decode cX9_visit 23 = .ok (.i2l, 1) := dk_133 (dk_at dksX9_visit_0 23 rfl rfl)
theorem dX9_visit_24 : decode cX9_visit 24 = .ok (.iload 4, 2) := dk_21 4 (dk_at dksX9_visit_1 0 rfl rfl)
theorem dX9_visit_26 : decode cX9_visit 26 = .ok (.iload_n 2, 1) := dk_28 (dk_at dksX9_visit_1 2 rfl rfl)
theorem dX9_visit_27 : decode cX9_visit 27 = .ok (.isub, 1) := dk_100 (dk_at dksX9_visit_1 3 rfl rfl)
theorem dX9_visit_28 : decode cX9_visit 28 = .ok (.i2l, 1) := dk_133 (dk_at dksX9_visit_1 4 rfl rfl)
theorem dX9_visit_29 : decode cX9_visit 29 = .ok (.lmul, 1) := dk_105 (dk_at dksX9_visit_1 5 rfl rfl)
theorem dX9_visit_30 : decode cX9_visit 30 = .ok (.ladd, 1) := dk_97 (dk_at dksX9_visit_1 6 rfl rfl)
theorem dX9_visit_31 : decode cX9_visit 31 = .ok (.putfield 11, 3) := dk_181 0 11 (dk_at dksX9_visit_1 7 rfl rfl)
theorem dX9_visit_34 : decode cX9_visit 34 = .ok (.aload_n 0, 1) := dk_42 (dk_at dksX9_visit_1 10 rfl rfl)
theorem dX9_visit_35 : decode cX9_visit 35 = .ok (.dup, 1) := dk_89 (dk_at dksX9_visit_1 11 rfl rfl)
theorem dX9_visit_36 : decode cX9_visit 36 = .ok (.getfield 11, 3) := dk_180 0 11 (dk_at dksX9_visit_1 12 rfl rfl)
theorem dX9_visit_39 : decode cX9_visit 39 = .ok (.iload 4, 2) := dk_21 4 (dk_at dksX9_visit_1 15 rfl rfl)
theorem dX9_visit_41 : decode cX9_visit 41 = .ok (.invokestatic 17, 3) := dk_184 0 17 (dk_at dksX9_visit_1 17 rfl rfl)
theorem dX9_visit_44 : decode cX9_visit 44 = .ok (.iload_n 2, 1) := dk_28 (dk_at dksX9_visit_1 20 rfl rfl)
theorem dX9_visit_45 : decode cX9_visit 45 = .ok (.invokestatic 17, 3) := dk_184 0 17 (dk_at dksX9_visit_1 21 rfl rfl)
theorem dX9_visit_48 : decode cX9_visit 48 = .ok (.isub, 1) := dk_100 (dk_at dksX9_visit_2 0 rfl rfl)
theorem dX9_visit_49 : decode cX9_visit 49 = .ok (.i2l, 1) := dk_133 (dk_at dksX9_visit_2 1 rfl rfl)
theorem dX9_visit_50 : decode cX9_visit 50 = .ok (.iload_n 3, 1) := dk_29 (dk_at dksX9_visit_2 2 rfl rfl)
theorem dX9_visit_51 : decode cX9_visit 51 = .ok (.iload_n 1, 1) := dk_27 (dk_at dksX9_visit_2 3 rfl rfl)
theorem dX9_visit_52 : decode cX9_visit 52 = .ok (.isub, 1) := dk_100 (dk_at dksX9_visit_2 4 rfl rfl)
theorem dX9_visit_53 : decode cX9_visit 53 = .ok (.i2l, 1) := dk_133 (dk_at dksX9_visit_2 5 rfl rfl)
theorem dX9_visit_54 : decode cX9_visit 54 = .ok (.lmul, 1) := dk_105 (dk_at dksX9_visit_2 6 rfl rfl)
theorem dX9_visit_55 : decode cX9_visit 55 = .ok (.ladd, 1) := dk_97 (dk_at dksX9_visit_2 7 rfl rfl)
theorem dX9_visit_56 : decode cX9_visit 56 = .ok (.putfield 11, 3) := dk_181 0 11 (dk_at dksX9_visit_2 8 rfl rfl)
theorem dX9_visit_59 : decode cX9_visit 59 = .ok (.return_, 1) := dk_177 (dk_at dksX9_visit_2 11 rfl rfl)
abbrev cX9_squares : ByteArray := prog_6_method_2_code
def yX9_squares : MethodName := ⟨RX9, "squares", "(I)I"⟩
def dkwX9_squares_0 : List UInt8 := [26, 4, 100, 26, 104, 5, 26, 104, 4, 100, 104, 16, 6, 108, 172]
abbrev dktX9_squares_0 : List UInt8 := dkwX9_squares_0 ++ []
theorem dksX9_squares_0 : cX9_squares.data.toList.drop 0 = dktX9_squares_0 := by decide +kernel
theorem dX9_squares_0 : decode cX9_squares 0 = .ok (.iload_n 0, 1) := dk_26 (dk_at dksX9_squares_0 0 rfl rfl)
theorem dX9_squares_1 : decode cX9_squares 1 = .ok (.iconst 1, 1) := dk_4 (dk_at dksX9_squares_0 1 rfl rfl)
theorem dX9_squares_2 : decode cX9_squares 2 = .ok (.isub, 1) := dk_100 (dk_at dksX9_squares_0 2 rfl rfl)
theorem dX9_squares_3 : decode cX9_squares 3 = .ok (.iload_n 0, 1) := dk_26 (dk_at dksX9_squares_0 3 rfl rfl)
theorem dX9_squares_4 : decode cX9_squares 4 = .ok (.imul, 1) := dk_104 (dk_at dksX9_squares_0 4 rfl rfl)
theorem dX9_squares_5 : decode cX9_squares 5 = .ok (.iconst 2, 1) := dk_5 (dk_at dksX9_squares_0 5 rfl rfl)
theorem dX9_squares_6 : decode cX9_squares 6 = .ok (.iload_n 0, 1) := dk_26 (dk_at dksX9_squares_0 6 rfl rfl)
theorem dX9_squares_7 : decode cX9_squares 7 = .ok (.imul, 1) := dk_104 (dk_at dksX9_squares_0 7 rfl rfl)
theorem dX9_squares_8 : decode cX9_squares 8 = .ok (.iconst 1, 1) := dk_4 (dk_at dksX9_squares_0 8 rfl rfl)
theorem dX9_squares_9 : decode cX9_squares 9 = .ok (.isub, 1) := dk_100 (dk_at dksX9_squares_0 9 rfl rfl)
theorem dX9_squares_10 : decode cX9_squares 10 = .ok (.imul, 1) := dk_104 (dk_at dksX9_squares_0 10 rfl rfl)
theorem dX9_squares_11 : decode cX9_squares 11 = .ok (.bipush 6, 2) := dk_16 6 (dk_at dksX9_squares_0 11 rfl rfl)
theorem dX9_squares_13 : decode cX9_squares 13 = .ok (.idiv, 1) := dk_108 (dk_at dksX9_squares_0 13 rfl rfl)
theorem dX9_squares_14 : decode cX9_squares 14 = .ok (.ireturn, 1) := dk_172 (dk_at dksX9_squares_0 14 rfl rfl)
abbrev cX9_init : ByteArray := prog_6_method_1_code
def yX9_init : MethodName := ⟨RX9, "<init>", "()V"⟩
theorem dX9_init_0 : decode cX9_init 0 = .ok (.aload_n 0, 1) := by decide +kernel
theorem dX9_init_1 : decode cX9_init 1 = .ok (.invokespecial 1, 3) := by decide +kernel
theorem dX9_init_4 : decode cX9_init 4 = .ok (.return_, 1) := by decide +kernel
theorem q78 : (Jvm.Cond.initialized "PolygonBoard$MomentScan") ∈ lw_all := lw_g (lw_at lw_m1 28 rfl) rfl
theorem q188 : (Jvm.Cond.selects "PolygonBoard$MomentScan" ({ cls := "java/lang/Object", name := "getClass", desc := "()Ljava/lang/Class;" } : Jvm.MethodName) ({ cls := "java/lang/Object", name := "getClass", desc := "()Ljava/lang/Class;" } : Jvm.MethodName)) ∈ lw_all := lw_g (lw_at lw_m1 138 rfl) rfl
theorem q608 : (Jvm.Cond.selects "PolygonBoard$MomentScan" ({ cls := "PolygonBoard$Scan", name := "visit", desc := "(IIII)V" } : Jvm.MethodName) ({ cls := "PolygonBoard$MomentScan", name := "visit", desc := "(IIII)V" } : Jvm.MethodName)) ∈ lw_all := lw_g (lw_at lw_m3 78 rfl) rfl
theorem q609 : (Jvm.Cond.instanceMethod ({ cls := "PolygonBoard$MomentScan", name := "visit", desc := "(IIII)V" } : Jvm.MethodName)) ∈ lw_all := lw_g (lw_at lw_m3 79 rfl) rfl
theorem q610 : (Jvm.Cond.code ({ cls := "PolygonBoard$MomentScan", name := "visit", desc := "(IIII)V" } : Jvm.MethodName) prog_6_method_3_code (5 : Nat) (Option.none : Option Jvm.ClassFile.FieldType)) ∈ lw_all := lw_g (lw_at lw_m3 80 rfl) rfl
theorem q611 : (Jvm.Cond.methodLink "PolygonBoard$MomentScan" (7 : Nat) ({ cls := "PolygonBoard$Scan", name := "visit", desc := "(IIII)V" } : Jvm.MethodName)) ∈ lw_all := lw_g (lw_at lw_m3 81 rfl) rfl
theorem q612 : (Jvm.Cond.superclass "PolygonBoard$MomentScan" "PolygonBoard$Scan") ∈ lw_all := lw_g (lw_at lw_m3 82 rfl) rfl
theorem q613 : (Jvm.Cond.methodLink "PolygonBoard$MomentScan" (17 : Nat) ({ cls := "PolygonBoard$MomentScan", name := "squares", desc := "(I)I" } : Jvm.MethodName)) ∈ lw_all := lw_g (lw_at lw_m3 83 rfl) rfl
theorem q614 : (Jvm.Cond.static ({ cls := "PolygonBoard$MomentScan", name := "squares", desc := "(I)I" } : Jvm.MethodName)) ∈ lw_all := lw_g (lw_at lw_m3 84 rfl) rfl
theorem q615 : (Jvm.Cond.code ({ cls := "PolygonBoard$MomentScan", name := "squares", desc := "(I)I" } : Jvm.MethodName) prog_6_method_2_code (1 : Nat) (Option.some Jvm.ClassFile.FieldType.int)) ∈ lw_all := lw_g (lw_at lw_m3 85 rfl) rfl
theorem q1636 : (Jvm.Cond.instantiable "PolygonBoard$MomentScan" (2 : Nat)) ∈ lw_all := lw_g (lw_at lw_m7 146 rfl) rfl
theorem q1638 : (Jvm.Cond.instanceMethod ({ cls := "PolygonBoard$MomentScan", name := "<init>", desc := "()V" } : Jvm.MethodName)) ∈ lw_all := lw_g (lw_at lw_m7 148 rfl) rfl
theorem q1639 : (Jvm.Cond.code ({ cls := "PolygonBoard$MomentScan", name := "<init>", desc := "()V" } : Jvm.MethodName) prog_6_method_1_code (1 : Nat) (Option.none : Option Jvm.ClassFile.FieldType)) ∈ lw_all := lw_g (lw_at lw_m7 149 rfl) rfl
theorem q1640 : (Jvm.Cond.methodLinkNest "PolygonBoard$MomentScan" (1 : Nat) ({ cls := "PolygonBoard$Scan", name := "<init>", desc := "()V" } : Jvm.MethodName) "PolygonBoard") ∈ lw_tbl := lw_at lw_m7 150 rfl
theorem q1641 : (Jvm.Cond.fieldLink "PolygonBoard$MomentScan" (11 : Nat) "PolygonBoard$MomentScan" "moment" "J") ∈ lw_all := lw_g (lw_at lw_m7 151 rfl) rfl
theorem q1643 : (Jvm.Cond.lays "PolygonBoard$MomentScan" "PolygonBoard$MomentScan" "moment" "J") ∈ lw_all := lw_g (lw_at lw_m7 153 rfl) rfl
theorem q1644 : (Jvm.Cond.soleField "PolygonBoard$MomentScan" "moment") ∈ lw_all := lw_g (lw_at lw_m7 154 rfl) rfl
theorem q1645 : (Jvm.Cond.lays "PolygonBoard$MomentScan" "PolygonBoard$Scan" "rectangles" "I") ∈ lw_all := lw_g (lw_at lw_m7 155 rfl) rfl
theorem q1647 : (Jvm.Cond.sameMethod "PolygonBoard$MomentScan" "PolygonBoard$Scan" "scan" "(LPolygonBoard$Region;)V") ∈ lw_all := lw_g (lw_at lw_m7 157 rfl) rfl
theorem q1648 : (Jvm.Cond.selects "PolygonBoard$MomentScan" ({ cls := "PolygonBoard$MomentScan", name := "scan", desc := "(LPolygonBoard$Region;)V" } : Jvm.MethodName) ({ cls := "PolygonBoard$Scan", name := "scan", desc := "(LPolygonBoard$Region;)V" } : Jvm.MethodName)) ∈ lw_all := lw_g (lw_at lw_m7 158 rfl) rfl
theorem q2123 : (Jvm.Cond.selects "PolygonBoard$MomentScan" ({ cls := "PolygonBoard$Scan", name := "scan", desc := "(LPolygonBoard$Region;)V" } : Jvm.MethodName) ({ cls := "PolygonBoard$Scan", name := "scan", desc := "(LPolygonBoard$Region;)V" } : Jvm.MethodName)) ∈ lw_all := lw_g (lw_at lw_m9 153 rfl) rfl
theorem q2153 : (Jvm.Cond.castable "PolygonBoard$MomentScan" "java/lang/Object") ∈ lw_tbl := lw_at lw_m9 183 rfl
theorem in_X9 : ∀ w ∈ wsX90, w ∈ lw_all := lw_in wsX90 [1645, 1643] (by decide +kernel) (by decide +kernel)
