/-! PolygonBoard$Region -/
set_option maxRecDepth 100000
def RX2 : String := "PolygonBoard$Region"
def TX2 : u_T := fun k => match k with
  | _ => ("PolygonBoard$Region", "bands", "Ljava/util/List;", true)
def tyX2 : Nat → FieldType := fun k => match k with
  | _ => .object "java/util/List"
abbrev wsX20 : List Cond := u_ws RX2 TX2 1
theorem nmX2 : ∀ a, a < 1 → ∀ b, b < 1 → a ≠ b → (TX2 a).2.1 ≠ (TX2 b).2.1 := by decide +kernel
theorem tyX2_ok : ∀ k, k < 1 → parseFieldDescriptor (TX2 k).2.2.1 = some (tyX2 k) := by decide +kernel
abbrev cX2_init : ByteArray := prog_17_method_1_code
def yX2_init : MethodName := ⟨RX2, "<init>", "()V"⟩
def dkwX2_init_0 : List UInt8 := [42, 183, 0, 3, 42, 187, 0, 9, 89, 183, 0, 11, 181, 0, 12, 177]
abbrev dktX2_init_0 : List UInt8 := dkwX2_init_0 ++ []
theorem dksX2_init_0 : cX2_init.data.toList.drop 0 = dktX2_init_0 := by decide +kernel
theorem dX2_init_0 : decode cX2_init 0 = .ok (.aload_n 0, 1) := dk_42 (dk_at dksX2_init_0 0 rfl rfl)
theorem dX2_init_1 : decode cX2_init 1 = .ok (.invokespecial 3, 3) := dk_183 0 3 (dk_at dksX2_init_0 1 rfl rfl)
theorem dX2_init_4 : decode cX2_init 4 = .ok (.aload_n 0, 1) := dk_42 (dk_at dksX2_init_0 4 rfl rfl)
theorem dX2_init_5 : decode cX2_init 5 = .ok (.new 9, 3) := dk_187 0 9 (dk_at dksX2_init_0 5 rfl rfl)
theorem dX2_init_8 : decode cX2_init 8 = .ok (.dup, 1) := dk_89 (dk_at dksX2_init_0 8 rfl rfl)
theorem dX2_init_9 : decode cX2_init 9 = .ok (.invokespecial 11, 3) := dk_183 0 11 (dk_at dksX2_init_0 9 rfl rfl)
theorem dX2_init_12 : decode cX2_init 12 = .ok (.putfield 12, 3) := dk_181 0 12 (dk_at dksX2_init_0 12 rfl rfl)
theorem dX2_init_15 : decode cX2_init 15 = .ok (.return_, 1) := dk_177 (dk_at dksX2_init_0 15 rfl rfl)
abbrev cX2_rectangle : ByteArray := prog_17_method_2_code
def yX2_rectangle : MethodName := ⟨RX2, "rectangle", "(IIII)LPolygonBoard$Region;"⟩
def dkwX2_rectangle_1 : List UInt8 := [182, 0, 22, 25, 4, 27, 29, 25, 5, 182, 0, 26, 25, 4, 176]
abbrev dktX2_rectangle_1 : List UInt8 := dkwX2_rectangle_1 ++ []
def dkwX2_rectangle_0 : List UInt8 := [187, 0, 13, 89, 183, 0, 18, 58, 4, 187, 0, 19, 89, 183, 0, 21, 58, 5, 25, 5, 26, 28]
abbrev dktX2_rectangle_0 : List UInt8 := dkwX2_rectangle_0 ++ dktX2_rectangle_1
theorem dksX2_rectangle_0 : cX2_rectangle.data.toList.drop 0 = dktX2_rectangle_0 := by decide +kernel
theorem dksX2_rectangle_1 : cX2_rectangle.data.toList.drop 22 = dktX2_rectangle_1 := dk_seg dksX2_rectangle_0 22 rfl rfl
theorem dX2_rectangle_0 : decode cX2_rectangle 0 = .ok (.new 13, 3) := dk_187 0 13 (dk_at dksX2_rectangle_0 0 rfl rfl)
theorem dX2_rectangle_3 : decode cX2_rectangle 3 = .ok (.dup, 1) := dk_89 (dk_at dksX2_rectangle_0 3 rfl rfl)
theorem dX2_rectangle_4 : decode cX2_rectangle 4 = .ok (.invokespecial 18, 3) := dk_183 0 18 (dk_at dksX2_rectangle_0 4 rfl rfl)
theorem dX2_rectangle_7 : decode cX2_rectangle 7 = .ok (.astore 4, 2) := dk_58 4 (dk_at dksX2_rectangle_0 7 rfl rfl)
theorem dX2_rectangle_9 : decode cX2_rectangle 9 = .ok (.new 19, 3) := dk_187 0 19 (dk_at dksX2_rectangle_0 9 rfl rfl)
theorem dX2_rectangle_12 : decode cX2_rectangle 12 = .ok (.dup, 1) := dk_89 (dk_at dksX2_rectangle_0 12 rfl rfl)
theorem dX2_rectangle_13 : decode cX2_rectangle 13 = .ok (.invokespecial 21, 3) := dk_183 0 21 (dk_at dksX2_rectangle_0 13 rfl rfl)
theorem dX2_rectangle_16 : decode cX2_rectangle 16 = .ok (.astore 5, 2) := dk_58 5 (dk_at dksX2_rectangle_0 16 rfl rfl)
theorem dX2_rectangle_18 : decode cX2_rectangle 18 = .ok (.aload 5, 2) := dk_25 5 (dk_at dksX2_rectangle_0 18 rfl rfl)
theorem dX2_rectangle_20 : decode cX2_rectangle 20 = .ok (.iload_n 0, 1) := dk_26 (dk_at dksX2_rectangle_0 20 rfl rfl)
theorem dX2_rectangle_21 : decode cX2_rectangle 21 = .ok (.iload_n 2, 1) := dk_28 (dk_at dksX2_rectangle_0 21 rfl rfl)
theorem dX2_rectangle_22 : decode cX2_rectangle 22 = .ok (.invokevirtual 22, 3) := dk_182 0 22 (dk_at dksX2_rectangle_1 0 rfl rfl)
theorem dX2_rectangle_25 : decode cX2_rectangle 25 = .ok (.aload 4, 2) := dk_25 4 (dk_at dksX2_rectangle_1 3 rfl rfl)
theorem dX2_rectangle_27 : decode cX2_rectangle 27 = .ok (.iload_n 1, 1) := dk_27 (dk_at dksX2_rectangle_1 5 rfl rfl)
theorem dX2_rectangle_28 : decode cX2_rectangle 28 = .ok (.iload_n 3, 1) := dk_29 (dk_at dksX2_rectangle_1 6 rfl rfl)
theorem dX2_rectangle_29 : decode cX2_rectangle 29 = .ok (.aload 5, 2) := dk_25 5 (dk_at dksX2_rectangle_1 7 rfl rfl)
theorem dX2_rectangle_31 : decode cX2_rectangle 31 = .ok (.invokevirtual 26, 3) := dk_182 0 26 (dk_at dksX2_rectangle_1 9 rfl rfl)
theorem dX2_rectangle_34 : decode cX2_rectangle 34 = .ok (.aload 4, 2) := dk_25 4 (dk_at dksX2_rectangle_1 12 rfl rfl)
theorem dX2_rectangle_36 : decode cX2_rectangle 36 = .ok (.areturn, 1) := dk_176 (dk_at dksX2_rectangle_1 14 rfl rfl)
abbrev cX2_add : ByteArray := prog_17_method_3_code
def yX2_add : MethodName := ⟨RX2, "add", "(IILPolygonBoard$Spans;)V"⟩
def dkwX2_add_4 : List UInt8 := [180, 0, 12, 187, 0, 44, 89, 27, 28, 45, 183, 0, 58, 185, 0, 60, 2, 0, 87, 177]
abbrev dktX2_add_4 : List UInt8 := dkwX2_add_4 ++ []
def dkwX2_add_3 : List UInt8 := [25, 4, 180, 0, 50, 45, 182, 0, 54, 153, 0, 12, 25, 4, 28, 181, 0, 46, 167, 0, 23, 42]
abbrev dktX2_add_3 : List UInt8 := dkwX2_add_3 ++ dktX2_add_4
def dkwX2_add_2 : List UInt8 := [185, 0, 40, 2, 0, 192, 0, 44, 58, 4, 25, 4, 198, 0, 33, 25, 4, 180, 0, 46, 27, 160, 0, 24]
abbrev dktX2_add_2 : List UInt8 := dkwX2_add_2 ++ dktX2_add_3
def dkwX2_add_1 : List UInt8 := [153, 0, 7, 1, 167, 0, 26, 42, 180, 0, 12, 42, 180, 0, 12, 185, 0, 39, 1, 0, 4, 100]
abbrev dktX2_add_1 : List UInt8 := dkwX2_add_1 ++ dktX2_add_2
def dkwX2_add_0 : List UInt8 := [27, 28, 162, 0, 10, 45, 182, 0, 29, 154, 0, 4, 177, 42, 180, 0, 12, 185, 0, 33, 1, 0]
abbrev dktX2_add_0 : List UInt8 := dkwX2_add_0 ++ dktX2_add_1
theorem dksX2_add_0 : cX2_add.data.toList.drop 0 = dktX2_add_0 := by decide +kernel
theorem dksX2_add_1 : cX2_add.data.toList.drop 22 = dktX2_add_1 := dk_seg dksX2_add_0 22 rfl rfl
theorem dksX2_add_2 : cX2_add.data.toList.drop 44 = dktX2_add_2 := dk_seg dksX2_add_1 22 rfl rfl
theorem dksX2_add_3 : cX2_add.data.toList.drop 68 = dktX2_add_3 := dk_seg dksX2_add_2 24 rfl rfl
theorem dksX2_add_4 : cX2_add.data.toList.drop 90 = dktX2_add_4 := dk_seg dksX2_add_3 22 rfl rfl
theorem dX2_add_0 : decode cX2_add 0 = .ok (.iload_n 1, 1) := dk_27 (dk_at dksX2_add_0 0 rfl rfl)
theorem dX2_add_1 : decode cX2_add 1 = .ok (.iload_n 2, 1) := dk_28 (dk_at dksX2_add_0 1 rfl rfl)
theorem dX2_add_2 : decode cX2_add 2 = .ok (.if_icmp .ge 10, 3) := dk_162 0 10 (dk_at dksX2_add_0 2 rfl rfl)
theorem dX2_add_5 : decode cX2_add 5 = .ok (.aload_n 3, 1) := dk_45 (dk_at dksX2_add_0 5 rfl rfl)
theorem dX2_add_6 : decode cX2_add 6 = .ok (.invokevirtual 29, 3) := dk_182 0 29 (dk_at dksX2_add_0 6 rfl rfl)
theorem dX2_add_9 : decode cX2_add 9 = .ok (.ifCond .ne 4, 3) := dk_154 0 4 (dk_at dksX2_add_0 9 rfl rfl)
theorem dX2_add_12 : decode cX2_add 12 = .ok (.return_, 1) := dk_177 (dk_at dksX2_add_0 12 rfl rfl)
theorem dX2_add_13 : decode cX2_add 13 = .ok (.aload_n 0, 1) := dk_42 (dk_at dksX2_add_0 13 rfl rfl)
theorem dX2_add_14 : decode cX2_add 14 = .ok (.getfield 12, 3) := dk_180 0 12 (dk_at dksX2_add_0 14 rfl rfl)
theorem dX2_add_17 : decode cX2_add 17 = .ok (.invokeinterface 33 1, 5) := by decide +kernel
theorem dX2_add_22 : decode cX2_add 22 = .ok (.ifCond .eq 7, 3) := dk_153 0 7 (dk_at dksX2_add_1 0 rfl rfl)
theorem dX2_add_25 : decode cX2_add 25 = .ok (.aconst_null, 1) := dk_1 (dk_at dksX2_add_1 3 rfl rfl)
theorem dX2_add_26 : decode cX2_add 26 = .ok (.goto 26, 3) := dk_167 0 26 (dk_at dksX2_add_1 4 rfl rfl)
theorem dX2_add_29 : decode cX2_add 29 = .ok (.aload_n 0, 1) := dk_42 (dk_at dksX2_add_1 7 rfl rfl)
theorem dX2_add_30 : decode cX2_add 30 = .ok (.getfield 12, 3) := dk_180 0 12 (dk_at dksX2_add_1 8 rfl rfl)
theorem dX2_add_33 : decode cX2_add 33 = .ok (.aload_n 0, 1) := dk_42 (dk_at dksX2_add_1 11 rfl rfl)
theorem dX2_add_34 : decode cX2_add 34 = .ok (.getfield 12, 3) := dk_180 0 12 (dk_at dksX2_add_1 12 rfl rfl)
theorem dX2_add_37 : decode cX2_add 37 = .ok (.invokeinterface 39 1, 5) := by decide +kernel
theorem dX2_add_42 : decode cX2_add 42 = .ok (.iconst 1, 1) := dk_4 (dk_at dksX2_add_1 20 rfl rfl)
theorem dX2_add_43 : decode cX2_add 43 = .ok (.isub, 1) := dk_100 (dk_at dksX2_add_1 21 rfl rfl)
theorem dX2_add_44 : decode cX2_add 44 = .ok (.invokeinterface 40 2, 5) := by decide +kernel
theorem dX2_add_49 : decode cX2_add 49 = .ok (.checkcast 44, 3) := dk_192 0 44 (dk_at dksX2_add_2 5 rfl rfl)
theorem dX2_add_52 : decode cX2_add 52 = .ok (.astore 4, 2) := dk_58 4 (dk_at dksX2_add_2 8 rfl rfl)
theorem dX2_add_54 : decode cX2_add 54 = .ok (.aload 4, 2) := dk_25 4 (dk_at dksX2_add_2 10 rfl rfl)
theorem dX2_add_56 : decode cX2_add 56 = .ok (.ifnull 33, 3) := dk_198 0 33 (dk_at dksX2_add_2 12 rfl rfl)
theorem dX2_add_59 : decode cX2_add 59 = .ok (.aload 4, 2) := dk_25 4 (dk_at dksX2_add_2 15 rfl rfl)
theorem dX2_add_61 : decode cX2_add 61 = .ok (.getfield 46, 3) := dk_180 0 46 (dk_at dksX2_add_2 17 rfl rfl)
theorem dX2_add_64 : decode cX2_add 64 = .ok (.iload_n 1, 1) := dk_27 (dk_at dksX2_add_2 20 rfl rfl)
theorem dX2_add_65 : decode cX2_add 65 = .ok (.if_icmp .ne 24, 3) := dk_160 0 24 (dk_at dksX2_add_2 21 rfl rfl)
theorem dX2_add_68 : decode cX2_add 68 = .ok (.aload 4, 2) := dk_25 4 (dk_at dksX2_add_3 0 rfl rfl)
theorem dX2_add_70 : decode cX2_add 70 = .ok (.getfield 50, 3) := dk_180 0 50 (dk_at dksX2_add_3 2 rfl rfl)
theorem dX2_add_73 : decode cX2_add 73 = .ok (.aload_n 3, 1) := dk_45 (dk_at dksX2_add_3 5 rfl rfl)
theorem dX2_add_74 : decode cX2_add 74 = .ok (.invokevirtual 54, 3) := dk_182 0 54 (dk_at dksX2_add_3 6 rfl rfl)
theorem dX2_add_77 : decode cX2_add 77 = .ok (.ifCond .eq 12, 3) := dk_153 0 12 (dk_at dksX2_add_3 9 rfl rfl)
theorem dX2_add_80 : decode cX2_add 80 = .ok (.aload 4, 2) := dk_25 4 (dk_at dksX2_add_3 12 rfl rfl)
theorem dX2_add_82 : decode cX2_add 82 = .ok (.iload_n 2, 1) := dk_28 (dk_at dksX2_add_3 14 rfl rfl)
theorem dX2_add_83 : decode cX2_add 83 = .ok (.putfield 46, 3) := dk_181 0 46 (dk_at dksX2_add_3 15 rfl rfl)
theorem dX2_add_86 : decode cX2_add 86 = .ok (.goto 23, 3) := dk_167 0 23 (dk_at dksX2_add_3 18 rfl rfl)
theorem dX2_add_89 : decode cX2_add 89 = .ok (.aload_n 0, 1) := dk_42 (dk_at dksX2_add_3 21 rfl rfl)
theorem dX2_add_90 : decode cX2_add 90 = .ok (.getfield 12, 3) := dk_180 0 12 (dk_at dksX2_add_4 0 rfl rfl)
theorem dX2_add_93 : decode cX2_add 93 = .ok (.new 44, 3) := dk_187 0 44 (dk_at dksX2_add_4 3 rfl rfl)
theorem dX2_add_96 : decode cX2_add 96 = .ok (.dup, 1) := dk_89 (dk_at dksX2_add_4 6 rfl rfl)
theorem dX2_add_97 : decode cX2_add 97 = .ok (.iload_n 1, 1) := dk_27 (dk_at dksX2_add_4 7 rfl rfl)
theorem dX2_add_98 : decode cX2_add 98 = .ok (.iload_n 2, 1) := dk_28 (dk_at dksX2_add_4 8 rfl rfl)
theorem dX2_add_99 : decode cX2_add 99 = .ok (.aload_n 3, 1) := dk_45 (dk_at dksX2_add_4 9 rfl rfl)
theorem dX2_add_100 : decode cX2_add 100 = .ok (.invokespecial 58, 3) := dk_183 0 58 (dk_at dksX2_add_4 10 rfl rfl)
theorem dX2_add_103 : decode cX2_add 103 = .ok (.invokeinterface 60 2, 5) := by decide +kernel
theorem dX2_add_108 : decode cX2_add 108 = .ok (.pop, 1) := dk_87 (dk_at dksX2_add_4 18 rfl rfl)
theorem dX2_add_109 : decode cX2_add 109 = .ok (.return_, 1) := dk_177 (dk_at dksX2_add_4 19 rfl rfl)
abbrev cX2_area : ByteArray := prog_17_method_11_code
def yX2_area : MethodName := ⟨RX2, "area", "()I"⟩
def dkwX2_area_0 : List UInt8 := [187, 0, 117, 89, 183, 0, 119, 42, 182, 0, 120, 180, 0, 124, 172]
abbrev dktX2_area_0 : List UInt8 := dkwX2_area_0 ++ []
theorem dksX2_area_0 : cX2_area.data.toList.drop 0 = dktX2_area_0 := by decide +kernel
theorem dX2_area_0 : decode cX2_area 0 = .ok (.new 117, 3) := dk_187 0 117 (dk_at dksX2_area_0 0 rfl rfl)
theorem dX2_area_3 : decode cX2_area 3 = .ok (.dup, 1) := dk_89 (dk_at dksX2_area_0 3 rfl rfl)
theorem dX2_area_4 : decode cX2_area 4 = .ok (.invokespecial 119, 3) := dk_183 0 119 (dk_at dksX2_area_0 4 rfl rfl)
theorem dX2_area_7 : decode cX2_area 7 = .ok (.aload_n 0, 1) := dk_42 (dk_at dksX2_area_0 7 rfl rfl)
theorem dX2_area_8 : decode cX2_area 8 = .ok (.invokevirtual 120, 3) := dk_182 0 120 (dk_at dksX2_area_0 8 rfl rfl)
theorem dX2_area_11 : decode cX2_area 11 = .ok (.getfield 124, 3) := dk_180 0 124 (dk_at dksX2_area_0 11 rfl rfl)
theorem dX2_area_14 : decode cX2_area 14 = .ok (.ireturn, 1) := dk_172 (dk_at dksX2_area_0 14 rfl rfl)
abbrev cX2_combine : ByteArray := prog_17_method_10_code
def yX2_combine : MethodName := ⟨RX2, "combine", "(LPolygonBoard$Region;LPolygonBoard$Operation;)LPolygonBoard$Region;"⟩
def dkwX2_combine_3 : List UInt8 := [184, 0, 110, 54, 5, 167, 255, 212, 45, 176]
abbrev dktX2_combine_3 : List UInt8 := dkwX2_combine_3 ++ []
def dkwX2_combine_2 : List UInt8 := [182, 0, 86, 43, 21, 4, 182, 0, 86, 44, 182, 0, 113, 182, 0, 26, 21, 5, 54, 4, 42, 43, 21, 4]
abbrev dktX2_combine_2 : List UInt8 := dkwX2_combine_2 ++ dktX2_combine_3
def dkwX2_combine_1 : List UInt8 := [21, 4, 184, 0, 110, 54, 5, 21, 5, 21, 4, 164, 0, 43, 45, 21, 4, 21, 5, 42, 21, 4]
abbrev dktX2_combine_1 : List UInt8 := dkwX2_combine_1 ++ dktX2_combine_2
def dkwX2_combine_0 : List UInt8 := [187, 0, 13, 89, 183, 0, 18, 78, 42, 182, 0, 107, 43, 182, 0, 107, 184, 0, 104, 54, 4, 42, 43]
abbrev dktX2_combine_0 : List UInt8 := dkwX2_combine_0 ++ dktX2_combine_1
theorem dksX2_combine_0 : cX2_combine.data.toList.drop 0 = dktX2_combine_0 := by decide +kernel
theorem dksX2_combine_1 : cX2_combine.data.toList.drop 23 = dktX2_combine_1 := dk_seg dksX2_combine_0 23 rfl rfl
theorem dksX2_combine_2 : cX2_combine.data.toList.drop 45 = dktX2_combine_2 := dk_seg dksX2_combine_1 22 rfl rfl
theorem dksX2_combine_3 : cX2_combine.data.toList.drop 69 = dktX2_combine_3 := dk_seg dksX2_combine_2 24 rfl rfl
theorem dX2_combine_0 : decode cX2_combine 0 = .ok (.new 13, 3) := dk_187 0 13 (dk_at dksX2_combine_0 0 rfl rfl)
theorem dX2_combine_3 : decode cX2_combine 3 = .ok (.dup, 1) := dk_89 (dk_at dksX2_combine_0 3 rfl rfl)
theorem dX2_combine_4 : decode cX2_combine 4 = .ok (.invokespecial 18, 3) := dk_183 0 18 (dk_at dksX2_combine_0 4 rfl rfl)
theorem dX2_combine_7 : decode cX2_combine 7 = .ok (.astore_n 3, 1) := dk_78 (dk_at dksX2_combine_0 7 rfl rfl)
theorem dX2_combine_8 : decode cX2_combine 8 = .ok (.aload_n 0, 1) := dk_42 (dk_at dksX2_combine_0 8 rfl rfl)
theorem dX2_combine_9 : decode cX2_combine 9 = .ok (.invokevirtual 107, 3) := dk_182 0 107 (dk_at dksX2_combine_0 9 rfl rfl)
theorem dX2_combine_12 : decode cX2_combine 12 = .ok (.aload_n 1, 1) := dk_43 (dk_at dksX2_combine_0 12 rfl rfl)
theorem dX2_combine_13 : decode cX2_combine 13 = .ok (.invokevirtual 107, 3) := dk_182 0 107 (dk_at dksX2_combine_0 13 rfl rfl)
theorem dX2_combine_16 : decode cX2_combine 16 = .ok (.invokestatic 104, 3) := dk_184 0 104 (dk_at dksX2_combine_0 16 rfl rfl)
theorem dX2_combine_19 : decode cX2_combine 19 = .ok (.istore 4, 2) := dk_54 4 (dk_at dksX2_combine_0 19 rfl rfl)
theorem dX2_combine_21 : decode cX2_combine 21 = .ok (.aload_n 0, 1) := dk_42 (dk_at dksX2_combine_0 21 rfl rfl)
theorem dX2_combine_22 : decode cX2_combine 22 = .ok (.aload_n 1, 1) := dk_43 (dk_at dksX2_combine_0 22 rfl rfl)
theorem dX2_combine_23 : decode cX2_combine 23 = .ok (.iload 4, 2) := dk_21 4 (dk_at dksX2_combine_1 0 rfl rfl)
theorem dX2_combine_25 : decode cX2_combine 25 = .ok (.invokestatic 110, 3) := dk_184 0 110 (dk_at dksX2_combine_1 2 rfl rfl)
theorem dX2_combine_28 : decode cX2_combine 28 = .ok (.istore 5, 2) := dk_54 5 (dk_at dksX2_combine_1 5 rfl rfl)
theorem dX2_combine_30 : decode cX2_combine 30 = .ok (.iload 5, 2) := dk_21 5 (dk_at dksX2_combine_1 7 rfl rfl)
theorem dX2_combine_32 : decode cX2_combine 32 = .ok (.iload 4, 2) := dk_21 4 (dk_at dksX2_combine_1 9 rfl rfl)
theorem dX2_combine_34 : decode cX2_combine 34 = .ok (.if_icmp .le 43, 3) := dk_164 0 43 (dk_at dksX2_combine_1 11 rfl rfl)
theorem dX2_combine_37 : decode cX2_combine 37 = .ok (.aload_n 3, 1) := dk_45 (dk_at dksX2_combine_1 14 rfl rfl)
theorem dX2_combine_38 : decode cX2_combine 38 = .ok (.iload 4, 2) := dk_21 4 (dk_at dksX2_combine_1 15 rfl rfl)
theorem dX2_combine_40 : decode cX2_combine 40 = .ok (.iload 5, 2) := dk_21 5 (dk_at dksX2_combine_1 17 rfl rfl)
theorem dX2_combine_42 : decode cX2_combine 42 = .ok (.aload_n 0, 1) := dk_42 (dk_at dksX2_combine_1 19 rfl rfl)
theorem dX2_combine_43 : decode cX2_combine 43 = .ok (.iload 4, 2) := dk_21 4 (dk_at dksX2_combine_1 20 rfl rfl)
theorem dX2_combine_45 : decode cX2_combine 45 = .ok (.invokevirtual 86, 3) := dk_182 0 86 (dk_at dksX2_combine_2 0 rfl rfl)
theorem dX2_combine_48 : decode cX2_combine 48 = .ok (.aload_n 1, 1) := dk_43 (dk_at dksX2_combine_2 3 rfl rfl)
theorem dX2_combine_49 : decode cX2_combine 49 = .ok (.iload 4, 2) := dk_21 4 (dk_at dksX2_combine_2 4 rfl rfl)
theorem dX2_combine_51 : decode cX2_combine 51 = .ok (.invokevirtual 86, 3) := dk_182 0 86 (dk_at dksX2_combine_2 6 rfl rfl)
theorem dX2_combine_54 : decode cX2_combine 54 = .ok (.aload_n 2, 1) := dk_44 (dk_at dksX2_combine_2 9 rfl rfl)
theorem dX2_combine_55 : decode cX2_combine 55 = .ok (.invokevirtual 113, 3) := dk_182 0 113 (dk_at dksX2_combine_2 10 rfl rfl)
theorem dX2_combine_58 : decode cX2_combine 58 = .ok (.invokevirtual 26, 3) := dk_182 0 26 (dk_at dksX2_combine_2 13 rfl rfl)
theorem dX2_combine_61 : decode cX2_combine 61 = .ok (.iload 5, 2) := dk_21 5 (dk_at dksX2_combine_2 16 rfl rfl)
theorem dX2_combine_63 : decode cX2_combine 63 = .ok (.istore 4, 2) := dk_54 4 (dk_at dksX2_combine_2 18 rfl rfl)
theorem dX2_combine_65 : decode cX2_combine 65 = .ok (.aload_n 0, 1) := dk_42 (dk_at dksX2_combine_2 20 rfl rfl)
theorem dX2_combine_66 : decode cX2_combine 66 = .ok (.aload_n 1, 1) := dk_43 (dk_at dksX2_combine_2 21 rfl rfl)
theorem dX2_combine_67 : decode cX2_combine 67 = .ok (.iload 4, 2) := dk_21 4 (dk_at dksX2_combine_2 22 rfl rfl)
theorem dX2_combine_69 : decode cX2_combine 69 = .ok (.invokestatic 110, 3) := dk_184 0 110 (dk_at dksX2_combine_3 0 rfl rfl)
theorem dX2_combine_72 : decode cX2_combine 72 = .ok (.istore 5, 2) := dk_54 5 (dk_at dksX2_combine_3 3 rfl rfl)
theorem dX2_combine_74 : decode cX2_combine 74 = .ok (.goto (-44), 3) := dk_167 255 212 (dk_at dksX2_combine_3 5 rfl rfl)
theorem dX2_combine_77 : decode cX2_combine 77 = .ok (.aload_n 3, 1) := dk_45 (dk_at dksX2_combine_3 8 rfl rfl)
theorem dX2_combine_78 : decode cX2_combine 78 = .ok (.areturn, 1) := dk_176 (dk_at dksX2_combine_3 9 rfl rfl)
abbrev cX2_lowest : ByteArray := prog_17_method_9_code
def yX2_lowest : MethodName := ⟨RX2, "lowest", "()I"⟩
def dkwX2_lowest_1 : List UInt8 := [185, 0, 40, 2, 0, 192, 0, 44, 180, 0, 76, 172]
abbrev dktX2_lowest_1 : List UInt8 := dkwX2_lowest_1 ++ []
def dkwX2_lowest_0 : List UInt8 := [42, 180, 0, 12, 185, 0, 33, 1, 0, 153, 0, 7, 3, 167, 0, 19, 42, 180, 0, 12, 3]
abbrev dktX2_lowest_0 : List UInt8 := dkwX2_lowest_0 ++ dktX2_lowest_1
theorem dksX2_lowest_0 : cX2_lowest.data.toList.drop 0 = dktX2_lowest_0 := by decide +kernel
theorem dksX2_lowest_1 : cX2_lowest.data.toList.drop 21 = dktX2_lowest_1 := dk_seg dksX2_lowest_0 21 rfl rfl
theorem dX2_lowest_0 : decode cX2_lowest 0 = .ok (.aload_n 0, 1) := dk_42 (dk_at dksX2_lowest_0 0 rfl rfl)
theorem dX2_lowest_1 : decode cX2_lowest 1 = .ok (.getfield 12, 3) := dk_180 0 12 (dk_at dksX2_lowest_0 1 rfl rfl)
theorem dX2_lowest_4 : decode cX2_lowest 4 = .ok (.invokeinterface 33 1, 5) := by decide +kernel
theorem dX2_lowest_9 : decode cX2_lowest 9 = .ok (.ifCond .eq 7, 3) := dk_153 0 7 (dk_at dksX2_lowest_0 9 rfl rfl)
theorem dX2_lowest_12 : decode cX2_lowest 12 = .ok (.iconst 0, 1) := dk_3 (dk_at dksX2_lowest_0 12 rfl rfl)
theorem dX2_lowest_13 : decode cX2_lowest 13 = .ok (.goto 19, 3) := dk_167 0 19 (dk_at dksX2_lowest_0 13 rfl rfl)
theorem dX2_lowest_16 : decode cX2_lowest 16 = .ok (.aload_n 0, 1) := dk_42 (dk_at dksX2_lowest_0 16 rfl rfl)
theorem dX2_lowest_17 : decode cX2_lowest 17 = .ok (.getfield 12, 3) := dk_180 0 12 (dk_at dksX2_lowest_0 17 rfl rfl)
theorem dX2_lowest_20 : decode cX2_lowest 20 = .ok (.iconst 0, 1) := dk_3 (dk_at dksX2_lowest_0 20 rfl rfl)
theorem dX2_lowest_21 : decode cX2_lowest 21 = .ok (.invokeinterface 40 2, 5) := by decide +kernel
theorem dX2_lowest_26 : decode cX2_lowest 26 = .ok (.checkcast 44, 3) := dk_192 0 44 (dk_at dksX2_lowest_1 5 rfl rfl)
theorem dX2_lowest_29 : decode cX2_lowest 29 = .ok (.getfield 76, 3) := dk_180 0 76 (dk_at dksX2_lowest_1 8 rfl rfl)
theorem dX2_lowest_32 : decode cX2_lowest 32 = .ok (.ireturn, 1) := dk_172 (dk_at dksX2_lowest_1 11 rfl rfl)
abbrev cX2_nextHeight : ByteArray := prog_17_method_8_code
def yX2_nextHeight : MethodName := ⟨RX2, "nextHeight", "(LPolygonBoard$Region;LPolygonBoard$Region;I)I"⟩
def dkwX2_nextHeight_1 : List UInt8 := [29, 21, 4, 184, 0, 98, 172, 29, 21, 4, 184, 0, 104, 172]
abbrev dktX2_nextHeight_1 : List UInt8 := dkwX2_nextHeight_1 ++ []
def dkwX2_nextHeight_0 : List UInt8 := [42, 28, 182, 0, 94, 62, 43, 28, 182, 0, 94, 54, 4, 29, 28, 159, 0, 9, 21, 4, 28, 160, 0, 10]
abbrev dktX2_nextHeight_0 : List UInt8 := dkwX2_nextHeight_0 ++ dktX2_nextHeight_1
theorem dksX2_nextHeight_0 : cX2_nextHeight.data.toList.drop 0 = dktX2_nextHeight_0 := by decide +kernel
theorem dksX2_nextHeight_1 : cX2_nextHeight.data.toList.drop 24 = dktX2_nextHeight_1 := dk_seg dksX2_nextHeight_0 24 rfl rfl
theorem dX2_nextHeight_0 : decode cX2_nextHeight 0 = .ok (.aload_n 0, 1) := dk_42 (dk_at dksX2_nextHeight_0 0 rfl rfl)
theorem dX2_nextHeight_1 : decode cX2_nextHeight 1 = .ok (.iload_n 2, 1) := dk_28 (dk_at dksX2_nextHeight_0 1 rfl rfl)
theorem dX2_nextHeight_2 : decode cX2_nextHeight 2 = .ok (.invokevirtual 94, 3) := dk_182 0 94 (dk_at dksX2_nextHeight_0 2 rfl rfl)
theorem dX2_nextHeight_5 : decode cX2_nextHeight 5 = .ok (.istore_n 3, 1) := dk_62 (dk_at dksX2_nextHeight_0 5 rfl rfl)
theorem dX2_nextHeight_6 : decode cX2_nextHeight 6 = .ok (.aload_n 1, 1) := dk_43 (dk_at dksX2_nextHeight_0 6 rfl rfl)
theorem dX2_nextHeight_7 : decode cX2_nextHeight 7 = .ok (.iload_n 2, 1) := dk_28 (dk_at dksX2_nextHeight_0 7 rfl rfl)
theorem dX2_nextHeight_8 : decode cX2_nextHeight 8 = .ok (.invokevirtual 94, 3) := dk_182 0 94 (dk_at dksX2_nextHeight_0 8 rfl rfl)
theorem dX2_nextHeight_11 : decode cX2_nextHeight 11 = .ok (.istore 4, 2) := dk_54 4 (dk_at dksX2_nextHeight_0 11 rfl rfl)
theorem dX2_nextHeight_13 : decode cX2_nextHeight 13 = .ok (.iload_n 3, 1) := dk_29 (dk_at dksX2_nextHeight_0 13 rfl rfl)
theorem dX2_nextHeight_14 : decode cX2_nextHeight 14 = .ok (.iload_n 2, 1) := dk_28 (dk_at dksX2_nextHeight_0 14 rfl rfl)
theorem dX2_nextHeight_15 : decode cX2_nextHeight 15 = .ok (.if_icmp .eq 9, 3) := dk_159 0 9 (dk_at dksX2_nextHeight_0 15 rfl rfl)
theorem dX2_nextHeight_18 : decode cX2_nextHeight 18 = .ok (.iload 4, 2) := dk_21 4 (dk_at dksX2_nextHeight_0 18 rfl rfl)
theorem dX2_nextHeight_20 : decode cX2_nextHeight 20 = .ok (.iload_n 2, 1) := dk_28 (dk_at dksX2_nextHeight_0 20 rfl rfl)
theorem dX2_nextHeight_21 : decode cX2_nextHeight 21 = .ok (.if_icmp .ne 10, 3) := dk_160 0 10 (dk_at dksX2_nextHeight_0 21 rfl rfl)
theorem dX2_nextHeight_24 : decode cX2_nextHeight 24 = .ok (.iload_n 3, 1) := dk_29 (dk_at dksX2_nextHeight_1 0 rfl rfl)
theorem dX2_nextHeight_25 : decode cX2_nextHeight 25 = .ok (.iload 4, 2) := dk_21 4 (dk_at dksX2_nextHeight_1 1 rfl rfl)
theorem dX2_nextHeight_27 : decode cX2_nextHeight 27 = .ok (.invokestatic 98, 3) := dk_184 0 98 (dk_at dksX2_nextHeight_1 3 rfl rfl)
theorem dX2_nextHeight_30 : decode cX2_nextHeight 30 = .ok (.ireturn, 1) := dk_172 (dk_at dksX2_nextHeight_1 6 rfl rfl)
theorem dX2_nextHeight_31 : decode cX2_nextHeight 31 = .ok (.iload_n 3, 1) := dk_29 (dk_at dksX2_nextHeight_1 7 rfl rfl)
theorem dX2_nextHeight_32 : decode cX2_nextHeight 32 = .ok (.iload 4, 2) := dk_21 4 (dk_at dksX2_nextHeight_1 8 rfl rfl)
theorem dX2_nextHeight_34 : decode cX2_nextHeight 34 = .ok (.invokestatic 104, 3) := dk_184 0 104 (dk_at dksX2_nextHeight_1 10 rfl rfl)
theorem dX2_nextHeight_37 : decode cX2_nextHeight 37 = .ok (.ireturn, 1) := dk_172 (dk_at dksX2_nextHeight_1 13 rfl rfl)
abbrev cX2_nextHeight_2 : ByteArray := prog_17_method_7_code
def yX2_nextHeight_2 : MethodName := ⟨RX2, "nextHeight", "(I)I"⟩
def dkwX2_nextHeight_2_4 : List UInt8 := [167, 0, 4, 28, 61, 167, 255, 170, 28, 172]
abbrev dktX2_nextHeight_2_4 : List UInt8 := dkwX2_nextHeight_2_4 ++ []
def dkwX2_nextHeight_2_3 : List UInt8 := [27, 164, 0, 25, 28, 27, 159, 0, 12, 25, 4, 180, 0, 46, 28, 162, 0, 11, 25, 4, 180, 0, 46]
abbrev dktX2_nextHeight_2_3 : List UInt8 := dkwX2_nextHeight_2_3 ++ dktX2_nextHeight_2_4
def dkwX2_nextHeight_2_2 : List UInt8 := [25, 4, 180, 0, 76, 28, 162, 0, 11, 25, 4, 180, 0, 76, 167, 0, 4, 28, 61, 25, 4, 180, 0, 46]
abbrev dktX2_nextHeight_2_2 : List UInt8 := dkwX2_nextHeight_2_2 ++ dktX2_nextHeight_2_3
def dkwX2_nextHeight_2_1 : List UInt8 := [185, 0, 72, 1, 0, 192, 0, 44, 58, 4, 25, 4, 180, 0, 76, 27, 164, 0, 25, 28, 27, 159, 0, 12]
abbrev dktX2_nextHeight_2_1 : List UInt8 := dkwX2_nextHeight_2_1 ++ dktX2_nextHeight_2_2
def dkwX2_nextHeight_2_0 : List UInt8 := [27, 61, 42, 180, 0, 12, 185, 0, 63, 1, 0, 78, 45, 185, 0, 67, 1, 0, 153, 0, 83, 45]
abbrev dktX2_nextHeight_2_0 : List UInt8 := dkwX2_nextHeight_2_0 ++ dktX2_nextHeight_2_1
theorem dksX2_nextHeight_2_0 : cX2_nextHeight_2.data.toList.drop 0 = dktX2_nextHeight_2_0 := by decide +kernel
theorem dksX2_nextHeight_2_1 : cX2_nextHeight_2.data.toList.drop 22 = dktX2_nextHeight_2_1 := dk_seg dksX2_nextHeight_2_0 22 rfl rfl
theorem dksX2_nextHeight_2_2 : cX2_nextHeight_2.data.toList.drop 46 = dktX2_nextHeight_2_2 := dk_seg dksX2_nextHeight_2_1 24 rfl rfl
theorem dksX2_nextHeight_2_3 : cX2_nextHeight_2.data.toList.drop 70 = dktX2_nextHeight_2_3 := dk_seg dksX2_nextHeight_2_2 24 rfl rfl
theorem dksX2_nextHeight_2_4 : cX2_nextHeight_2.data.toList.drop 93 = dktX2_nextHeight_2_4 := dk_seg dksX2_nextHeight_2_3 23 rfl rfl
theorem dX2_nextHeight_2_0 : decode cX2_nextHeight_2 0 = .ok (.iload_n 1, 1) := dk_27 (dk_at dksX2_nextHeight_2_0 0 rfl rfl)
theorem dX2_nextHeight_2_1 : decode cX2_nextHeight_2 1 = .ok (.istore_n 2, 1) := dk_61 (dk_at dksX2_nextHeight_2_0 1 rfl rfl)
theorem dX2_nextHeight_2_2 : decode cX2_nextHeight_2 2 = .ok (.aload_n 0, 1) := dk_42 (dk_at dksX2_nextHeight_2_0 2 rfl rfl)
theorem dX2_nextHeight_2_3 : decode cX2_nextHeight_2 3 = .ok (.getfield 12, 3) := dk_180 0 12 (dk_at dksX2_nextHeight_2_0 3 rfl rfl)
theorem dX2_nextHeight_2_6 : decode cX2_nextHeight_2 6 = .ok (.invokeinterface 63 1, 5) := by decide +kernel
theorem dX2_nextHeight_2_11 : decode cX2_nextHeight_2 11 = .ok (.astore_n 3, 1) := dk_78 (dk_at dksX2_nextHeight_2_0 11 rfl rfl)
theorem dX2_nextHeight_2_12 : decode cX2_nextHeight_2 12 = .ok (.aload_n 3, 1) := dk_45 (dk_at dksX2_nextHeight_2_0 12 rfl rfl)
theorem dX2_nextHeight_2_13 : decode cX2_nextHeight_2 13 = .ok (.invokeinterface 67 1, 5) := by decide +kernel
theorem dX2_nextHeight_2_18 : decode cX2_nextHeight_2 18 = .ok (.ifCond .eq 83, 3) := dk_153 0 83 (dk_at dksX2_nextHeight_2_0 18 rfl rfl)
theorem dX2_nextHeight_2_21 : decode cX2_nextHeight_2 21 = .ok (.aload_n 3, 1) := dk_45 (dk_at dksX2_nextHeight_2_0 21 rfl rfl)
theorem dX2_nextHeight_2_22 : decode cX2_nextHeight_2 22 = .ok (.invokeinterface 72 1, 5) := by decide +kernel
theorem dX2_nextHeight_2_27 : decode cX2_nextHeight_2 27 = .ok (.checkcast 44, 3) := dk_192 0 44 (dk_at dksX2_nextHeight_2_1 5 rfl rfl)
theorem dX2_nextHeight_2_30 : decode cX2_nextHeight_2 30 = .ok (.astore 4, 2) := dk_58 4 (dk_at dksX2_nextHeight_2_1 8 rfl rfl)
theorem dX2_nextHeight_2_32 : decode cX2_nextHeight_2 32 = .ok (.aload 4, 2) := dk_25 4 (dk_at dksX2_nextHeight_2_1 10 rfl rfl)
theorem dX2_nextHeight_2_34 : decode cX2_nextHeight_2 34 = .ok (.getfield 76, 3) := dk_180 0 76 (dk_at dksX2_nextHeight_2_1 12 rfl rfl)
theorem dX2_nextHeight_2_37 : decode cX2_nextHeight_2 37 = .ok (.iload_n 1, 1) := dk_27 (dk_at dksX2_nextHeight_2_1 15 rfl rfl)
theorem dX2_nextHeight_2_38 : decode cX2_nextHeight_2 38 = .ok (.if_icmp .le 25, 3) := dk_164 0 25 (dk_at dksX2_nextHeight_2_1 16 rfl rfl)
theorem dX2_nextHeight_2_41 : decode cX2_nextHeight_2 41 = .ok (.iload_n 2, 1) := dk_28 (dk_at dksX2_nextHeight_2_1 19 rfl rfl)
theorem dX2_nextHeight_2_42 : decode cX2_nextHeight_2 42 = .ok (.iload_n 1, 1) := dk_27 (dk_at dksX2_nextHeight_2_1 20 rfl rfl)
theorem dX2_nextHeight_2_43 : decode cX2_nextHeight_2 43 = .ok (.if_icmp .eq 12, 3) := dk_159 0 12 (dk_at dksX2_nextHeight_2_1 21 rfl rfl)
theorem dX2_nextHeight_2_46 : decode cX2_nextHeight_2 46 = .ok (.aload 4, 2) := dk_25 4 (dk_at dksX2_nextHeight_2_2 0 rfl rfl)
theorem dX2_nextHeight_2_48 : decode cX2_nextHeight_2 48 = .ok (.getfield 76, 3) := dk_180 0 76 (dk_at dksX2_nextHeight_2_2 2 rfl rfl)
theorem dX2_nextHeight_2_51 : decode cX2_nextHeight_2 51 = .ok (.iload_n 2, 1) := dk_28 (dk_at dksX2_nextHeight_2_2 5 rfl rfl)
theorem dX2_nextHeight_2_52 : decode cX2_nextHeight_2 52 = .ok (.if_icmp .ge 11, 3) := dk_162 0 11 (dk_at dksX2_nextHeight_2_2 6 rfl rfl)
theorem dX2_nextHeight_2_55 : decode cX2_nextHeight_2 55 = .ok (.aload 4, 2) := dk_25 4 (dk_at dksX2_nextHeight_2_2 9 rfl rfl)
theorem dX2_nextHeight_2_57 : decode cX2_nextHeight_2 57 = .ok (.getfield 76, 3) := dk_180 0 76 (dk_at dksX2_nextHeight_2_2 11 rfl rfl)
theorem dX2_nextHeight_2_60 : decode cX2_nextHeight_2 60 = .ok (.goto 4, 3) := dk_167 0 4 (dk_at dksX2_nextHeight_2_2 14 rfl rfl)
theorem dX2_nextHeight_2_63 : decode cX2_nextHeight_2 63 = .ok (.iload_n 2, 1) := dk_28 (dk_at dksX2_nextHeight_2_2 17 rfl rfl)
theorem dX2_nextHeight_2_64 : decode cX2_nextHeight_2 64 = .ok (.istore_n 2, 1) := dk_61 (dk_at dksX2_nextHeight_2_2 18 rfl rfl)
theorem dX2_nextHeight_2_65 : decode cX2_nextHeight_2 65 = .ok (.aload 4, 2) := dk_25 4 (dk_at dksX2_nextHeight_2_2 19 rfl rfl)
theorem dX2_nextHeight_2_67 : decode cX2_nextHeight_2 67 = .ok (.getfield 46, 3) := dk_180 0 46 (dk_at dksX2_nextHeight_2_2 21 rfl rfl)
theorem dX2_nextHeight_2_70 : decode cX2_nextHeight_2 70 = .ok (.iload_n 1, 1) := dk_27 (dk_at dksX2_nextHeight_2_3 0 rfl rfl)
theorem dX2_nextHeight_2_71 : decode cX2_nextHeight_2 71 = .ok (.if_icmp .le 25, 3) := dk_164 0 25 (dk_at dksX2_nextHeight_2_3 1 rfl rfl)
theorem dX2_nextHeight_2_74 : decode cX2_nextHeight_2 74 = .ok (.iload_n 2, 1) := dk_28 (dk_at dksX2_nextHeight_2_3 4 rfl rfl)
theorem dX2_nextHeight_2_75 : decode cX2_nextHeight_2 75 = .ok (.iload_n 1, 1) := dk_27 (dk_at dksX2_nextHeight_2_3 5 rfl rfl)
theorem dX2_nextHeight_2_76 : decode cX2_nextHeight_2 76 = .ok (.if_icmp .eq 12, 3) := dk_159 0 12 (dk_at dksX2_nextHeight_2_3 6 rfl rfl)
theorem dX2_nextHeight_2_79 : decode cX2_nextHeight_2 79 = .ok (.aload 4, 2) := dk_25 4 (dk_at dksX2_nextHeight_2_3 9 rfl rfl)
theorem dX2_nextHeight_2_81 : decode cX2_nextHeight_2 81 = .ok (.getfield 46, 3) := dk_180 0 46 (dk_at dksX2_nextHeight_2_3 11 rfl rfl)
theorem dX2_nextHeight_2_84 : decode cX2_nextHeight_2 84 = .ok (.iload_n 2, 1) := dk_28 (dk_at dksX2_nextHeight_2_3 14 rfl rfl)
theorem dX2_nextHeight_2_85 : decode cX2_nextHeight_2 85 = .ok (.if_icmp .ge 11, 3) := dk_162 0 11 (dk_at dksX2_nextHeight_2_3 15 rfl rfl)
theorem dX2_nextHeight_2_88 : decode cX2_nextHeight_2 88 = .ok (.aload 4, 2) := dk_25 4 (dk_at dksX2_nextHeight_2_3 18 rfl rfl)
theorem dX2_nextHeight_2_90 : decode cX2_nextHeight_2 90 = .ok (.getfield 46, 3) := dk_180 0 46 (dk_at dksX2_nextHeight_2_3 20 rfl rfl)
theorem dX2_nextHeight_2_93 : decode cX2_nextHeight_2 93 = .ok (.goto 4, 3) := dk_167 0 4 (dk_at dksX2_nextHeight_2_4 0 rfl rfl)
theorem dX2_nextHeight_2_96 : decode cX2_nextHeight_2 96 = .ok (.iload_n 2, 1) := dk_28 (dk_at dksX2_nextHeight_2_4 3 rfl rfl)
theorem dX2_nextHeight_2_97 : decode cX2_nextHeight_2 97 = .ok (.istore_n 2, 1) := dk_61 (dk_at dksX2_nextHeight_2_4 4 rfl rfl)
theorem dX2_nextHeight_2_98 : decode cX2_nextHeight_2 98 = .ok (.goto (-86), 3) := dk_167 255 170 (dk_at dksX2_nextHeight_2_4 5 rfl rfl)
theorem dX2_nextHeight_2_101 : decode cX2_nextHeight_2 101 = .ok (.iload_n 2, 1) := dk_28 (dk_at dksX2_nextHeight_2_4 8 rfl rfl)
theorem dX2_nextHeight_2_102 : decode cX2_nextHeight_2 102 = .ok (.ireturn, 1) := dk_172 (dk_at dksX2_nextHeight_2_4 9 rfl rfl)
abbrev cX2_spansAt : ByteArray := prog_17_method_5_code
def yX2_spansAt : MethodName := ⟨RX2, "spansAt", "(I)LPolygonBoard$Spans;"⟩
def dkwX2_spansAt_2 : List UInt8 := [153, 0, 8, 45, 180, 0, 50, 176, 167, 255, 215, 178, 0, 83, 176]
abbrev dktX2_spansAt_2 : List UInt8 := dkwX2_spansAt_2 ++ []
def dkwX2_spansAt_1 : List UInt8 := [185, 0, 72, 1, 0, 192, 0, 44, 78, 27, 45, 180, 0, 76, 45, 180, 0, 46, 4, 100, 184, 0, 79]
abbrev dktX2_spansAt_1 : List UInt8 := dkwX2_spansAt_1 ++ dktX2_spansAt_2
def dkwX2_spansAt_0 : List UInt8 := [42, 180, 0, 12, 185, 0, 63, 1, 0, 77, 44, 185, 0, 67, 1, 0, 153, 0, 38, 44]
abbrev dktX2_spansAt_0 : List UInt8 := dkwX2_spansAt_0 ++ dktX2_spansAt_1
theorem dksX2_spansAt_0 : cX2_spansAt.data.toList.drop 0 = dktX2_spansAt_0 := by decide +kernel
theorem dksX2_spansAt_1 : cX2_spansAt.data.toList.drop 20 = dktX2_spansAt_1 := dk_seg dksX2_spansAt_0 20 rfl rfl
theorem dksX2_spansAt_2 : cX2_spansAt.data.toList.drop 43 = dktX2_spansAt_2 := dk_seg dksX2_spansAt_1 23 rfl rfl
theorem dX2_spansAt_0 : decode cX2_spansAt 0 = .ok (.aload_n 0, 1) := dk_42 (dk_at dksX2_spansAt_0 0 rfl rfl)
theorem dX2_spansAt_1 : decode cX2_spansAt 1 = .ok (.getfield 12, 3) := dk_180 0 12 (dk_at dksX2_spansAt_0 1 rfl rfl)
theorem dX2_spansAt_4 : decode cX2_spansAt 4 = .ok (.invokeinterface 63 1, 5) := by decide +kernel
theorem dX2_spansAt_9 : decode cX2_spansAt 9 = .ok (.astore_n 2, 1) := dk_77 (dk_at dksX2_spansAt_0 9 rfl rfl)
theorem dX2_spansAt_10 : decode cX2_spansAt 10 = .ok (.aload_n 2, 1) := dk_44 (dk_at dksX2_spansAt_0 10 rfl rfl)
theorem dX2_spansAt_11 : decode cX2_spansAt 11 = .ok (.invokeinterface 67 1, 5) := by decide +kernel
theorem dX2_spansAt_16 : decode cX2_spansAt 16 = .ok (.ifCond .eq 38, 3) := dk_153 0 38 (dk_at dksX2_spansAt_0 16 rfl rfl)
theorem dX2_spansAt_19 : decode cX2_spansAt 19 = .ok (.aload_n 2, 1) := dk_44 (dk_at dksX2_spansAt_0 19 rfl rfl)
theorem dX2_spansAt_20 : decode cX2_spansAt 20 = .ok (.invokeinterface 72 1, 5) := by decide +kernel
theorem dX2_spansAt_25 : decode cX2_spansAt 25 = .ok (.checkcast 44, 3) := dk_192 0 44 (dk_at dksX2_spansAt_1 5 rfl rfl)
theorem dX2_spansAt_28 : decode cX2_spansAt 28 = .ok (.astore_n 3, 1) := dk_78 (dk_at dksX2_spansAt_1 8 rfl rfl)
theorem dX2_spansAt_29 : decode cX2_spansAt 29 = .ok (.iload_n 1, 1) := dk_27 (dk_at dksX2_spansAt_1 9 rfl rfl)
theorem dX2_spansAt_30 : decode cX2_spansAt 30 = .ok (.aload_n 3, 1) := dk_45 (dk_at dksX2_spansAt_1 10 rfl rfl)
theorem dX2_spansAt_31 : decode cX2_spansAt 31 = .ok (.getfield 76, 3) := dk_180 0 76 (dk_at dksX2_spansAt_1 11 rfl rfl)
theorem dX2_spansAt_34 : decode cX2_spansAt 34 = .ok (.aload_n 3, 1) := dk_45 (dk_at dksX2_spansAt_1 14 rfl rfl)
theorem dX2_spansAt_35 : decode cX2_spansAt 35 = .ok (.getfield 46, 3) := dk_180 0 46 (dk_at dksX2_spansAt_1 15 rfl rfl)
theorem dX2_spansAt_38 : decode cX2_spansAt 38 = .ok (.iconst 1, 1) := dk_4 (dk_at dksX2_spansAt_1 18 rfl rfl)
theorem dX2_spansAt_39 : decode cX2_spansAt 39 = .ok (.isub, 1) := dk_100 (dk_at dksX2_spansAt_1 19 rfl rfl)
theorem dX2_spansAt_40 : decode cX2_spansAt 40 = .ok (.invokestatic 79, 3) := dk_184 0 79 (dk_at dksX2_spansAt_1 20 rfl rfl)
theorem dX2_spansAt_43 : decode cX2_spansAt 43 = .ok (.ifCond .eq 8, 3) := dk_153 0 8 (dk_at dksX2_spansAt_2 0 rfl rfl)
theorem dX2_spansAt_46 : decode cX2_spansAt 46 = .ok (.aload_n 3, 1) := dk_45 (dk_at dksX2_spansAt_2 3 rfl rfl)
theorem dX2_spansAt_47 : decode cX2_spansAt 47 = .ok (.getfield 50, 3) := dk_180 0 50 (dk_at dksX2_spansAt_2 4 rfl rfl)
theorem dX2_spansAt_50 : decode cX2_spansAt 50 = .ok (.areturn, 1) := dk_176 (dk_at dksX2_spansAt_2 7 rfl rfl)
theorem dX2_spansAt_51 : decode cX2_spansAt 51 = .ok (.goto (-41), 3) := dk_167 255 215 (dk_at dksX2_spansAt_2 8 rfl rfl)
theorem dX2_spansAt_54 : decode cX2_spansAt 54 = .ok (.getstatic 83, 3) := dk_178 0 83 (dk_at dksX2_spansAt_2 11 rfl rfl)
theorem dX2_spansAt_57 : decode cX2_spansAt 57 = .ok (.areturn, 1) := dk_176 (dk_at dksX2_spansAt_2 14 rfl rfl)
abbrev cX2_grown : ByteArray := prog_17_method_18_code
def yX2_grown : MethodName := ⟨RX2, "grown", "(I)LPolygonBoard$Region;"⟩
def dkwX2_grown_5 : List UInt8 := [182, 0, 26, 132, 4, 1, 167, 255, 218, 45, 176]
abbrev dktX2_grown_5 : List UInt8 := dkwX2_grown_5 ++ []
def dkwX2_grown_4 : List UInt8 := [182, 0, 153, 27, 96, 162, 0, 26, 45, 21, 4, 21, 4, 4, 96, 44, 21, 4, 27, 182, 0, 156]
abbrev dktX2_grown_4 : List UInt8 := dkwX2_grown_4 ++ dktX2_grown_5
def dkwX2_grown_3 : List UInt8 := [183, 0, 18, 78, 42, 182, 0, 107, 27, 100, 54, 4, 42, 182, 0, 152, 154, 0, 37, 21, 4, 42]
abbrev dktX2_grown_3 : List UInt8 := dkwX2_grown_3 ++ dktX2_grown_4
def dkwX2_grown_2 : List UInt8 := [180, 0, 46, 25, 4, 180, 0, 50, 27, 182, 0, 149, 182, 0, 26, 167, 255, 213, 187, 0, 13, 89]
abbrev dktX2_grown_2 : List UInt8 := dkwX2_grown_2 ++ dktX2_grown_3
def dkwX2_grown_1 : List UInt8 := [153, 0, 40, 45, 185, 0, 72, 1, 0, 192, 0, 44, 58, 4, 44, 25, 4, 180, 0, 76, 25, 4]
abbrev dktX2_grown_1 : List UInt8 := dkwX2_grown_1 ++ dktX2_grown_2
def dkwX2_grown_0 : List UInt8 := [187, 0, 13, 89, 183, 0, 18, 77, 42, 180, 0, 12, 185, 0, 63, 1, 0, 78, 45, 185, 0, 67, 1, 0]
abbrev dktX2_grown_0 : List UInt8 := dkwX2_grown_0 ++ dktX2_grown_1
theorem dksX2_grown_0 : cX2_grown.data.toList.drop 0 = dktX2_grown_0 := by decide +kernel
theorem dksX2_grown_1 : cX2_grown.data.toList.drop 24 = dktX2_grown_1 := dk_seg dksX2_grown_0 24 rfl rfl
theorem dksX2_grown_2 : cX2_grown.data.toList.drop 46 = dktX2_grown_2 := dk_seg dksX2_grown_1 22 rfl rfl
theorem dksX2_grown_3 : cX2_grown.data.toList.drop 68 = dktX2_grown_3 := dk_seg dksX2_grown_2 22 rfl rfl
theorem dksX2_grown_4 : cX2_grown.data.toList.drop 90 = dktX2_grown_4 := dk_seg dksX2_grown_3 22 rfl rfl
theorem dksX2_grown_5 : cX2_grown.data.toList.drop 112 = dktX2_grown_5 := dk_seg dksX2_grown_4 22 rfl rfl
theorem dX2_grown_0 : decode cX2_grown 0 = .ok (.new 13, 3) := dk_187 0 13 (dk_at dksX2_grown_0 0 rfl rfl)
theorem dX2_grown_3 : decode cX2_grown 3 = .ok (.dup, 1) := dk_89 (dk_at dksX2_grown_0 3 rfl rfl)
theorem dX2_grown_4 : decode cX2_grown 4 = .ok (.invokespecial 18, 3) := dk_183 0 18 (dk_at dksX2_grown_0 4 rfl rfl)
theorem dX2_grown_7 : decode cX2_grown 7 = .ok (.astore_n 2, 1) := dk_77 (dk_at dksX2_grown_0 7 rfl rfl)
theorem dX2_grown_8 : decode cX2_grown 8 = .ok (.aload_n 0, 1) := dk_42 (dk_at dksX2_grown_0 8 rfl rfl)
theorem dX2_grown_9 : decode cX2_grown 9 = .ok (.getfield 12, 3) := dk_180 0 12 (dk_at dksX2_grown_0 9 rfl rfl)
theorem dX2_grown_12 : decode cX2_grown 12 = .ok (.invokeinterface 63 1, 5) := by decide +kernel
theorem dX2_grown_17 : decode cX2_grown 17 = .ok (.astore_n 3, 1) := dk_78 (dk_at dksX2_grown_0 17 rfl rfl)
theorem dX2_grown_18 : decode cX2_grown 18 = .ok (.aload_n 3, 1) := dk_45 (dk_at dksX2_grown_0 18 rfl rfl)
theorem dX2_grown_19 : decode cX2_grown 19 = .ok (.invokeinterface 67 1, 5) := by decide +kernel
theorem dX2_grown_24 : decode cX2_grown 24 = .ok (.ifCond .eq 40, 3) := dk_153 0 40 (dk_at dksX2_grown_1 0 rfl rfl)
theorem dX2_grown_27 : decode cX2_grown 27 = .ok (.aload_n 3, 1) := dk_45 (dk_at dksX2_grown_1 3 rfl rfl)
theorem dX2_grown_28 : decode cX2_grown 28 = .ok (.invokeinterface 72 1, 5) := by decide +kernel
theorem dX2_grown_33 : decode cX2_grown 33 = .ok (.checkcast 44, 3) := dk_192 0 44 (dk_at dksX2_grown_1 9 rfl rfl)
theorem dX2_grown_36 : decode cX2_grown 36 = .ok (.astore 4, 2) := dk_58 4 (dk_at dksX2_grown_1 12 rfl rfl)
theorem dX2_grown_38 : decode cX2_grown 38 = .ok (.aload_n 2, 1) := dk_44 (dk_at dksX2_grown_1 14 rfl rfl)
theorem dX2_grown_39 : decode cX2_grown 39 = .ok (.aload 4, 2) := dk_25 4 (dk_at dksX2_grown_1 15 rfl rfl)
theorem dX2_grown_41 : decode cX2_grown 41 = .ok (.getfield 76, 3) := dk_180 0 76 (dk_at dksX2_grown_1 17 rfl rfl)
theorem dX2_grown_44 : decode cX2_grown 44 = .ok (.aload 4, 2) := dk_25 4 (dk_at dksX2_grown_1 20 rfl rfl)
theorem dX2_grown_46 : decode cX2_grown 46 = .ok (.getfield 46, 3) := dk_180 0 46 (dk_at dksX2_grown_2 0 rfl rfl)
theorem dX2_grown_49 : decode cX2_grown 49 = .ok (.aload 4, 2) := dk_25 4 (dk_at dksX2_grown_2 3 rfl rfl)
theorem dX2_grown_51 : decode cX2_grown 51 = .ok (.getfield 50, 3) := dk_180 0 50 (dk_at dksX2_grown_2 5 rfl rfl)
theorem dX2_grown_54 : decode cX2_grown 54 = .ok (.iload_n 1, 1) := dk_27 (dk_at dksX2_grown_2 8 rfl rfl)
theorem dX2_grown_55 : decode cX2_grown 55 = .ok (.invokevirtual 149, 3) := dk_182 0 149 (dk_at dksX2_grown_2 9 rfl rfl)
theorem dX2_grown_58 : decode cX2_grown 58 = .ok (.invokevirtual 26, 3) := dk_182 0 26 (dk_at dksX2_grown_2 12 rfl rfl)
theorem dX2_grown_61 : decode cX2_grown 61 = .ok (.goto (-43), 3) := dk_167 255 213 (dk_at dksX2_grown_2 15 rfl rfl)
theorem dX2_grown_64 : decode cX2_grown 64 = .ok (.new 13, 3) := dk_187 0 13 (dk_at dksX2_grown_2 18 rfl rfl)
theorem dX2_grown_67 : decode cX2_grown 67 = .ok (.dup, 1) := dk_89 (dk_at dksX2_grown_2 21 rfl rfl)
theorem dX2_grown_68 : decode cX2_grown 68 = .ok (.invokespecial 18, 3) := dk_183 0 18 (dk_at dksX2_grown_3 0 rfl rfl)
theorem dX2_grown_71 : decode cX2_grown 71 = .ok (.astore_n 3, 1) := dk_78 (dk_at dksX2_grown_3 3 rfl rfl)
theorem dX2_grown_72 : decode cX2_grown 72 = .ok (.aload_n 0, 1) := dk_42 (dk_at dksX2_grown_3 4 rfl rfl)
theorem dX2_grown_73 : decode cX2_grown 73 = .ok (.invokevirtual 107, 3) := dk_182 0 107 (dk_at dksX2_grown_3 5 rfl rfl)
theorem dX2_grown_76 : decode cX2_grown 76 = .ok (.iload_n 1, 1) := dk_27 (dk_at dksX2_grown_3 8 rfl rfl)
theorem dX2_grown_77 : decode cX2_grown 77 = .ok (.isub, 1) := dk_100 (dk_at dksX2_grown_3 9 rfl rfl)
theorem dX2_grown_78 : decode cX2_grown 78 = .ok (.istore 4, 2) := dk_54 4 (dk_at dksX2_grown_3 10 rfl rfl)
theorem dX2_grown_80 : decode cX2_grown 80 = .ok (.aload_n 0, 1) := dk_42 (dk_at dksX2_grown_3 12 rfl rfl)
theorem dX2_grown_81 : decode cX2_grown 81 = .ok (.invokevirtual 152, 3) := dk_182 0 152 (dk_at dksX2_grown_3 13 rfl rfl)
theorem dX2_grown_84 : decode cX2_grown 84 = .ok (.ifCond .ne 37, 3) := dk_154 0 37 (dk_at dksX2_grown_3 16 rfl rfl)
theorem dX2_grown_87 : decode cX2_grown 87 = .ok (.iload 4, 2) := dk_21 4 (dk_at dksX2_grown_3 19 rfl rfl)
theorem dX2_grown_89 : decode cX2_grown 89 = .ok (.aload_n 0, 1) := dk_42 (dk_at dksX2_grown_3 21 rfl rfl)
theorem dX2_grown_90 : decode cX2_grown 90 = .ok (.invokevirtual 153, 3) := dk_182 0 153 (dk_at dksX2_grown_4 0 rfl rfl)
theorem dX2_grown_93 : decode cX2_grown 93 = .ok (.iload_n 1, 1) := dk_27 (dk_at dksX2_grown_4 3 rfl rfl)
theorem dX2_grown_94 : decode cX2_grown 94 = .ok (.iadd, 1) := dk_96 (dk_at dksX2_grown_4 4 rfl rfl)
theorem dX2_grown_95 : decode cX2_grown 95 = .ok (.if_icmp .ge 26, 3) := dk_162 0 26 (dk_at dksX2_grown_4 5 rfl rfl)
theorem dX2_grown_98 : decode cX2_grown 98 = .ok (.aload_n 3, 1) := dk_45 (dk_at dksX2_grown_4 8 rfl rfl)
theorem dX2_grown_99 : decode cX2_grown 99 = .ok (.iload 4, 2) := dk_21 4 (dk_at dksX2_grown_4 9 rfl rfl)
theorem dX2_grown_101 : decode cX2_grown 101 = .ok (.iload 4, 2) := dk_21 4 (dk_at dksX2_grown_4 11 rfl rfl)
theorem dX2_grown_103 : decode cX2_grown 103 = .ok (.iconst 1, 1) := dk_4 (dk_at dksX2_grown_4 13 rfl rfl)
theorem dX2_grown_104 : decode cX2_grown 104 = .ok (.iadd, 1) := dk_96 (dk_at dksX2_grown_4 14 rfl rfl)
theorem dX2_grown_105 : decode cX2_grown 105 = .ok (.aload_n 2, 1) := dk_44 (dk_at dksX2_grown_4 15 rfl rfl)
theorem dX2_grown_106 : decode cX2_grown 106 = .ok (.iload 4, 2) := dk_21 4 (dk_at dksX2_grown_4 16 rfl rfl)
theorem dX2_grown_108 : decode cX2_grown 108 = .ok (.iload_n 1, 1) := dk_27 (dk_at dksX2_grown_4 18 rfl rfl)
theorem dX2_grown_109 : decode cX2_grown 109 = .ok (.invokevirtual 156, 3) := dk_182 0 156 (dk_at dksX2_grown_4 19 rfl rfl)
theorem dX2_grown_112 : decode cX2_grown 112 = .ok (.invokevirtual 26, 3) := dk_182 0 26 (dk_at dksX2_grown_5 0 rfl rfl)
theorem dX2_grown_115 : decode cX2_grown 115 = .ok (.iinc 4 1, 3) := dk_132 4 1 (dk_at dksX2_grown_5 3 rfl rfl)
theorem dX2_grown_118 : decode cX2_grown 118 = .ok (.goto (-38), 3) := dk_167 255 218 (dk_at dksX2_grown_5 6 rfl rfl)
theorem dX2_grown_121 : decode cX2_grown 121 = .ok (.aload_n 3, 1) := dk_45 (dk_at dksX2_grown_5 9 rfl rfl)
theorem dX2_grown_122 : decode cX2_grown 122 = .ok (.areturn, 1) := dk_176 (dk_at dksX2_grown_5 10 rfl rfl)
abbrev cX2_isEmpty : ByteArray := prog_17_method_4_code
def yX2_isEmpty : MethodName := ⟨RX2, "isEmpty", "()Z"⟩
def dkwX2_isEmpty_0 : List UInt8 := [42, 180, 0, 12, 185, 0, 33, 1, 0, 172]
abbrev dktX2_isEmpty_0 : List UInt8 := dkwX2_isEmpty_0 ++ []
theorem dksX2_isEmpty_0 : cX2_isEmpty.data.toList.drop 0 = dktX2_isEmpty_0 := by decide +kernel
theorem dX2_isEmpty_0 : decode cX2_isEmpty 0 = .ok (.aload_n 0, 1) := dk_42 (dk_at dksX2_isEmpty_0 0 rfl rfl)
theorem dX2_isEmpty_1 : decode cX2_isEmpty 1 = .ok (.getfield 12, 3) := dk_180 0 12 (dk_at dksX2_isEmpty_0 1 rfl rfl)
theorem dX2_isEmpty_4 : decode cX2_isEmpty 4 = .ok (.invokeinterface 33 1, 5) := by decide +kernel
theorem dX2_isEmpty_9 : decode cX2_isEmpty 9 = .ok (.ireturn, 1) := dk_172 (dk_at dksX2_isEmpty_0 9 rfl rfl)
abbrev cX2_top : ByteArray := prog_17_method_15_code
def yX2_top : MethodName := ⟨RX2, "top", "()I"⟩
def dkwX2_top_1 : List UInt8 := [180, 0, 46, 172]
abbrev dktX2_top_1 : List UInt8 := dkwX2_top_1 ++ []
def dkwX2_top_0 : List UInt8 := [42, 180, 0, 12, 42, 180, 0, 12, 185, 0, 39, 1, 0, 4, 100, 185, 0, 40, 2, 0, 192, 0, 44]
abbrev dktX2_top_0 : List UInt8 := dkwX2_top_0 ++ dktX2_top_1
theorem dksX2_top_0 : cX2_top.data.toList.drop 0 = dktX2_top_0 := by decide +kernel
theorem dksX2_top_1 : cX2_top.data.toList.drop 23 = dktX2_top_1 := dk_seg dksX2_top_0 23 rfl rfl
theorem dX2_top_0 : decode cX2_top 0 = .ok (.aload_n 0, 1) := dk_42 (dk_at dksX2_top_0 0 rfl rfl)
theorem dX2_top_1 : decode cX2_top 1 = .ok (.getfield 12, 3) := dk_180 0 12 (dk_at dksX2_top_0 1 rfl rfl)
theorem dX2_top_4 : decode cX2_top 4 = .ok (.aload_n 0, 1) := dk_42 (dk_at dksX2_top_0 4 rfl rfl)
theorem dX2_top_5 : decode cX2_top 5 = .ok (.getfield 12, 3) := dk_180 0 12 (dk_at dksX2_top_0 5 rfl rfl)
theorem dX2_top_8 : decode cX2_top 8 = .ok (.invokeinterface 39 1, 5) := by decide +kernel
theorem dX2_top_13 : decode cX2_top 13 = .ok (.iconst 1, 1) := dk_4 (dk_at dksX2_top_0 13 rfl rfl)
theorem dX2_top_14 : decode cX2_top 14 = .ok (.isub, 1) := dk_100 (dk_at dksX2_top_0 14 rfl rfl)
theorem dX2_top_15 : decode cX2_top 15 = .ok (.invokeinterface 40 2, 5) := by decide +kernel
theorem dX2_top_20 : decode cX2_top 20 = .ok (.checkcast 44, 3) := dk_192 0 44 (dk_at dksX2_top_0 20 rfl rfl)
theorem dX2_top_23 : decode cX2_top 23 = .ok (.getfield 46, 3) := dk_180 0 46 (dk_at dksX2_top_1 0 rfl rfl)
theorem dX2_top_26 : decode cX2_top 26 = .ok (.ireturn, 1) := dk_172 (dk_at dksX2_top_1 3 rfl rfl)
abbrev cX2_spansAround : ByteArray := prog_17_method_19_code
def yX2_spansAround : MethodName := ⟨RX2, "spansAround", "(II)LPolygonBoard$Spans;"⟩
def dkwX2_spansAround_3 : List UInt8 := [182, 0, 113, 78, 167, 255, 199, 45, 176]
abbrev dktX2_spansAround_3 : List UInt8 := dkwX2_spansAround_3 ++ []
def dkwX2_spansAround_2 : List UInt8 := [163, 0, 27, 27, 25, 5, 180, 0, 46, 28, 96, 162, 0, 16, 45, 25, 5, 180, 0, 50, 178, 0, 160]
abbrev dktX2_spansAround_2 : List UInt8 := dkwX2_spansAround_2 ++ dktX2_spansAround_3
def dkwX2_spansAround_1 : List UInt8 := [153, 0, 53, 25, 4, 185, 0, 72, 1, 0, 192, 0, 44, 58, 5, 25, 5, 180, 0, 76, 28, 100, 27]
abbrev dktX2_spansAround_1 : List UInt8 := dkwX2_spansAround_1 ++ dktX2_spansAround_2
def dkwX2_spansAround_0 : List UInt8 := [178, 0, 83, 78, 42, 180, 0, 12, 185, 0, 63, 1, 0, 58, 4, 25, 4, 185, 0, 67, 1, 0]
abbrev dktX2_spansAround_0 : List UInt8 := dkwX2_spansAround_0 ++ dktX2_spansAround_1
theorem dksX2_spansAround_0 : cX2_spansAround.data.toList.drop 0 = dktX2_spansAround_0 := by decide +kernel
theorem dksX2_spansAround_1 : cX2_spansAround.data.toList.drop 22 = dktX2_spansAround_1 := dk_seg dksX2_spansAround_0 22 rfl rfl
theorem dksX2_spansAround_2 : cX2_spansAround.data.toList.drop 45 = dktX2_spansAround_2 := dk_seg dksX2_spansAround_1 23 rfl rfl
theorem dksX2_spansAround_3 : cX2_spansAround.data.toList.drop 68 = dktX2_spansAround_3 := dk_seg dksX2_spansAround_2 23 rfl rfl
theorem dX2_spansAround_0 : decode cX2_spansAround 0 = .ok (.getstatic 83, 3) := dk_178 0 83 (dk_at dksX2_spansAround_0 0 rfl rfl)
theorem dX2_spansAround_3 : decode cX2_spansAround 3 = .ok (.astore_n 3, 1) := dk_78 (dk_at dksX2_spansAround_0 3 rfl rfl)
theorem dX2_spansAround_4 : decode cX2_spansAround 4 = .ok (.aload_n 0, 1) := dk_42 (dk_at dksX2_spansAround_0 4 rfl rfl)
theorem dX2_spansAround_5 : decode cX2_spansAround 5 = .ok (.getfield 12, 3) := dk_180 0 12 (dk_at dksX2_spansAround_0 5 rfl rfl)
theorem dX2_spansAround_8 : decode cX2_spansAround 8 = .ok (.invokeinterface 63 1, 5) := by decide +kernel
theorem dX2_spansAround_13 : decode cX2_spansAround 13 = .ok (.astore 4, 2) := dk_58 4 (dk_at dksX2_spansAround_0 13 rfl rfl)
theorem dX2_spansAround_15 : decode cX2_spansAround 15 = .ok (.aload 4, 2) := dk_25 4 (dk_at dksX2_spansAround_0 15 rfl rfl)
theorem dX2_spansAround_17 : decode cX2_spansAround 17 = .ok (.invokeinterface 67 1, 5) := by decide +kernel
theorem dX2_spansAround_22 : decode cX2_spansAround 22 = .ok (.ifCond .eq 53, 3) := dk_153 0 53 (dk_at dksX2_spansAround_1 0 rfl rfl)
theorem dX2_spansAround_25 : decode cX2_spansAround 25 = .ok (.aload 4, 2) := dk_25 4 (dk_at dksX2_spansAround_1 3 rfl rfl)
theorem dX2_spansAround_27 : decode cX2_spansAround 27 = .ok (.invokeinterface 72 1, 5) := by decide +kernel
theorem dX2_spansAround_32 : decode cX2_spansAround 32 = .ok (.checkcast 44, 3) := dk_192 0 44 (dk_at dksX2_spansAround_1 10 rfl rfl)
theorem dX2_spansAround_35 : decode cX2_spansAround 35 = .ok (.astore 5, 2) := dk_58 5 (dk_at dksX2_spansAround_1 13 rfl rfl)
theorem dX2_spansAround_37 : decode cX2_spansAround 37 = .ok (.aload 5, 2) := dk_25 5 (dk_at dksX2_spansAround_1 15 rfl rfl)
theorem dX2_spansAround_39 : decode cX2_spansAround 39 = .ok (.getfield 76, 3) := dk_180 0 76 (dk_at dksX2_spansAround_1 17 rfl rfl)
theorem dX2_spansAround_42 : decode cX2_spansAround 42 = .ok (.iload_n 2, 1) := dk_28 (dk_at dksX2_spansAround_1 20 rfl rfl)
theorem dX2_spansAround_43 : decode cX2_spansAround 43 = .ok (.isub, 1) := dk_100 (dk_at dksX2_spansAround_1 21 rfl rfl)
theorem dX2_spansAround_44 : decode cX2_spansAround 44 = .ok (.iload_n 1, 1) := dk_27 (dk_at dksX2_spansAround_1 22 rfl rfl)
theorem dX2_spansAround_45 : decode cX2_spansAround 45 = .ok (.if_icmp .gt 27, 3) := dk_163 0 27 (dk_at dksX2_spansAround_2 0 rfl rfl)
theorem dX2_spansAround_48 : decode cX2_spansAround 48 = .ok (.iload_n 1, 1) := dk_27 (dk_at dksX2_spansAround_2 3 rfl rfl)
theorem dX2_spansAround_49 : decode cX2_spansAround 49 = .ok (.aload 5, 2) := dk_25 5 (dk_at dksX2_spansAround_2 4 rfl rfl)
theorem dX2_spansAround_51 : decode cX2_spansAround 51 = .ok (.getfield 46, 3) := dk_180 0 46 (dk_at dksX2_spansAround_2 6 rfl rfl)
theorem dX2_spansAround_54 : decode cX2_spansAround 54 = .ok (.iload_n 2, 1) := dk_28 (dk_at dksX2_spansAround_2 9 rfl rfl)
theorem dX2_spansAround_55 : decode cX2_spansAround 55 = .ok (.iadd, 1) := dk_96 (dk_at dksX2_spansAround_2 10 rfl rfl)
theorem dX2_spansAround_56 : decode cX2_spansAround 56 = .ok (.if_icmp .ge 16, 3) := dk_162 0 16 (dk_at dksX2_spansAround_2 11 rfl rfl)
theorem dX2_spansAround_59 : decode cX2_spansAround 59 = .ok (.aload_n 3, 1) := dk_45 (dk_at dksX2_spansAround_2 14 rfl rfl)
theorem dX2_spansAround_60 : decode cX2_spansAround 60 = .ok (.aload 5, 2) := dk_25 5 (dk_at dksX2_spansAround_2 15 rfl rfl)
theorem dX2_spansAround_62 : decode cX2_spansAround 62 = .ok (.getfield 50, 3) := dk_180 0 50 (dk_at dksX2_spansAround_2 17 rfl rfl)
theorem dX2_spansAround_65 : decode cX2_spansAround 65 = .ok (.getstatic 160, 3) := dk_178 0 160 (dk_at dksX2_spansAround_2 20 rfl rfl)
theorem dX2_spansAround_68 : decode cX2_spansAround 68 = .ok (.invokevirtual 113, 3) := dk_182 0 113 (dk_at dksX2_spansAround_3 0 rfl rfl)
theorem dX2_spansAround_71 : decode cX2_spansAround 71 = .ok (.astore_n 3, 1) := dk_78 (dk_at dksX2_spansAround_3 3 rfl rfl)
theorem dX2_spansAround_72 : decode cX2_spansAround 72 = .ok (.goto (-57), 3) := dk_167 255 199 (dk_at dksX2_spansAround_3 4 rfl rfl)
theorem dX2_spansAround_75 : decode cX2_spansAround 75 = .ok (.aload_n 3, 1) := dk_45 (dk_at dksX2_spansAround_3 7 rfl rfl)
theorem dX2_spansAround_76 : decode cX2_spansAround 76 = .ok (.areturn, 1) := dk_176 (dk_at dksX2_spansAround_3 8 rfl rfl)
abbrev cX2_clipped : ByteArray := prog_17_method_21_code
def yX2_clipped : MethodName := ⟨RX2, "clipped", "()LPolygonBoard$Region;"⟩
def dkwX2_clipped_0 : List UInt8 := [42, 3, 3, 16, 24, 16, 24, 184, 0, 163, 178, 0, 177, 182, 0, 170, 176]
abbrev dktX2_clipped_0 : List UInt8 := dkwX2_clipped_0 ++ []
theorem dksX2_clipped_0 : cX2_clipped.data.toList.drop 0 = dktX2_clipped_0 := by decide +kernel
theorem dX2_clipped_0 : decode cX2_clipped 0 = .ok (.aload_n 0, 1) := dk_42 (dk_at dksX2_clipped_0 0 rfl rfl)
theorem dX2_clipped_1 : decode cX2_clipped 1 = .ok (.iconst 0, 1) := dk_3 (dk_at dksX2_clipped_0 1 rfl rfl)
theorem dX2_clipped_2 : decode cX2_clipped 2 = .ok (.iconst 0, 1) := dk_3 (dk_at dksX2_clipped_0 2 rfl rfl)
theorem dX2_clipped_3 : decode cX2_clipped 3 = .ok (.bipush 24, 2) := dk_16 24 (dk_at dksX2_clipped_0 3 rfl rfl)
theorem dX2_clipped_5 : decode cX2_clipped 5 = .ok (.bipush 24, 2) := dk_16 24 (dk_at dksX2_clipped_0 5 rfl rfl)
theorem dX2_clipped_7 : decode cX2_clipped 7 = .ok (.invokestatic 163, 3) := dk_184 0 163 (dk_at dksX2_clipped_0 7 rfl rfl)
theorem dX2_clipped_10 : decode cX2_clipped 10 = .ok (.getstatic 177, 3) := dk_178 0 177 (dk_at dksX2_clipped_0 10 rfl rfl)
theorem dX2_clipped_13 : decode cX2_clipped 13 = .ok (.invokevirtual 170, 3) := dk_182 0 170 (dk_at dksX2_clipped_0 13 rfl rfl)
theorem dX2_clipped_16 : decode cX2_clipped 16 = .ok (.areturn, 1) := dk_176 (dk_at dksX2_clipped_0 16 rfl rfl)
abbrev cX2_shrunk : ByteArray := prog_17_method_20_code
def yX2_shrunk : MethodName := ⟨RX2, "shrunk", "(I)LPolygonBoard$Region;"⟩
def dkwX2_shrunk_1 : List UInt8 := [44, 42, 178, 0, 167, 182, 0, 170, 78, 42, 45, 27, 182, 0, 173, 178, 0, 167, 182, 0, 170, 176]
abbrev dktX2_shrunk_1 : List UInt8 := dkwX2_shrunk_1 ++ []
def dkwX2_shrunk_0 : List UInt8 := [27, 116, 4, 100, 27, 116, 4, 100, 16, 24, 27, 96, 4, 96, 16, 24, 27, 96, 4, 96, 184, 0, 163, 77]
abbrev dktX2_shrunk_0 : List UInt8 := dkwX2_shrunk_0 ++ dktX2_shrunk_1
theorem dksX2_shrunk_0 : cX2_shrunk.data.toList.drop 0 = dktX2_shrunk_0 := by decide +kernel
theorem dksX2_shrunk_1 : cX2_shrunk.data.toList.drop 24 = dktX2_shrunk_1 := dk_seg dksX2_shrunk_0 24 rfl rfl
theorem dX2_shrunk_0 : decode cX2_shrunk 0 = .ok (.iload_n 1, 1) := dk_27 (dk_at dksX2_shrunk_0 0 rfl rfl)
theorem dX2_shrunk_1 : decode cX2_shrunk 1 = .ok (.ineg, 1) := dk_116 (dk_at dksX2_shrunk_0 1 rfl rfl)
theorem dX2_shrunk_2 : decode cX2_shrunk 2 = .ok (.iconst 1, 1) := dk_4 (dk_at dksX2_shrunk_0 2 rfl rfl)
theorem dX2_shrunk_3 : decode cX2_shrunk 3 = .ok (.isub, 1) := dk_100 (dk_at dksX2_shrunk_0 3 rfl rfl)
theorem dX2_shrunk_4 : decode cX2_shrunk 4 = .ok (.iload_n 1, 1) := dk_27 (dk_at dksX2_shrunk_0 4 rfl rfl)
theorem dX2_shrunk_5 : decode cX2_shrunk 5 = .ok (.ineg, 1) := dk_116 (dk_at dksX2_shrunk_0 5 rfl rfl)
theorem dX2_shrunk_6 : decode cX2_shrunk 6 = .ok (.iconst 1, 1) := dk_4 (dk_at dksX2_shrunk_0 6 rfl rfl)
theorem dX2_shrunk_7 : decode cX2_shrunk 7 = .ok (.isub, 1) := dk_100 (dk_at dksX2_shrunk_0 7 rfl rfl)
theorem dX2_shrunk_8 : decode cX2_shrunk 8 = .ok (.bipush 24, 2) := dk_16 24 (dk_at dksX2_shrunk_0 8 rfl rfl)
theorem dX2_shrunk_10 : decode cX2_shrunk 10 = .ok (.iload_n 1, 1) := dk_27 (dk_at dksX2_shrunk_0 10 rfl rfl)
theorem dX2_shrunk_11 : decode cX2_shrunk 11 = .ok (.iadd, 1) := dk_96 (dk_at dksX2_shrunk_0 11 rfl rfl)
theorem dX2_shrunk_12 : decode cX2_shrunk 12 = .ok (.iconst 1, 1) := dk_4 (dk_at dksX2_shrunk_0 12 rfl rfl)
theorem dX2_shrunk_13 : decode cX2_shrunk 13 = .ok (.iadd, 1) := dk_96 (dk_at dksX2_shrunk_0 13 rfl rfl)
theorem dX2_shrunk_14 : decode cX2_shrunk 14 = .ok (.bipush 24, 2) := dk_16 24 (dk_at dksX2_shrunk_0 14 rfl rfl)
theorem dX2_shrunk_16 : decode cX2_shrunk 16 = .ok (.iload_n 1, 1) := dk_27 (dk_at dksX2_shrunk_0 16 rfl rfl)
theorem dX2_shrunk_17 : decode cX2_shrunk 17 = .ok (.iadd, 1) := dk_96 (dk_at dksX2_shrunk_0 17 rfl rfl)
theorem dX2_shrunk_18 : decode cX2_shrunk 18 = .ok (.iconst 1, 1) := dk_4 (dk_at dksX2_shrunk_0 18 rfl rfl)
theorem dX2_shrunk_19 : decode cX2_shrunk 19 = .ok (.iadd, 1) := dk_96 (dk_at dksX2_shrunk_0 19 rfl rfl)
theorem dX2_shrunk_20 : decode cX2_shrunk 20 = .ok (.invokestatic 163, 3) := dk_184 0 163 (dk_at dksX2_shrunk_0 20 rfl rfl)
theorem dX2_shrunk_23 : decode cX2_shrunk 23 = .ok (.astore_n 2, 1) := dk_77 (dk_at dksX2_shrunk_0 23 rfl rfl)
theorem dX2_shrunk_24 : decode cX2_shrunk 24 = .ok (.aload_n 2, 1) := dk_44 (dk_at dksX2_shrunk_1 0 rfl rfl)
theorem dX2_shrunk_25 : decode cX2_shrunk 25 = .ok (.aload_n 0, 1) := dk_42 (dk_at dksX2_shrunk_1 1 rfl rfl)
theorem dX2_shrunk_26 : decode cX2_shrunk 26 = .ok (.getstatic 167, 3) := dk_178 0 167 (dk_at dksX2_shrunk_1 2 rfl rfl)
theorem dX2_shrunk_29 : decode cX2_shrunk 29 = .ok (.invokevirtual 170, 3) := dk_182 0 170 (dk_at dksX2_shrunk_1 5 rfl rfl)
theorem dX2_shrunk_32 : decode cX2_shrunk 32 = .ok (.astore_n 3, 1) := dk_78 (dk_at dksX2_shrunk_1 8 rfl rfl)
theorem dX2_shrunk_33 : decode cX2_shrunk 33 = .ok (.aload_n 0, 1) := dk_42 (dk_at dksX2_shrunk_1 9 rfl rfl)
theorem dX2_shrunk_34 : decode cX2_shrunk 34 = .ok (.aload_n 3, 1) := dk_45 (dk_at dksX2_shrunk_1 10 rfl rfl)
theorem dX2_shrunk_35 : decode cX2_shrunk 35 = .ok (.iload_n 1, 1) := dk_27 (dk_at dksX2_shrunk_1 11 rfl rfl)
theorem dX2_shrunk_36 : decode cX2_shrunk 36 = .ok (.invokevirtual 173, 3) := dk_182 0 173 (dk_at dksX2_shrunk_1 12 rfl rfl)
theorem dX2_shrunk_39 : decode cX2_shrunk 39 = .ok (.getstatic 167, 3) := dk_178 0 167 (dk_at dksX2_shrunk_1 15 rfl rfl)
theorem dX2_shrunk_42 : decode cX2_shrunk 42 = .ok (.invokevirtual 170, 3) := dk_182 0 170 (dk_at dksX2_shrunk_1 18 rfl rfl)
theorem dX2_shrunk_45 : decode cX2_shrunk 45 = .ok (.areturn, 1) := dk_176 (dk_at dksX2_shrunk_1 21 rfl rfl)
abbrev cX2_moved : ByteArray := prog_17_method_22_code
def yX2_moved : MethodName := ⟨RX2, "moved", "(II)LPolygonBoard$Region;"⟩
def dkwX2_moved_3 : List UInt8 := [167, 255, 207, 45, 182, 0, 183, 176]
abbrev dktX2_moved_3 : List UInt8 := dkwX2_moved_3 ++ []
def dkwX2_moved_2 : List UInt8 := [180, 0, 76, 28, 96, 25, 5, 180, 0, 46, 28, 96, 25, 5, 180, 0, 50, 27, 182, 0, 180, 182, 0, 26]
abbrev dktX2_moved_2 : List UInt8 := dkwX2_moved_2 ++ dktX2_moved_3
def dkwX2_moved_1 : List UInt8 := [185, 0, 67, 1, 0, 153, 0, 45, 25, 4, 185, 0, 72, 1, 0, 192, 0, 44, 58, 5, 45, 25, 5]
abbrev dktX2_moved_1 : List UInt8 := dkwX2_moved_1 ++ dktX2_moved_2
def dkwX2_moved_0 : List UInt8 := [187, 0, 13, 89, 183, 0, 18, 78, 42, 180, 0, 12, 185, 0, 63, 1, 0, 58, 4, 25, 4]
abbrev dktX2_moved_0 : List UInt8 := dkwX2_moved_0 ++ dktX2_moved_1
theorem dksX2_moved_0 : cX2_moved.data.toList.drop 0 = dktX2_moved_0 := by decide +kernel
theorem dksX2_moved_1 : cX2_moved.data.toList.drop 21 = dktX2_moved_1 := dk_seg dksX2_moved_0 21 rfl rfl
theorem dksX2_moved_2 : cX2_moved.data.toList.drop 44 = dktX2_moved_2 := dk_seg dksX2_moved_1 23 rfl rfl
theorem dksX2_moved_3 : cX2_moved.data.toList.drop 68 = dktX2_moved_3 := dk_seg dksX2_moved_2 24 rfl rfl
theorem dX2_moved_0 : decode cX2_moved 0 = .ok (.new 13, 3) := dk_187 0 13 (dk_at dksX2_moved_0 0 rfl rfl)
theorem dX2_moved_3 : decode cX2_moved 3 = .ok (.dup, 1) := dk_89 (dk_at dksX2_moved_0 3 rfl rfl)
theorem dX2_moved_4 : decode cX2_moved 4 = .ok (.invokespecial 18, 3) := dk_183 0 18 (dk_at dksX2_moved_0 4 rfl rfl)
theorem dX2_moved_7 : decode cX2_moved 7 = .ok (.astore_n 3, 1) := dk_78 (dk_at dksX2_moved_0 7 rfl rfl)
theorem dX2_moved_8 : decode cX2_moved 8 = .ok (.aload_n 0, 1) := dk_42 (dk_at dksX2_moved_0 8 rfl rfl)
theorem dX2_moved_9 : decode cX2_moved 9 = .ok (.getfield 12, 3) := dk_180 0 12 (dk_at dksX2_moved_0 9 rfl rfl)
theorem dX2_moved_12 : decode cX2_moved 12 = .ok (.invokeinterface 63 1, 5) := by decide +kernel
theorem dX2_moved_17 : decode cX2_moved 17 = .ok (.astore 4, 2) := dk_58 4 (dk_at dksX2_moved_0 17 rfl rfl)
theorem dX2_moved_19 : decode cX2_moved 19 = .ok (.aload 4, 2) := dk_25 4 (dk_at dksX2_moved_0 19 rfl rfl)
theorem dX2_moved_21 : decode cX2_moved 21 = .ok (.invokeinterface 67 1, 5) := by decide +kernel
theorem dX2_moved_26 : decode cX2_moved 26 = .ok (.ifCond .eq 45, 3) := dk_153 0 45 (dk_at dksX2_moved_1 5 rfl rfl)
theorem dX2_moved_29 : decode cX2_moved 29 = .ok (.aload 4, 2) := dk_25 4 (dk_at dksX2_moved_1 8 rfl rfl)
theorem dX2_moved_31 : decode cX2_moved 31 = .ok (.invokeinterface 72 1, 5) := by decide +kernel
theorem dX2_moved_36 : decode cX2_moved 36 = .ok (.checkcast 44, 3) := dk_192 0 44 (dk_at dksX2_moved_1 15 rfl rfl)
theorem dX2_moved_39 : decode cX2_moved 39 = .ok (.astore 5, 2) := dk_58 5 (dk_at dksX2_moved_1 18 rfl rfl)
theorem dX2_moved_41 : decode cX2_moved 41 = .ok (.aload_n 3, 1) := dk_45 (dk_at dksX2_moved_1 20 rfl rfl)
theorem dX2_moved_42 : decode cX2_moved 42 = .ok (.aload 5, 2) := dk_25 5 (dk_at dksX2_moved_1 21 rfl rfl)
theorem dX2_moved_44 : decode cX2_moved 44 = .ok (.getfield 76, 3) := dk_180 0 76 (dk_at dksX2_moved_2 0 rfl rfl)
theorem dX2_moved_47 : decode cX2_moved 47 = .ok (.iload_n 2, 1) := dk_28 (dk_at dksX2_moved_2 3 rfl rfl)
theorem dX2_moved_48 : decode cX2_moved 48 = .ok (.iadd, 1) := dk_96 (dk_at dksX2_moved_2 4 rfl rfl)
theorem dX2_moved_49 : decode cX2_moved 49 = .ok (.aload 5, 2) := dk_25 5 (dk_at dksX2_moved_2 5 rfl rfl)
theorem dX2_moved_51 : decode cX2_moved 51 = .ok (.getfield 46, 3) := dk_180 0 46 (dk_at dksX2_moved_2 7 rfl rfl)
theorem dX2_moved_54 : decode cX2_moved 54 = .ok (.iload_n 2, 1) := dk_28 (dk_at dksX2_moved_2 10 rfl rfl)
theorem dX2_moved_55 : decode cX2_moved 55 = .ok (.iadd, 1) := dk_96 (dk_at dksX2_moved_2 11 rfl rfl)
theorem dX2_moved_56 : decode cX2_moved 56 = .ok (.aload 5, 2) := dk_25 5 (dk_at dksX2_moved_2 12 rfl rfl)
theorem dX2_moved_58 : decode cX2_moved 58 = .ok (.getfield 50, 3) := dk_180 0 50 (dk_at dksX2_moved_2 14 rfl rfl)
theorem dX2_moved_61 : decode cX2_moved 61 = .ok (.iload_n 1, 1) := dk_27 (dk_at dksX2_moved_2 17 rfl rfl)
theorem dX2_moved_62 : decode cX2_moved 62 = .ok (.invokevirtual 180, 3) := dk_182 0 180 (dk_at dksX2_moved_2 18 rfl rfl)
theorem dX2_moved_65 : decode cX2_moved 65 = .ok (.invokevirtual 26, 3) := dk_182 0 26 (dk_at dksX2_moved_2 21 rfl rfl)
theorem dX2_moved_68 : decode cX2_moved 68 = .ok (.goto (-49), 3) := dk_167 255 207 (dk_at dksX2_moved_3 0 rfl rfl)
theorem dX2_moved_71 : decode cX2_moved 71 = .ok (.aload_n 3, 1) := dk_45 (dk_at dksX2_moved_3 3 rfl rfl)
theorem dX2_moved_72 : decode cX2_moved 72 = .ok (.invokevirtual 183, 3) := dk_182 0 183 (dk_at dksX2_moved_3 4 rfl rfl)
theorem dX2_moved_75 : decode cX2_moved 75 = .ok (.areturn, 1) := dk_176 (dk_at dksX2_moved_3 7 rfl rfl)
abbrev cX2_turned : ByteArray := prog_17_method_24_code
def yX2_turned : MethodName := ⟨RX2, "turned", "()LPolygonBoard$Region;"⟩
def dkwX2_turned_4 : List UInt8 := [167, 255, 200, 43, 28, 28, 4, 96, 45, 182, 0, 26, 132, 2, 1, 167, 255, 158, 43, 176]
abbrev dktX2_turned_4 : List UInt8 := dkwX2_turned_4 ++ []
def dkwX2_turned_3 : List UInt8 := [16, 24, 25, 5, 180, 0, 46, 100, 16, 24, 25, 5, 180, 0, 76, 100, 182, 0, 22, 132, 4, 255]
abbrev dktX2_turned_3 : List UInt8 := dkwX2_turned_3 ++ dktX2_turned_4
def dkwX2_turned_2 : List UInt8 := [185, 0, 40, 2, 0, 192, 0, 44, 58, 5, 25, 5, 180, 0, 50, 28, 182, 0, 90, 153, 0, 23, 45]
abbrev dktX2_turned_2 : List UInt8 := dkwX2_turned_2 ++ dktX2_turned_3
def dkwX2_turned_1 : List UInt8 := [42, 180, 0, 12, 185, 0, 39, 1, 0, 4, 100, 54, 4, 21, 4, 155, 0, 57, 42, 180, 0, 12, 21, 4]
abbrev dktX2_turned_1 : List UInt8 := dkwX2_turned_1 ++ dktX2_turned_2
def dkwX2_turned_0 : List UInt8 := [187, 0, 13, 89, 183, 0, 18, 76, 3, 61, 28, 16, 24, 162, 0, 98, 187, 0, 19, 89, 183, 0, 21, 78]
abbrev dktX2_turned_0 : List UInt8 := dkwX2_turned_0 ++ dktX2_turned_1
theorem dksX2_turned_0 : cX2_turned.data.toList.drop 0 = dktX2_turned_0 := by decide +kernel
theorem dksX2_turned_1 : cX2_turned.data.toList.drop 24 = dktX2_turned_1 := dk_seg dksX2_turned_0 24 rfl rfl
theorem dksX2_turned_2 : cX2_turned.data.toList.drop 48 = dktX2_turned_2 := dk_seg dksX2_turned_1 24 rfl rfl
theorem dksX2_turned_3 : cX2_turned.data.toList.drop 71 = dktX2_turned_3 := dk_seg dksX2_turned_2 23 rfl rfl
theorem dksX2_turned_4 : cX2_turned.data.toList.drop 93 = dktX2_turned_4 := dk_seg dksX2_turned_3 22 rfl rfl
theorem dX2_turned_0 : decode cX2_turned 0 = .ok (.new 13, 3) := dk_187 0 13 (dk_at dksX2_turned_0 0 rfl rfl)
theorem dX2_turned_3 : decode cX2_turned 3 = .ok (.dup, 1) := dk_89 (dk_at dksX2_turned_0 3 rfl rfl)
theorem dX2_turned_4 : decode cX2_turned 4 = .ok (.invokespecial 18, 3) := dk_183 0 18 (dk_at dksX2_turned_0 4 rfl rfl)
theorem dX2_turned_7 : decode cX2_turned 7 = .ok (.astore_n 1, 1) := dk_76 (dk_at dksX2_turned_0 7 rfl rfl)
theorem dX2_turned_8 : decode cX2_turned 8 = .ok (.iconst 0, 1) := dk_3 (dk_at dksX2_turned_0 8 rfl rfl)
theorem dX2_turned_9 : decode cX2_turned 9 = .ok (.istore_n 2, 1) := dk_61 (dk_at dksX2_turned_0 9 rfl rfl)
theorem dX2_turned_10 : decode cX2_turned 10 = .ok (.iload_n 2, 1) := dk_28 (dk_at dksX2_turned_0 10 rfl rfl)
theorem dX2_turned_11 : decode cX2_turned 11 = .ok (.bipush 24, 2) := dk_16 24 (dk_at dksX2_turned_0 11 rfl rfl)
theorem dX2_turned_13 : decode cX2_turned 13 = .ok (.if_icmp .ge 98, 3) := dk_162 0 98 (dk_at dksX2_turned_0 13 rfl rfl)
theorem dX2_turned_16 : decode cX2_turned 16 = .ok (.new 19, 3) := dk_187 0 19 (dk_at dksX2_turned_0 16 rfl rfl)
theorem dX2_turned_19 : decode cX2_turned 19 = .ok (.dup, 1) := dk_89 (dk_at dksX2_turned_0 19 rfl rfl)
theorem dX2_turned_20 : decode cX2_turned 20 = .ok (.invokespecial 21, 3) := dk_183 0 21 (dk_at dksX2_turned_0 20 rfl rfl)
theorem dX2_turned_23 : decode cX2_turned 23 = .ok (.astore_n 3, 1) := dk_78 (dk_at dksX2_turned_0 23 rfl rfl)
theorem dX2_turned_24 : decode cX2_turned 24 = .ok (.aload_n 0, 1) := dk_42 (dk_at dksX2_turned_1 0 rfl rfl)
theorem dX2_turned_25 : decode cX2_turned 25 = .ok (.getfield 12, 3) := dk_180 0 12 (dk_at dksX2_turned_1 1 rfl rfl)
theorem dX2_turned_28 : decode cX2_turned 28 = .ok (.invokeinterface 39 1, 5) := by decide +kernel
theorem dX2_turned_33 : decode cX2_turned 33 = .ok (.iconst 1, 1) := dk_4 (dk_at dksX2_turned_1 9 rfl rfl)
theorem dX2_turned_34 : decode cX2_turned 34 = .ok (.isub, 1) := dk_100 (dk_at dksX2_turned_1 10 rfl rfl)
theorem dX2_turned_35 : decode cX2_turned 35 = .ok (.istore 4, 2) := dk_54 4 (dk_at dksX2_turned_1 11 rfl rfl)
theorem dX2_turned_37 : decode cX2_turned 37 = .ok (.iload 4, 2) := dk_21 4 (dk_at dksX2_turned_1 13 rfl rfl)
theorem dX2_turned_39 : decode cX2_turned 39 = .ok (.ifCond .lt 57, 3) := dk_155 0 57 (dk_at dksX2_turned_1 15 rfl rfl)
theorem dX2_turned_42 : decode cX2_turned 42 = .ok (.aload_n 0, 1) := dk_42 (dk_at dksX2_turned_1 18 rfl rfl)
theorem dX2_turned_43 : decode cX2_turned 43 = .ok (.getfield 12, 3) := dk_180 0 12 (dk_at dksX2_turned_1 19 rfl rfl)
theorem dX2_turned_46 : decode cX2_turned 46 = .ok (.iload 4, 2) := dk_21 4 (dk_at dksX2_turned_1 22 rfl rfl)
theorem dX2_turned_48 : decode cX2_turned 48 = .ok (.invokeinterface 40 2, 5) := by decide +kernel
theorem dX2_turned_53 : decode cX2_turned 53 = .ok (.checkcast 44, 3) := dk_192 0 44 (dk_at dksX2_turned_2 5 rfl rfl)
theorem dX2_turned_56 : decode cX2_turned 56 = .ok (.astore 5, 2) := dk_58 5 (dk_at dksX2_turned_2 8 rfl rfl)
theorem dX2_turned_58 : decode cX2_turned 58 = .ok (.aload 5, 2) := dk_25 5 (dk_at dksX2_turned_2 10 rfl rfl)
theorem dX2_turned_60 : decode cX2_turned 60 = .ok (.getfield 50, 3) := dk_180 0 50 (dk_at dksX2_turned_2 12 rfl rfl)
theorem dX2_turned_63 : decode cX2_turned 63 = .ok (.iload_n 2, 1) := dk_28 (dk_at dksX2_turned_2 15 rfl rfl)
theorem dX2_turned_64 : decode cX2_turned 64 = .ok (.invokevirtual 90, 3) := dk_182 0 90 (dk_at dksX2_turned_2 16 rfl rfl)
theorem dX2_turned_67 : decode cX2_turned 67 = .ok (.ifCond .eq 23, 3) := dk_153 0 23 (dk_at dksX2_turned_2 19 rfl rfl)
theorem dX2_turned_70 : decode cX2_turned 70 = .ok (.aload_n 3, 1) := dk_45 (dk_at dksX2_turned_2 22 rfl rfl)
theorem dX2_turned_71 : decode cX2_turned 71 = .ok (.bipush 24, 2) := dk_16 24 (dk_at dksX2_turned_3 0 rfl rfl)
theorem dX2_turned_73 : decode cX2_turned 73 = .ok (.aload 5, 2) := dk_25 5 (dk_at dksX2_turned_3 2 rfl rfl)
theorem dX2_turned_75 : decode cX2_turned 75 = .ok (.getfield 46, 3) := dk_180 0 46 (dk_at dksX2_turned_3 4 rfl rfl)
theorem dX2_turned_78 : decode cX2_turned 78 = .ok (.isub, 1) := dk_100 (dk_at dksX2_turned_3 7 rfl rfl)
theorem dX2_turned_79 : decode cX2_turned 79 = .ok (.bipush 24, 2) := dk_16 24 (dk_at dksX2_turned_3 8 rfl rfl)
theorem dX2_turned_81 : decode cX2_turned 81 = .ok (.aload 5, 2) := dk_25 5 (dk_at dksX2_turned_3 10 rfl rfl)
theorem dX2_turned_83 : decode cX2_turned 83 = .ok (.getfield 76, 3) := dk_180 0 76 (dk_at dksX2_turned_3 12 rfl rfl)
theorem dX2_turned_86 : decode cX2_turned 86 = .ok (.isub, 1) := dk_100 (dk_at dksX2_turned_3 15 rfl rfl)
theorem dX2_turned_87 : decode cX2_turned 87 = .ok (.invokevirtual 22, 3) := dk_182 0 22 (dk_at dksX2_turned_3 16 rfl rfl)
theorem dX2_turned_90 : decode cX2_turned 90 = .ok (.iinc 4 (-1), 3) := dk_132 4 255 (dk_at dksX2_turned_3 19 rfl rfl)
theorem dX2_turned_93 : decode cX2_turned 93 = .ok (.goto (-56), 3) := dk_167 255 200 (dk_at dksX2_turned_4 0 rfl rfl)
theorem dX2_turned_96 : decode cX2_turned 96 = .ok (.aload_n 1, 1) := dk_43 (dk_at dksX2_turned_4 3 rfl rfl)
theorem dX2_turned_97 : decode cX2_turned 97 = .ok (.iload_n 2, 1) := dk_28 (dk_at dksX2_turned_4 4 rfl rfl)
theorem dX2_turned_98 : decode cX2_turned 98 = .ok (.iload_n 2, 1) := dk_28 (dk_at dksX2_turned_4 5 rfl rfl)
theorem dX2_turned_99 : decode cX2_turned 99 = .ok (.iconst 1, 1) := dk_4 (dk_at dksX2_turned_4 6 rfl rfl)
theorem dX2_turned_100 : decode cX2_turned 100 = .ok (.iadd, 1) := dk_96 (dk_at dksX2_turned_4 7 rfl rfl)
theorem dX2_turned_101 : decode cX2_turned 101 = .ok (.aload_n 3, 1) := dk_45 (dk_at dksX2_turned_4 8 rfl rfl)
theorem dX2_turned_102 : decode cX2_turned 102 = .ok (.invokevirtual 26, 3) := dk_182 0 26 (dk_at dksX2_turned_4 9 rfl rfl)
theorem dX2_turned_105 : decode cX2_turned 105 = .ok (.iinc 2 1, 3) := dk_132 2 1 (dk_at dksX2_turned_4 12 rfl rfl)
theorem dX2_turned_108 : decode cX2_turned 108 = .ok (.goto (-98), 3) := dk_167 255 158 (dk_at dksX2_turned_4 15 rfl rfl)
theorem dX2_turned_111 : decode cX2_turned 111 = .ok (.aload_n 1, 1) := dk_43 (dk_at dksX2_turned_4 18 rfl rfl)
theorem dX2_turned_112 : decode cX2_turned 112 = .ok (.areturn, 1) := dk_176 (dk_at dksX2_turned_4 19 rfl rfl)
abbrev cX2_mirrored : ByteArray := prog_17_method_23_code
def yX2_mirrored : MethodName := ⟨RX2, "mirrored", "()LPolygonBoard$Region;"⟩
def dkwX2_mirrored_2 : List UInt8 := [180, 0, 50, 182, 0, 187, 182, 0, 26, 167, 255, 218, 43, 176]
abbrev dktX2_mirrored_2 : List UInt8 := dkwX2_mirrored_2 ++ []
def dkwX2_mirrored_1 : List UInt8 := [153, 0, 35, 44, 185, 0, 72, 1, 0, 192, 0, 44, 78, 43, 45, 180, 0, 76, 45, 180, 0, 46, 45]
abbrev dktX2_mirrored_1 : List UInt8 := dkwX2_mirrored_1 ++ dktX2_mirrored_2
def dkwX2_mirrored_0 : List UInt8 := [187, 0, 13, 89, 183, 0, 18, 76, 42, 180, 0, 12, 185, 0, 63, 1, 0, 77, 44, 185, 0, 67, 1, 0]
abbrev dktX2_mirrored_0 : List UInt8 := dkwX2_mirrored_0 ++ dktX2_mirrored_1
theorem dksX2_mirrored_0 : cX2_mirrored.data.toList.drop 0 = dktX2_mirrored_0 := by decide +kernel
theorem dksX2_mirrored_1 : cX2_mirrored.data.toList.drop 24 = dktX2_mirrored_1 := dk_seg dksX2_mirrored_0 24 rfl rfl
theorem dksX2_mirrored_2 : cX2_mirrored.data.toList.drop 47 = dktX2_mirrored_2 := dk_seg dksX2_mirrored_1 23 rfl rfl
theorem dX2_mirrored_0 : decode cX2_mirrored 0 = .ok (.new 13, 3) := dk_187 0 13 (dk_at dksX2_mirrored_0 0 rfl rfl)
theorem dX2_mirrored_3 : decode cX2_mirrored 3 = .ok (.dup, 1) := dk_89 (dk_at dksX2_mirrored_0 3 rfl rfl)
theorem dX2_mirrored_4 : decode cX2_mirrored 4 = .ok (.invokespecial 18, 3) := dk_183 0 18 (dk_at dksX2_mirrored_0 4 rfl rfl)
theorem dX2_mirrored_7 : decode cX2_mirrored 7 = .ok (.astore_n 1, 1) := dk_76 (dk_at dksX2_mirrored_0 7 rfl rfl)
theorem dX2_mirrored_8 : decode cX2_mirrored 8 = .ok (.aload_n 0, 1) := dk_42 (dk_at dksX2_mirrored_0 8 rfl rfl)
theorem dX2_mirrored_9 : decode cX2_mirrored 9 = .ok (.getfield 12, 3) := dk_180 0 12 (dk_at dksX2_mirrored_0 9 rfl rfl)
theorem dX2_mirrored_12 : decode cX2_mirrored 12 = .ok (.invokeinterface 63 1, 5) := by decide +kernel
theorem dX2_mirrored_17 : decode cX2_mirrored 17 = .ok (.astore_n 2, 1) := dk_77 (dk_at dksX2_mirrored_0 17 rfl rfl)
theorem dX2_mirrored_18 : decode cX2_mirrored 18 = .ok (.aload_n 2, 1) := dk_44 (dk_at dksX2_mirrored_0 18 rfl rfl)
theorem dX2_mirrored_19 : decode cX2_mirrored 19 = .ok (.invokeinterface 67 1, 5) := by decide +kernel
theorem dX2_mirrored_24 : decode cX2_mirrored 24 = .ok (.ifCond .eq 35, 3) := dk_153 0 35 (dk_at dksX2_mirrored_1 0 rfl rfl)
theorem dX2_mirrored_27 : decode cX2_mirrored 27 = .ok (.aload_n 2, 1) := dk_44 (dk_at dksX2_mirrored_1 3 rfl rfl)
theorem dX2_mirrored_28 : decode cX2_mirrored 28 = .ok (.invokeinterface 72 1, 5) := by decide +kernel
theorem dX2_mirrored_33 : decode cX2_mirrored 33 = .ok (.checkcast 44, 3) := dk_192 0 44 (dk_at dksX2_mirrored_1 9 rfl rfl)
theorem dX2_mirrored_36 : decode cX2_mirrored 36 = .ok (.astore_n 3, 1) := dk_78 (dk_at dksX2_mirrored_1 12 rfl rfl)
theorem dX2_mirrored_37 : decode cX2_mirrored 37 = .ok (.aload_n 1, 1) := dk_43 (dk_at dksX2_mirrored_1 13 rfl rfl)
theorem dX2_mirrored_38 : decode cX2_mirrored 38 = .ok (.aload_n 3, 1) := dk_45 (dk_at dksX2_mirrored_1 14 rfl rfl)
theorem dX2_mirrored_39 : decode cX2_mirrored 39 = .ok (.getfield 76, 3) := dk_180 0 76 (dk_at dksX2_mirrored_1 15 rfl rfl)
theorem dX2_mirrored_42 : decode cX2_mirrored 42 = .ok (.aload_n 3, 1) := dk_45 (dk_at dksX2_mirrored_1 18 rfl rfl)
theorem dX2_mirrored_43 : decode cX2_mirrored 43 = .ok (.getfield 46, 3) := dk_180 0 46 (dk_at dksX2_mirrored_1 19 rfl rfl)
theorem dX2_mirrored_46 : decode cX2_mirrored 46 = .ok (.aload_n 3, 1) := dk_45 (dk_at dksX2_mirrored_1 22 rfl rfl)
theorem dX2_mirrored_47 : decode cX2_mirrored 47 = .ok (.getfield 50, 3) := dk_180 0 50 (dk_at dksX2_mirrored_2 0 rfl rfl)
theorem dX2_mirrored_50 : decode cX2_mirrored 50 = .ok (.invokevirtual 187, 3) := dk_182 0 187 (dk_at dksX2_mirrored_2 3 rfl rfl)
theorem dX2_mirrored_53 : decode cX2_mirrored 53 = .ok (.invokevirtual 26, 3) := dk_182 0 26 (dk_at dksX2_mirrored_2 6 rfl rfl)
theorem dX2_mirrored_56 : decode cX2_mirrored 56 = .ok (.goto (-38), 3) := dk_167 255 218 (dk_at dksX2_mirrored_2 9 rfl rfl)
theorem dX2_mirrored_59 : decode cX2_mirrored 59 = .ok (.aload_n 1, 1) := dk_43 (dk_at dksX2_mirrored_2 12 rfl rfl)
theorem dX2_mirrored_60 : decode cX2_mirrored 60 = .ok (.areturn, 1) := dk_176 (dk_at dksX2_mirrored_2 13 rfl rfl)
abbrev cX2_contains : ByteArray := prog_17_method_6_code
def yX2_contains : MethodName := ⟨RX2, "contains", "(II)Z"⟩
def dkwX2_contains_0 : List UInt8 := [42, 28, 182, 0, 86, 27, 182, 0, 90, 172]
abbrev dktX2_contains_0 : List UInt8 := dkwX2_contains_0 ++ []
theorem dksX2_contains_0 : cX2_contains.data.toList.drop 0 = dktX2_contains_0 := by decide +kernel
theorem dX2_contains_0 : decode cX2_contains 0 = .ok (.aload_n 0, 1) := dk_42 (dk_at dksX2_contains_0 0 rfl rfl)
theorem dX2_contains_1 : decode cX2_contains 1 = .ok (.iload_n 2, 1) := dk_28 (dk_at dksX2_contains_0 1 rfl rfl)
theorem dX2_contains_2 : decode cX2_contains 2 = .ok (.invokevirtual 86, 3) := dk_182 0 86 (dk_at dksX2_contains_0 2 rfl rfl)
theorem dX2_contains_5 : decode cX2_contains 5 = .ok (.iload_n 1, 1) := dk_27 (dk_at dksX2_contains_0 5 rfl rfl)
theorem dX2_contains_6 : decode cX2_contains 6 = .ok (.invokevirtual 90, 3) := dk_182 0 90 (dk_at dksX2_contains_0 6 rfl rfl)
theorem dX2_contains_9 : decode cX2_contains 9 = .ok (.ireturn, 1) := dk_172 (dk_at dksX2_contains_0 9 rfl rfl)
abbrev cX2_perimeter : ByteArray := prog_17_method_17_code
def yX2_perimeter : MethodName := ⟨RX2, "perimeter", "()I"⟩
def dkwX2_perimeter_4 : List UInt8 := [96, 60, 167, 255, 172, 27, 172]
abbrev dktX2_perimeter_4 : List UInt8 := dkwX2_perimeter_4 ++ []
def dkwX2_perimeter_3 : List UInt8 := [45, 180, 0, 46, 182, 0, 86, 182, 0, 29, 154, 0, 13, 45, 180, 0, 50, 182, 0, 139, 167, 0, 4, 3]
abbrev dktX2_perimeter_3 : List UInt8 := dkwX2_perimeter_3 ++ dktX2_perimeter_4
def dkwX2_perimeter_2 : List UInt8 := [96, 60, 27, 45, 180, 0, 50, 42, 45, 180, 0, 76, 4, 100, 182, 0, 86, 184, 0, 145, 96, 60, 27, 42]
abbrev dktX2_perimeter_2 : List UInt8 := dkwX2_perimeter_2 ++ dktX2_perimeter_3
def dkwX2_perimeter_1 : List UInt8 := [185, 0, 72, 1, 0, 192, 0, 44, 78, 27, 5, 45, 182, 0, 142, 104, 45, 180, 0, 50, 182, 0, 29, 104]
abbrev dktX2_perimeter_1 : List UInt8 := dkwX2_perimeter_1 ++ dktX2_perimeter_2
def dkwX2_perimeter_0 : List UInt8 := [3, 60, 42, 180, 0, 12, 185, 0, 63, 1, 0, 77, 44, 185, 0, 67, 1, 0, 153, 0, 81, 44]
abbrev dktX2_perimeter_0 : List UInt8 := dkwX2_perimeter_0 ++ dktX2_perimeter_1
theorem dksX2_perimeter_0 : cX2_perimeter.data.toList.drop 0 = dktX2_perimeter_0 := by decide +kernel
theorem dksX2_perimeter_1 : cX2_perimeter.data.toList.drop 22 = dktX2_perimeter_1 := dk_seg dksX2_perimeter_0 22 rfl rfl
theorem dksX2_perimeter_2 : cX2_perimeter.data.toList.drop 46 = dktX2_perimeter_2 := dk_seg dksX2_perimeter_1 24 rfl rfl
theorem dksX2_perimeter_3 : cX2_perimeter.data.toList.drop 70 = dktX2_perimeter_3 := dk_seg dksX2_perimeter_2 24 rfl rfl
theorem dksX2_perimeter_4 : cX2_perimeter.data.toList.drop 94 = dktX2_perimeter_4 := dk_seg dksX2_perimeter_3 24 rfl rfl
theorem dX2_perimeter_0 : decode cX2_perimeter 0 = .ok (.iconst 0, 1) := dk_3 (dk_at dksX2_perimeter_0 0 rfl rfl)
theorem dX2_perimeter_1 : decode cX2_perimeter 1 = .ok (.istore_n 1, 1) := dk_60 (dk_at dksX2_perimeter_0 1 rfl rfl)
theorem dX2_perimeter_2 : decode cX2_perimeter 2 = .ok (.aload_n 0, 1) := dk_42 (dk_at dksX2_perimeter_0 2 rfl rfl)
theorem dX2_perimeter_3 : decode cX2_perimeter 3 = .ok (.getfield 12, 3) := dk_180 0 12 (dk_at dksX2_perimeter_0 3 rfl rfl)
theorem dX2_perimeter_6 : decode cX2_perimeter 6 = .ok (.invokeinterface 63 1, 5) := by decide +kernel
theorem dX2_perimeter_11 : decode cX2_perimeter 11 = .ok (.astore_n 2, 1) := dk_77 (dk_at dksX2_perimeter_0 11 rfl rfl)
theorem dX2_perimeter_12 : decode cX2_perimeter 12 = .ok (.aload_n 2, 1) := dk_44 (dk_at dksX2_perimeter_0 12 rfl rfl)
theorem dX2_perimeter_13 : decode cX2_perimeter 13 = .ok (.invokeinterface 67 1, 5) := by decide +kernel
theorem dX2_perimeter_18 : decode cX2_perimeter 18 = .ok (.ifCond .eq 81, 3) := dk_153 0 81 (dk_at dksX2_perimeter_0 18 rfl rfl)
theorem dX2_perimeter_21 : decode cX2_perimeter 21 = .ok (.aload_n 2, 1) := dk_44 (dk_at dksX2_perimeter_0 21 rfl rfl)
theorem dX2_perimeter_22 : decode cX2_perimeter 22 = .ok (.invokeinterface 72 1, 5) := by decide +kernel
theorem dX2_perimeter_27 : decode cX2_perimeter 27 = .ok (.checkcast 44, 3) := dk_192 0 44 (dk_at dksX2_perimeter_1 5 rfl rfl)
theorem dX2_perimeter_30 : decode cX2_perimeter 30 = .ok (.astore_n 3, 1) := dk_78 (dk_at dksX2_perimeter_1 8 rfl rfl)
theorem dX2_perimeter_31 : decode cX2_perimeter 31 = .ok (.iload_n 1, 1) := dk_27 (dk_at dksX2_perimeter_1 9 rfl rfl)
theorem dX2_perimeter_32 : decode cX2_perimeter 32 = .ok (.iconst 2, 1) := dk_5 (dk_at dksX2_perimeter_1 10 rfl rfl)
theorem dX2_perimeter_33 : decode cX2_perimeter 33 = .ok (.aload_n 3, 1) := dk_45 (dk_at dksX2_perimeter_1 11 rfl rfl)
theorem dX2_perimeter_34 : decode cX2_perimeter 34 = .ok (.invokevirtual 142, 3) := dk_182 0 142 (dk_at dksX2_perimeter_1 12 rfl rfl)
theorem dX2_perimeter_37 : decode cX2_perimeter 37 = .ok (.imul, 1) := dk_104 (dk_at dksX2_perimeter_1 15 rfl rfl)
theorem dX2_perimeter_38 : decode cX2_perimeter 38 = .ok (.aload_n 3, 1) := dk_45 (dk_at dksX2_perimeter_1 16 rfl rfl)
theorem dX2_perimeter_39 : decode cX2_perimeter 39 = .ok (.getfield 50, 3) := dk_180 0 50 (dk_at dksX2_perimeter_1 17 rfl rfl)
theorem dX2_perimeter_42 : decode cX2_perimeter 42 = .ok (.invokevirtual 29, 3) := dk_182 0 29 (dk_at dksX2_perimeter_1 20 rfl rfl)
theorem dX2_perimeter_45 : decode cX2_perimeter 45 = .ok (.imul, 1) := dk_104 (dk_at dksX2_perimeter_1 23 rfl rfl)
theorem dX2_perimeter_46 : decode cX2_perimeter 46 = .ok (.iadd, 1) := dk_96 (dk_at dksX2_perimeter_2 0 rfl rfl)
theorem dX2_perimeter_47 : decode cX2_perimeter 47 = .ok (.istore_n 1, 1) := dk_60 (dk_at dksX2_perimeter_2 1 rfl rfl)
theorem dX2_perimeter_48 : decode cX2_perimeter 48 = .ok (.iload_n 1, 1) := dk_27 (dk_at dksX2_perimeter_2 2 rfl rfl)
theorem dX2_perimeter_49 : decode cX2_perimeter 49 = .ok (.aload_n 3, 1) := dk_45 (dk_at dksX2_perimeter_2 3 rfl rfl)
theorem dX2_perimeter_50 : decode cX2_perimeter 50 = .ok (.getfield 50, 3) := dk_180 0 50 (dk_at dksX2_perimeter_2 4 rfl rfl)
theorem dX2_perimeter_53 : decode cX2_perimeter 53 = .ok (.aload_n 0, 1) := dk_42 (dk_at dksX2_perimeter_2 7 rfl rfl)
theorem dX2_perimeter_54 : decode cX2_perimeter 54 = .ok (.aload_n 3, 1) := dk_45 (dk_at dksX2_perimeter_2 8 rfl rfl)
theorem dX2_perimeter_55 : decode cX2_perimeter 55 = .ok (.getfield 76, 3) := dk_180 0 76 (dk_at dksX2_perimeter_2 9 rfl rfl)
theorem dX2_perimeter_58 : decode cX2_perimeter 58 = .ok (.iconst 1, 1) := dk_4 (dk_at dksX2_perimeter_2 12 rfl rfl)
theorem dX2_perimeter_59 : decode cX2_perimeter 59 = .ok (.isub, 1) := dk_100 (dk_at dksX2_perimeter_2 13 rfl rfl)
theorem dX2_perimeter_60 : decode cX2_perimeter 60 = .ok (.invokevirtual 86, 3) := dk_182 0 86 (dk_at dksX2_perimeter_2 14 rfl rfl)
theorem dX2_perimeter_63 : decode cX2_perimeter 63 = .ok (.invokestatic 145, 3) := dk_184 0 145 (dk_at dksX2_perimeter_2 17 rfl rfl)
theorem dX2_perimeter_66 : decode cX2_perimeter 66 = .ok (.iadd, 1) := dk_96 (dk_at dksX2_perimeter_2 20 rfl rfl)
theorem dX2_perimeter_67 : decode cX2_perimeter 67 = .ok (.istore_n 1, 1) := dk_60 (dk_at dksX2_perimeter_2 21 rfl rfl)
theorem dX2_perimeter_68 : decode cX2_perimeter 68 = .ok (.iload_n 1, 1) := dk_27 (dk_at dksX2_perimeter_2 22 rfl rfl)
theorem dX2_perimeter_69 : decode cX2_perimeter 69 = .ok (.aload_n 0, 1) := dk_42 (dk_at dksX2_perimeter_2 23 rfl rfl)
theorem dX2_perimeter_70 : decode cX2_perimeter 70 = .ok (.aload_n 3, 1) := dk_45 (dk_at dksX2_perimeter_3 0 rfl rfl)
theorem dX2_perimeter_71 : decode cX2_perimeter 71 = .ok (.getfield 46, 3) := dk_180 0 46 (dk_at dksX2_perimeter_3 1 rfl rfl)
theorem dX2_perimeter_74 : decode cX2_perimeter 74 = .ok (.invokevirtual 86, 3) := dk_182 0 86 (dk_at dksX2_perimeter_3 4 rfl rfl)
theorem dX2_perimeter_77 : decode cX2_perimeter 77 = .ok (.invokevirtual 29, 3) := dk_182 0 29 (dk_at dksX2_perimeter_3 7 rfl rfl)
theorem dX2_perimeter_80 : decode cX2_perimeter 80 = .ok (.ifCond .ne 13, 3) := dk_154 0 13 (dk_at dksX2_perimeter_3 10 rfl rfl)
theorem dX2_perimeter_83 : decode cX2_perimeter 83 = .ok (.aload_n 3, 1) := dk_45 (dk_at dksX2_perimeter_3 13 rfl rfl)
theorem dX2_perimeter_84 : decode cX2_perimeter 84 = .ok (.getfield 50, 3) := dk_180 0 50 (dk_at dksX2_perimeter_3 14 rfl rfl)
theorem dX2_perimeter_87 : decode cX2_perimeter 87 = .ok (.invokevirtual 139, 3) := dk_182 0 139 (dk_at dksX2_perimeter_3 17 rfl rfl)
theorem dX2_perimeter_90 : decode cX2_perimeter 90 = .ok (.goto 4, 3) := dk_167 0 4 (dk_at dksX2_perimeter_3 20 rfl rfl)
theorem dX2_perimeter_93 : decode cX2_perimeter 93 = .ok (.iconst 0, 1) := dk_3 (dk_at dksX2_perimeter_3 23 rfl rfl)
theorem dX2_perimeter_94 : decode cX2_perimeter 94 = .ok (.iadd, 1) := dk_96 (dk_at dksX2_perimeter_4 0 rfl rfl)
theorem dX2_perimeter_95 : decode cX2_perimeter 95 = .ok (.istore_n 1, 1) := dk_60 (dk_at dksX2_perimeter_4 1 rfl rfl)
theorem dX2_perimeter_96 : decode cX2_perimeter 96 = .ok (.goto (-84), 3) := dk_167 255 172 (dk_at dksX2_perimeter_4 2 rfl rfl)
theorem dX2_perimeter_99 : decode cX2_perimeter 99 = .ok (.iload_n 1, 1) := dk_27 (dk_at dksX2_perimeter_4 5 rfl rfl)
theorem dX2_perimeter_100 : decode cX2_perimeter 100 = .ok (.ireturn, 1) := dk_172 (dk_at dksX2_perimeter_4 6 rfl rfl)
abbrev cX2_differenceOf : ByteArray := prog_17_method_16_code
def yX2_differenceOf : MethodName := ⟨RX2, "differenceOf", "(LPolygonBoard$Spans;LPolygonBoard$Spans;)I"⟩
def dkwX2_differenceOf_0 : List UInt8 := [42, 43, 178, 0, 133, 182, 0, 113, 182, 0, 139, 172]
abbrev dktX2_differenceOf_0 : List UInt8 := dkwX2_differenceOf_0 ++ []
theorem dksX2_differenceOf_0 : cX2_differenceOf.data.toList.drop 0 = dktX2_differenceOf_0 := by decide +kernel
theorem dX2_differenceOf_0 : decode cX2_differenceOf 0 = .ok (.aload_n 0, 1) := dk_42 (dk_at dksX2_differenceOf_0 0 rfl rfl)
theorem dX2_differenceOf_1 : decode cX2_differenceOf 1 = .ok (.aload_n 1, 1) := dk_43 (dk_at dksX2_differenceOf_0 1 rfl rfl)
theorem dX2_differenceOf_2 : decode cX2_differenceOf 2 = .ok (.getstatic 133, 3) := dk_178 0 133 (dk_at dksX2_differenceOf_0 2 rfl rfl)
theorem dX2_differenceOf_5 : decode cX2_differenceOf 5 = .ok (.invokevirtual 113, 3) := dk_182 0 113 (dk_at dksX2_differenceOf_0 5 rfl rfl)
theorem dX2_differenceOf_8 : decode cX2_differenceOf 8 = .ok (.invokevirtual 139, 3) := dk_182 0 139 (dk_at dksX2_differenceOf_0 8 rfl rfl)
theorem dX2_differenceOf_11 : decode cX2_differenceOf 11 = .ok (.ireturn, 1) := dk_172 (dk_at dksX2_differenceOf_0 11 rfl rfl)
abbrev cX2_left : ByteArray := prog_17_method_12_code
def yX2_left : MethodName := ⟨RX2, "left", "()I"⟩
def dkwX2_left_2 : List UInt8 := [167, 255, 224, 27, 172]
abbrev dktX2_left_2 : List UInt8 := dkwX2_left_2 ++ []
def dkwX2_left_1 : List UInt8 := [185, 0, 72, 1, 0, 192, 0, 44, 78, 27, 45, 180, 0, 50, 3, 182, 0, 127, 184, 0, 104, 60]
abbrev dktX2_left_1 : List UInt8 := dkwX2_left_1 ++ dktX2_left_2
def dkwX2_left_0 : List UInt8 := [16, 24, 60, 42, 180, 0, 12, 185, 0, 63, 1, 0, 77, 44, 185, 0, 67, 1, 0, 153, 0, 29, 44]
abbrev dktX2_left_0 : List UInt8 := dkwX2_left_0 ++ dktX2_left_1
theorem dksX2_left_0 : cX2_left.data.toList.drop 0 = dktX2_left_0 := by decide +kernel
theorem dksX2_left_1 : cX2_left.data.toList.drop 23 = dktX2_left_1 := dk_seg dksX2_left_0 23 rfl rfl
theorem dksX2_left_2 : cX2_left.data.toList.drop 45 = dktX2_left_2 := dk_seg dksX2_left_1 22 rfl rfl
theorem dX2_left_0 : decode cX2_left 0 = .ok (.bipush 24, 2) := dk_16 24 (dk_at dksX2_left_0 0 rfl rfl)
theorem dX2_left_2 : decode cX2_left 2 = .ok (.istore_n 1, 1) := dk_60 (dk_at dksX2_left_0 2 rfl rfl)
theorem dX2_left_3 : decode cX2_left 3 = .ok (.aload_n 0, 1) := dk_42 (dk_at dksX2_left_0 3 rfl rfl)
theorem dX2_left_4 : decode cX2_left 4 = .ok (.getfield 12, 3) := dk_180 0 12 (dk_at dksX2_left_0 4 rfl rfl)
theorem dX2_left_7 : decode cX2_left 7 = .ok (.invokeinterface 63 1, 5) := by decide +kernel
theorem dX2_left_12 : decode cX2_left 12 = .ok (.astore_n 2, 1) := dk_77 (dk_at dksX2_left_0 12 rfl rfl)
theorem dX2_left_13 : decode cX2_left 13 = .ok (.aload_n 2, 1) := dk_44 (dk_at dksX2_left_0 13 rfl rfl)
theorem dX2_left_14 : decode cX2_left 14 = .ok (.invokeinterface 67 1, 5) := by decide +kernel
theorem dX2_left_19 : decode cX2_left 19 = .ok (.ifCond .eq 29, 3) := dk_153 0 29 (dk_at dksX2_left_0 19 rfl rfl)
theorem dX2_left_22 : decode cX2_left 22 = .ok (.aload_n 2, 1) := dk_44 (dk_at dksX2_left_0 22 rfl rfl)
theorem dX2_left_23 : decode cX2_left 23 = .ok (.invokeinterface 72 1, 5) := by decide +kernel
theorem dX2_left_28 : decode cX2_left 28 = .ok (.checkcast 44, 3) := dk_192 0 44 (dk_at dksX2_left_1 5 rfl rfl)
theorem dX2_left_31 : decode cX2_left 31 = .ok (.astore_n 3, 1) := dk_78 (dk_at dksX2_left_1 8 rfl rfl)
theorem dX2_left_32 : decode cX2_left 32 = .ok (.iload_n 1, 1) := dk_27 (dk_at dksX2_left_1 9 rfl rfl)
theorem dX2_left_33 : decode cX2_left 33 = .ok (.aload_n 3, 1) := dk_45 (dk_at dksX2_left_1 10 rfl rfl)
theorem dX2_left_34 : decode cX2_left 34 = .ok (.getfield 50, 3) := dk_180 0 50 (dk_at dksX2_left_1 11 rfl rfl)
theorem dX2_left_37 : decode cX2_left 37 = .ok (.iconst 0, 1) := dk_3 (dk_at dksX2_left_1 14 rfl rfl)
theorem dX2_left_38 : decode cX2_left 38 = .ok (.invokevirtual 127, 3) := dk_182 0 127 (dk_at dksX2_left_1 15 rfl rfl)
theorem dX2_left_41 : decode cX2_left 41 = .ok (.invokestatic 104, 3) := dk_184 0 104 (dk_at dksX2_left_1 18 rfl rfl)
theorem dX2_left_44 : decode cX2_left 44 = .ok (.istore_n 1, 1) := dk_60 (dk_at dksX2_left_1 21 rfl rfl)
theorem dX2_left_45 : decode cX2_left 45 = .ok (.goto (-32), 3) := dk_167 255 224 (dk_at dksX2_left_2 0 rfl rfl)
theorem dX2_left_48 : decode cX2_left 48 = .ok (.iload_n 1, 1) := dk_27 (dk_at dksX2_left_2 3 rfl rfl)
theorem dX2_left_49 : decode cX2_left 49 = .ok (.ireturn, 1) := dk_172 (dk_at dksX2_left_2 4 rfl rfl)
abbrev cX2_right : ByteArray := prog_17_method_13_code
def yX2_right : MethodName := ⟨RX2, "right", "()I"⟩
def dkwX2_right_2 : List UInt8 := [182, 0, 130, 184, 0, 98, 60, 167, 255, 216, 27, 172]
abbrev dktX2_right_2 : List UInt8 := dkwX2_right_2 ++ []
def dkwX2_right_1 : List UInt8 := [185, 0, 72, 1, 0, 192, 0, 44, 78, 27, 45, 180, 0, 50, 45, 180, 0, 50, 182, 0, 29, 4, 100]
abbrev dktX2_right_1 : List UInt8 := dkwX2_right_1 ++ dktX2_right_2
def dkwX2_right_0 : List UInt8 := [3, 60, 42, 180, 0, 12, 185, 0, 63, 1, 0, 77, 44, 185, 0, 67, 1, 0, 153, 0, 37, 44]
abbrev dktX2_right_0 : List UInt8 := dkwX2_right_0 ++ dktX2_right_1
theorem dksX2_right_0 : cX2_right.data.toList.drop 0 = dktX2_right_0 := by decide +kernel
theorem dksX2_right_1 : cX2_right.data.toList.drop 22 = dktX2_right_1 := dk_seg dksX2_right_0 22 rfl rfl
theorem dksX2_right_2 : cX2_right.data.toList.drop 45 = dktX2_right_2 := dk_seg dksX2_right_1 23 rfl rfl
theorem dX2_right_0 : decode cX2_right 0 = .ok (.iconst 0, 1) := dk_3 (dk_at dksX2_right_0 0 rfl rfl)
theorem dX2_right_1 : decode cX2_right 1 = .ok (.istore_n 1, 1) := dk_60 (dk_at dksX2_right_0 1 rfl rfl)
theorem dX2_right_2 : decode cX2_right 2 = .ok (.aload_n 0, 1) := dk_42 (dk_at dksX2_right_0 2 rfl rfl)
theorem dX2_right_3 : decode cX2_right 3 = .ok (.getfield 12, 3) := dk_180 0 12 (dk_at dksX2_right_0 3 rfl rfl)
theorem dX2_right_6 : decode cX2_right 6 = .ok (.invokeinterface 63 1, 5) := by decide +kernel
theorem dX2_right_11 : decode cX2_right 11 = .ok (.astore_n 2, 1) := dk_77 (dk_at dksX2_right_0 11 rfl rfl)
theorem dX2_right_12 : decode cX2_right 12 = .ok (.aload_n 2, 1) := dk_44 (dk_at dksX2_right_0 12 rfl rfl)
theorem dX2_right_13 : decode cX2_right 13 = .ok (.invokeinterface 67 1, 5) := by decide +kernel
theorem dX2_right_18 : decode cX2_right 18 = .ok (.ifCond .eq 37, 3) := dk_153 0 37 (dk_at dksX2_right_0 18 rfl rfl)
theorem dX2_right_21 : decode cX2_right 21 = .ok (.aload_n 2, 1) := dk_44 (dk_at dksX2_right_0 21 rfl rfl)
theorem dX2_right_22 : decode cX2_right 22 = .ok (.invokeinterface 72 1, 5) := by decide +kernel
theorem dX2_right_27 : decode cX2_right 27 = .ok (.checkcast 44, 3) := dk_192 0 44 (dk_at dksX2_right_1 5 rfl rfl)
theorem dX2_right_30 : decode cX2_right 30 = .ok (.astore_n 3, 1) := dk_78 (dk_at dksX2_right_1 8 rfl rfl)
theorem dX2_right_31 : decode cX2_right 31 = .ok (.iload_n 1, 1) := dk_27 (dk_at dksX2_right_1 9 rfl rfl)
theorem dX2_right_32 : decode cX2_right 32 = .ok (.aload_n 3, 1) := dk_45 (dk_at dksX2_right_1 10 rfl rfl)
theorem dX2_right_33 : decode cX2_right 33 = .ok (.getfield 50, 3) := dk_180 0 50 (dk_at dksX2_right_1 11 rfl rfl)
theorem dX2_right_36 : decode cX2_right 36 = .ok (.aload_n 3, 1) := dk_45 (dk_at dksX2_right_1 14 rfl rfl)
theorem dX2_right_37 : decode cX2_right 37 = .ok (.getfield 50, 3) := dk_180 0 50 (dk_at dksX2_right_1 15 rfl rfl)
theorem dX2_right_40 : decode cX2_right 40 = .ok (.invokevirtual 29, 3) := dk_182 0 29 (dk_at dksX2_right_1 18 rfl rfl)
theorem dX2_right_43 : decode cX2_right 43 = .ok (.iconst 1, 1) := dk_4 (dk_at dksX2_right_1 21 rfl rfl)
theorem dX2_right_44 : decode cX2_right 44 = .ok (.isub, 1) := dk_100 (dk_at dksX2_right_1 22 rfl rfl)
theorem dX2_right_45 : decode cX2_right 45 = .ok (.invokevirtual 130, 3) := dk_182 0 130 (dk_at dksX2_right_2 0 rfl rfl)
theorem dX2_right_48 : decode cX2_right 48 = .ok (.invokestatic 98, 3) := dk_184 0 98 (dk_at dksX2_right_2 3 rfl rfl)
theorem dX2_right_51 : decode cX2_right 51 = .ok (.istore_n 1, 1) := dk_60 (dk_at dksX2_right_2 6 rfl rfl)
theorem dX2_right_52 : decode cX2_right 52 = .ok (.goto (-40), 3) := dk_167 255 216 (dk_at dksX2_right_2 7 rfl rfl)
theorem dX2_right_55 : decode cX2_right 55 = .ok (.iload_n 1, 1) := dk_27 (dk_at dksX2_right_2 10 rfl rfl)
theorem dX2_right_56 : decode cX2_right 56 = .ok (.ireturn, 1) := dk_172 (dk_at dksX2_right_2 11 rfl rfl)
abbrev cX2_bottom : ByteArray := prog_17_method_14_code
def yX2_bottom : MethodName := ⟨RX2, "bottom", "()I"⟩
def dkwX2_bottom_0 : List UInt8 := [42, 180, 0, 12, 3, 185, 0, 40, 2, 0, 192, 0, 44, 180, 0, 76, 172]
abbrev dktX2_bottom_0 : List UInt8 := dkwX2_bottom_0 ++ []
theorem dksX2_bottom_0 : cX2_bottom.data.toList.drop 0 = dktX2_bottom_0 := by decide +kernel
theorem dX2_bottom_0 : decode cX2_bottom 0 = .ok (.aload_n 0, 1) := dk_42 (dk_at dksX2_bottom_0 0 rfl rfl)
theorem dX2_bottom_1 : decode cX2_bottom 1 = .ok (.getfield 12, 3) := dk_180 0 12 (dk_at dksX2_bottom_0 1 rfl rfl)
theorem dX2_bottom_4 : decode cX2_bottom 4 = .ok (.iconst 0, 1) := dk_3 (dk_at dksX2_bottom_0 4 rfl rfl)
theorem dX2_bottom_5 : decode cX2_bottom 5 = .ok (.invokeinterface 40 2, 5) := by decide +kernel
theorem dX2_bottom_10 : decode cX2_bottom 10 = .ok (.checkcast 44, 3) := dk_192 0 44 (dk_at dksX2_bottom_0 10 rfl rfl)
theorem dX2_bottom_13 : decode cX2_bottom 13 = .ok (.getfield 76, 3) := dk_180 0 76 (dk_at dksX2_bottom_0 13 rfl rfl)
theorem dX2_bottom_16 : decode cX2_bottom 16 = .ok (.ireturn, 1) := dk_172 (dk_at dksX2_bottom_0 16 rfl rfl)
theorem q55 : (Jvm.Cond.initialized "PolygonBoard$Region") ∈ lw_all := lw_g (lw_at lw_m1 5 rfl) rfl
theorem q131 : (Jvm.Cond.instantiable "PolygonBoard$Region" (1 : Nat)) ∈ lw_all := lw_g (lw_at lw_m1 81 rfl) rfl
theorem q133 : (Jvm.Cond.instanceMethod ({ cls := "PolygonBoard$Region", name := "<init>", desc := "()V" } : Jvm.MethodName)) ∈ lw_all := lw_g (lw_at lw_m1 83 rfl) rfl
theorem q134 : (Jvm.Cond.code ({ cls := "PolygonBoard$Region", name := "<init>", desc := "()V" } : Jvm.MethodName) prog_17_method_1_code (1 : Nat) (Option.none : Option Jvm.ClassFile.FieldType)) ∈ lw_all := lw_g (lw_at lw_m1 84 rfl) rfl
theorem q135 : (Jvm.Cond.methodLink "PolygonBoard$Region" (3 : Nat) ({ cls := "java/lang/Object", name := "<init>", desc := "()V" } : Jvm.MethodName)) ∈ lw_all := lw_g (lw_at lw_m1 85 rfl) rfl
theorem q136 : (Jvm.Cond.classLink "PolygonBoard$Region" (9 : Nat) "java/util/ArrayList") ∈ lw_all := lw_g (lw_at lw_m1 86 rfl) rfl
theorem q137 : (Jvm.Cond.methodLink "PolygonBoard$Region" (11 : Nat) ({ cls := "java/util/ArrayList", name := "<init>", desc := "()V" } : Jvm.MethodName)) ∈ lw_all := lw_g (lw_at lw_m1 87 rfl) rfl
theorem q139 : (Jvm.Cond.fieldLink "PolygonBoard$Region" (12 : Nat) "PolygonBoard$Region" "bands" "Ljava/util/List;") ∈ lw_all := lw_g (lw_at lw_m1 89 rfl) rfl
theorem q142 : (Jvm.Cond.laysFinal "PolygonBoard$Region" "PolygonBoard$Region" "bands" "Ljava/util/List;") ∈ lw_all := lw_g (lw_at lw_m1 92 rfl) rfl
theorem q143 : (Jvm.Cond.soleField "PolygonBoard$Region" "bands") ∈ lw_all := lw_g (lw_at lw_m1 93 rfl) rfl
theorem q144 : (Jvm.Cond.superclass "PolygonBoard$Region" "java/lang/Object") ∈ lw_all := lw_g (lw_at lw_m1 94 rfl) rfl
theorem q198 : (Jvm.Cond.selects "PolygonBoard$Region" ({ cls := "java/lang/Object", name := "getClass", desc := "()Ljava/lang/Class;" } : Jvm.MethodName) ({ cls := "java/lang/Object", name := "getClass", desc := "()Ljava/lang/Class;" } : Jvm.MethodName)) ∈ lw_all := lw_g (lw_at lw_m1 148 rfl) rfl
theorem q400 : (Jvm.Cond.static ({ cls := "PolygonBoard$Region", name := "rectangle", desc := "(IIII)LPolygonBoard$Region;" } : Jvm.MethodName)) ∈ lw_all := lw_g (lw_at lw_m2 110 rfl) rfl
theorem q401 : (Jvm.Cond.code ({ cls := "PolygonBoard$Region", name := "rectangle", desc := "(IIII)LPolygonBoard$Region;" } : Jvm.MethodName) prog_17_method_2_code (6 : Nat) (Option.some (Jvm.ClassFile.FieldType.object "PolygonBoard$Region"))) ∈ lw_all := lw_g (lw_at lw_m2 111 rfl) rfl
theorem q402 : (Jvm.Cond.classLink "PolygonBoard$Region" (13 : Nat) "PolygonBoard$Region") ∈ lw_all := lw_g (lw_at lw_m2 112 rfl) rfl
theorem q403 : (Jvm.Cond.methodLink "PolygonBoard$Region" (18 : Nat) ({ cls := "PolygonBoard$Region", name := "<init>", desc := "()V" } : Jvm.MethodName)) ∈ lw_all := lw_g (lw_at lw_m2 113 rfl) rfl
theorem q404 : (Jvm.Cond.classLink "PolygonBoard$Region" (19 : Nat) "PolygonBoard$Spans") ∈ lw_all := lw_g (lw_at lw_m2 114 rfl) rfl
theorem q406 : (Jvm.Cond.methodLinkNest "PolygonBoard$Region" (21 : Nat) ({ cls := "PolygonBoard$Spans", name := "<init>", desc := "()V" } : Jvm.MethodName) "PolygonBoard") ∈ lw_tbl := lw_at lw_m2 116 rfl
theorem q418 : (Jvm.Cond.methodLink "PolygonBoard$Region" (22 : Nat) ({ cls := "PolygonBoard$Spans", name := "add", desc := "(II)V" } : Jvm.MethodName)) ∈ lw_all := lw_g (lw_at lw_m2 128 rfl) rfl
theorem q423 : (Jvm.Cond.methodLink "PolygonBoard$Region" (26 : Nat) ({ cls := "PolygonBoard$Region", name := "add", desc := "(IILPolygonBoard$Spans;)V" } : Jvm.MethodName)) ∈ lw_all := lw_g (lw_at lw_m2 133 rfl) rfl
theorem q424 : (Jvm.Cond.instanceMethod ({ cls := "PolygonBoard$Region", name := "add", desc := "(IILPolygonBoard$Spans;)V" } : Jvm.MethodName)) ∈ lw_all := lw_g (lw_at lw_m2 134 rfl) rfl
theorem q425 : (Jvm.Cond.selects "PolygonBoard$Region" ({ cls := "PolygonBoard$Region", name := "add", desc := "(IILPolygonBoard$Spans;)V" } : Jvm.MethodName) ({ cls := "PolygonBoard$Region", name := "add", desc := "(IILPolygonBoard$Spans;)V" } : Jvm.MethodName)) ∈ lw_all := lw_g (lw_at lw_m2 135 rfl) rfl
theorem q426 : (Jvm.Cond.code ({ cls := "PolygonBoard$Region", name := "add", desc := "(IILPolygonBoard$Spans;)V" } : Jvm.MethodName) prog_17_method_3_code (5 : Nat) (Option.none : Option Jvm.ClassFile.FieldType)) ∈ lw_all := lw_g (lw_at lw_m2 136 rfl) rfl
theorem q427 : (Jvm.Cond.methodLink "PolygonBoard$Region" (29 : Nat) ({ cls := "PolygonBoard$Spans", name := "size", desc := "()I" } : Jvm.MethodName)) ∈ lw_all := lw_g (lw_at lw_m2 137 rfl) rfl
theorem q431 : (Jvm.Cond.interfaceEntry "PolygonBoard$Region" (33 : Nat)) ∈ lw_tbl := lw_at lw_m2 141 rfl
theorem q432 : (Jvm.Cond.methodLink "PolygonBoard$Region" (33 : Nat) ({ cls := "java/util/List", name := "isEmpty", desc := "()Z" } : Jvm.MethodName)) ∈ lw_all := lw_g (lw_at lw_m2 142 rfl) rfl
theorem q440 : (Jvm.Cond.interfaceEntry "PolygonBoard$Region" (39 : Nat)) ∈ lw_tbl := lw_at lw_m2 150 rfl
theorem q441 : (Jvm.Cond.methodLink "PolygonBoard$Region" (39 : Nat) ({ cls := "java/util/List", name := "size", desc := "()I" } : Jvm.MethodName)) ∈ lw_all := lw_g (lw_at lw_m2 151 rfl) rfl
theorem q449 : (Jvm.Cond.interfaceEntry "PolygonBoard$Region" (40 : Nat)) ∈ lw_tbl := lw_at lw_m2 159 rfl
theorem q450 : (Jvm.Cond.methodLink "PolygonBoard$Region" (40 : Nat) ({ cls := "java/util/List", name := "get", desc := "(I)Ljava/lang/Object;" } : Jvm.MethodName)) ∈ lw_all := lw_g (lw_at lw_m2 160 rfl) rfl
theorem q451 : (Jvm.Cond.classLink "PolygonBoard$Region" (44 : Nat) "PolygonBoard$Band") ∈ lw_all := lw_g (lw_at lw_m2 161 rfl) rfl
theorem q452 : (Jvm.Cond.methodLink "PolygonBoard$Region" (54 : Nat) ({ cls := "PolygonBoard$Spans", name := "isSame", desc := "(LPolygonBoard$Spans;)Z" } : Jvm.MethodName)) ∈ lw_all := lw_g (lw_at lw_m2 162 rfl) rfl
theorem q457 : (Jvm.Cond.methodLink "PolygonBoard$Region" (58 : Nat) ({ cls := "PolygonBoard$Band", name := "<init>", desc := "(IILPolygonBoard$Spans;)V" } : Jvm.MethodName)) ∈ lw_all := lw_g (lw_at lw_m2 167 rfl) rfl
theorem q464 : (Jvm.Cond.fieldLinkNest "PolygonBoard$Region" (76 : Nat) "PolygonBoard$Band" "low" "I" "PolygonBoard") ∈ lw_tbl := lw_at lw_m2 174 rfl
theorem q468 : (Jvm.Cond.fieldLinkNest "PolygonBoard$Region" (50 : Nat) "PolygonBoard$Band" "spans" "LPolygonBoard$Spans;" "PolygonBoard") ∈ lw_tbl := lw_at lw_m2 178 rfl
theorem q471 : (Jvm.Cond.fieldLinkNest "PolygonBoard$Region" (46 : Nat) "PolygonBoard$Band" "high" "I" "PolygonBoard") ∈ lw_tbl := lw_at lw_m2 181 rfl
theorem q479 : (Jvm.Cond.interfaceEntry "PolygonBoard$Region" (60 : Nat)) ∈ lw_tbl := lw_at lw_m2 189 rfl
theorem q480 : (Jvm.Cond.methodLink "PolygonBoard$Region" (60 : Nat) ({ cls := "java/util/List", name := "add", desc := "(Ljava/lang/Object;)Z" } : Jvm.MethodName)) ∈ lw_all := lw_g (lw_at lw_m2 190 rfl) rfl
theorem q488 : (Jvm.Cond.instanceMethod ({ cls := "PolygonBoard$Region", name := "area", desc := "()I" } : Jvm.MethodName)) ∈ lw_all := lw_g (lw_at lw_m2 198 rfl) rfl
theorem q489 : (Jvm.Cond.selects "PolygonBoard$Region" ({ cls := "PolygonBoard$Region", name := "area", desc := "()I" } : Jvm.MethodName) ({ cls := "PolygonBoard$Region", name := "area", desc := "()I" } : Jvm.MethodName)) ∈ lw_all := lw_g (lw_at lw_m2 199 rfl) rfl
theorem q490 : (Jvm.Cond.code ({ cls := "PolygonBoard$Region", name := "area", desc := "()I" } : Jvm.MethodName) prog_17_method_11_code (1 : Nat) (Option.some Jvm.ClassFile.FieldType.int)) ∈ lw_all := lw_g (lw_at lw_m2 200 rfl) rfl
theorem q491 : (Jvm.Cond.classLink "PolygonBoard$Region" (117 : Nat) "PolygonBoard$AreaScan") ∈ lw_all := lw_g (lw_at lw_m2 201 rfl) rfl
theorem q493 : (Jvm.Cond.methodLinkNest "PolygonBoard$Region" (119 : Nat) ({ cls := "PolygonBoard$AreaScan", name := "<init>", desc := "()V" } : Jvm.MethodName) "PolygonBoard") ∈ lw_tbl := lw_at lw_m2 203 rfl
theorem q501 : (Jvm.Cond.fieldLinkNest "PolygonBoard$Region" (124 : Nat) "PolygonBoard$AreaScan" "area" "I" "PolygonBoard") ∈ lw_tbl := lw_at lw_m2 211 rfl
theorem q509 : (Jvm.Cond.methodLink "PolygonBoard$Region" (120 : Nat) ({ cls := "PolygonBoard$AreaScan", name := "scanned", desc := "(LPolygonBoard$Region;)LPolygonBoard$AreaScan;" } : Jvm.MethodName)) ∈ lw_all := lw_g (lw_at lw_m2 219 rfl) rfl
theorem q665 : (Jvm.Cond.instanceMethod ({ cls := "PolygonBoard$Region", name := "combine", desc := "(LPolygonBoard$Region;LPolygonBoard$Operation;)LPolygonBoard$Region;" } : Jvm.MethodName)) ∈ lw_all := lw_g (lw_at lw_m3 135 rfl) rfl
theorem q666 : (Jvm.Cond.selects "PolygonBoard$Region" ({ cls := "PolygonBoard$Region", name := "combine", desc := "(LPolygonBoard$Region;LPolygonBoard$Operation;)LPolygonBoard$Region;" } : Jvm.MethodName) ({ cls := "PolygonBoard$Region", name := "combine", desc := "(LPolygonBoard$Region;LPolygonBoard$Operation;)LPolygonBoard$Region;" } : Jvm.MethodName)) ∈ lw_all := lw_g (lw_at lw_m3 136 rfl) rfl
theorem q667 : (Jvm.Cond.code ({ cls := "PolygonBoard$Region", name := "combine", desc := "(LPolygonBoard$Region;LPolygonBoard$Operation;)LPolygonBoard$Region;" } : Jvm.MethodName) prog_17_method_10_code (6 : Nat) (Option.some (Jvm.ClassFile.FieldType.object "PolygonBoard$Region"))) ∈ lw_all := lw_g (lw_at lw_m3 137 rfl) rfl
theorem q668 : (Jvm.Cond.methodLink "PolygonBoard$Region" (107 : Nat) ({ cls := "PolygonBoard$Region", name := "lowest", desc := "()I" } : Jvm.MethodName)) ∈ lw_all := lw_g (lw_at lw_m3 138 rfl) rfl
theorem q669 : (Jvm.Cond.privateMethod ({ cls := "PolygonBoard$Region", name := "lowest", desc := "()I" } : Jvm.MethodName)) ∈ lw_tbl := lw_at lw_m3 139 rfl
theorem q670 : (Jvm.Cond.instanceMethod ({ cls := "PolygonBoard$Region", name := "lowest", desc := "()I" } : Jvm.MethodName)) ∈ lw_all := lw_g (lw_at lw_m3 140 rfl) rfl
theorem q671 : (Jvm.Cond.code ({ cls := "PolygonBoard$Region", name := "lowest", desc := "()I" } : Jvm.MethodName) prog_17_method_9_code (1 : Nat) (Option.some Jvm.ClassFile.FieldType.int)) ∈ lw_all := lw_g (lw_at lw_m3 141 rfl) rfl
theorem q672 : (Jvm.Cond.methodLink "PolygonBoard$Region" (104 : Nat) ({ cls := "java/lang/Math", name := "min", desc := "(II)I" } : Jvm.MethodName)) ∈ lw_all := lw_g (lw_at lw_m3 142 rfl) rfl
theorem q673 : (Jvm.Cond.methodLink "PolygonBoard$Region" (110 : Nat) ({ cls := "PolygonBoard$Region", name := "nextHeight", desc := "(LPolygonBoard$Region;LPolygonBoard$Region;I)I" } : Jvm.MethodName)) ∈ lw_all := lw_g (lw_at lw_m3 143 rfl) rfl
theorem q674 : (Jvm.Cond.static ({ cls := "PolygonBoard$Region", name := "nextHeight", desc := "(LPolygonBoard$Region;LPolygonBoard$Region;I)I" } : Jvm.MethodName)) ∈ lw_all := lw_g (lw_at lw_m3 144 rfl) rfl
theorem q675 : (Jvm.Cond.code ({ cls := "PolygonBoard$Region", name := "nextHeight", desc := "(LPolygonBoard$Region;LPolygonBoard$Region;I)I" } : Jvm.MethodName) prog_17_method_8_code (5 : Nat) (Option.some Jvm.ClassFile.FieldType.int)) ∈ lw_all := lw_g (lw_at lw_m3 145 rfl) rfl
theorem q676 : (Jvm.Cond.methodLink "PolygonBoard$Region" (94 : Nat) ({ cls := "PolygonBoard$Region", name := "nextHeight", desc := "(I)I" } : Jvm.MethodName)) ∈ lw_all := lw_g (lw_at lw_m3 146 rfl) rfl
theorem q677 : (Jvm.Cond.privateMethod ({ cls := "PolygonBoard$Region", name := "nextHeight", desc := "(I)I" } : Jvm.MethodName)) ∈ lw_tbl := lw_at lw_m3 147 rfl
theorem q678 : (Jvm.Cond.instanceMethod ({ cls := "PolygonBoard$Region", name := "nextHeight", desc := "(I)I" } : Jvm.MethodName)) ∈ lw_all := lw_g (lw_at lw_m3 148 rfl) rfl
theorem q679 : (Jvm.Cond.code ({ cls := "PolygonBoard$Region", name := "nextHeight", desc := "(I)I" } : Jvm.MethodName) prog_17_method_7_code (5 : Nat) (Option.some Jvm.ClassFile.FieldType.int)) ∈ lw_all := lw_g (lw_at lw_m3 149 rfl) rfl
theorem q680 : (Jvm.Cond.interfaceEntry "PolygonBoard$Region" (63 : Nat)) ∈ lw_tbl := lw_at lw_m3 150 rfl
theorem q681 : (Jvm.Cond.methodLink "PolygonBoard$Region" (63 : Nat) ({ cls := "java/util/List", name := "iterator", desc := "()Ljava/util/Iterator;" } : Jvm.MethodName)) ∈ lw_all := lw_g (lw_at lw_m3 151 rfl) rfl
theorem q682 : (Jvm.Cond.interfaceEntry "PolygonBoard$Region" (67 : Nat)) ∈ lw_tbl := lw_at lw_m3 152 rfl
theorem q683 : (Jvm.Cond.methodLink "PolygonBoard$Region" (67 : Nat) ({ cls := "java/util/Iterator", name := "hasNext", desc := "()Z" } : Jvm.MethodName)) ∈ lw_all := lw_g (lw_at lw_m3 153 rfl) rfl
theorem q684 : (Jvm.Cond.interfaceEntry "PolygonBoard$Region" (72 : Nat)) ∈ lw_tbl := lw_at lw_m3 154 rfl
theorem q685 : (Jvm.Cond.methodLink "PolygonBoard$Region" (72 : Nat) ({ cls := "java/util/Iterator", name := "next", desc := "()Ljava/lang/Object;" } : Jvm.MethodName)) ∈ lw_all := lw_g (lw_at lw_m3 155 rfl) rfl
theorem q686 : (Jvm.Cond.methodLink "PolygonBoard$Region" (98 : Nat) ({ cls := "java/lang/Math", name := "max", desc := "(II)I" } : Jvm.MethodName)) ∈ lw_all := lw_g (lw_at lw_m3 156 rfl) rfl
theorem q687 : (Jvm.Cond.methodLink "PolygonBoard$Region" (86 : Nat) ({ cls := "PolygonBoard$Region", name := "spansAt", desc := "(I)LPolygonBoard$Spans;" } : Jvm.MethodName)) ∈ lw_all := lw_g (lw_at lw_m3 157 rfl) rfl
theorem q688 : (Jvm.Cond.instanceMethod ({ cls := "PolygonBoard$Region", name := "spansAt", desc := "(I)LPolygonBoard$Spans;" } : Jvm.MethodName)) ∈ lw_all := lw_g (lw_at lw_m3 158 rfl) rfl
theorem q689 : (Jvm.Cond.selects "PolygonBoard$Region" ({ cls := "PolygonBoard$Region", name := "spansAt", desc := "(I)LPolygonBoard$Spans;" } : Jvm.MethodName) ({ cls := "PolygonBoard$Region", name := "spansAt", desc := "(I)LPolygonBoard$Spans;" } : Jvm.MethodName)) ∈ lw_all := lw_g (lw_at lw_m3 159 rfl) rfl
theorem q690 : (Jvm.Cond.code ({ cls := "PolygonBoard$Region", name := "spansAt", desc := "(I)LPolygonBoard$Spans;" } : Jvm.MethodName) prog_17_method_5_code (4 : Nat) (Option.some (Jvm.ClassFile.FieldType.object "PolygonBoard$Spans"))) ∈ lw_all := lw_g (lw_at lw_m3 160 rfl) rfl
theorem q691 : (Jvm.Cond.methodLinkNest "PolygonBoard$Region" (79 : Nat) ({ cls := "PolygonBoard", name := "isBetween", desc := "(III)Z" } : Jvm.MethodName) "PolygonBoard") ∈ lw_tbl := lw_at lw_m3 161 rfl
theorem q692 : (Jvm.Cond.fieldLink "PolygonBoard$Region" (83 : Nat) "PolygonBoard$Region" "NO_SPANS" "LPolygonBoard$Spans;") ∈ lw_all := lw_g (lw_at lw_m3 162 rfl) rfl
theorem q693 : (Jvm.Cond.laysStatic "PolygonBoard$Region" "NO_SPANS" "LPolygonBoard$Spans;") ∈ lw_tbl := lw_at lw_m3 163 rfl
theorem q694 : (Jvm.Cond.methodLink "PolygonBoard$Region" (113 : Nat) ({ cls := "PolygonBoard$Spans", name := "combine", desc := "(LPolygonBoard$Spans;LPolygonBoard$Operation;)LPolygonBoard$Spans;" } : Jvm.MethodName)) ∈ lw_all := lw_g (lw_at lw_m3 164 rfl) rfl
theorem q873 : (Jvm.Cond.instanceMethod ({ cls := "PolygonBoard$Region", name := "grown", desc := "(I)LPolygonBoard$Region;" } : Jvm.MethodName)) ∈ lw_all := lw_g (lw_at lw_m4 103 rfl) rfl
theorem q874 : (Jvm.Cond.selects "PolygonBoard$Region" ({ cls := "PolygonBoard$Region", name := "grown", desc := "(I)LPolygonBoard$Region;" } : Jvm.MethodName) ({ cls := "PolygonBoard$Region", name := "grown", desc := "(I)LPolygonBoard$Region;" } : Jvm.MethodName)) ∈ lw_all := lw_g (lw_at lw_m4 104 rfl) rfl
theorem q875 : (Jvm.Cond.code ({ cls := "PolygonBoard$Region", name := "grown", desc := "(I)LPolygonBoard$Region;" } : Jvm.MethodName) prog_17_method_18_code (5 : Nat) (Option.some (Jvm.ClassFile.FieldType.object "PolygonBoard$Region"))) ∈ lw_all := lw_g (lw_at lw_m4 105 rfl) rfl
theorem q876 : (Jvm.Cond.methodLink "PolygonBoard$Region" (149 : Nat) ({ cls := "PolygonBoard$Spans", name := "widened", desc := "(I)LPolygonBoard$Spans;" } : Jvm.MethodName)) ∈ lw_all := lw_g (lw_at lw_m4 106 rfl) rfl
theorem q883 : (Jvm.Cond.methodLink "PolygonBoard$Region" (152 : Nat) ({ cls := "PolygonBoard$Region", name := "isEmpty", desc := "()Z" } : Jvm.MethodName)) ∈ lw_all := lw_g (lw_at lw_m4 113 rfl) rfl
theorem q884 : (Jvm.Cond.instanceMethod ({ cls := "PolygonBoard$Region", name := "isEmpty", desc := "()Z" } : Jvm.MethodName)) ∈ lw_all := lw_g (lw_at lw_m4 114 rfl) rfl
theorem q885 : (Jvm.Cond.selects "PolygonBoard$Region" ({ cls := "PolygonBoard$Region", name := "isEmpty", desc := "()Z" } : Jvm.MethodName) ({ cls := "PolygonBoard$Region", name := "isEmpty", desc := "()Z" } : Jvm.MethodName)) ∈ lw_all := lw_g (lw_at lw_m4 115 rfl) rfl
theorem q886 : (Jvm.Cond.code ({ cls := "PolygonBoard$Region", name := "isEmpty", desc := "()Z" } : Jvm.MethodName) prog_17_method_4_code (1 : Nat) (Option.some Jvm.ClassFile.FieldType.boolean)) ∈ lw_all := lw_g (lw_at lw_m4 116 rfl) rfl
theorem q887 : (Jvm.Cond.methodLink "PolygonBoard$Region" (153 : Nat) ({ cls := "PolygonBoard$Region", name := "top", desc := "()I" } : Jvm.MethodName)) ∈ lw_all := lw_g (lw_at lw_m4 117 rfl) rfl
theorem q888 : (Jvm.Cond.instanceMethod ({ cls := "PolygonBoard$Region", name := "top", desc := "()I" } : Jvm.MethodName)) ∈ lw_all := lw_g (lw_at lw_m4 118 rfl) rfl
theorem q889 : (Jvm.Cond.selects "PolygonBoard$Region" ({ cls := "PolygonBoard$Region", name := "top", desc := "()I" } : Jvm.MethodName) ({ cls := "PolygonBoard$Region", name := "top", desc := "()I" } : Jvm.MethodName)) ∈ lw_all := lw_g (lw_at lw_m4 119 rfl) rfl
theorem q890 : (Jvm.Cond.code ({ cls := "PolygonBoard$Region", name := "top", desc := "()I" } : Jvm.MethodName) prog_17_method_15_code (1 : Nat) (Option.some Jvm.ClassFile.FieldType.int)) ∈ lw_all := lw_g (lw_at lw_m4 120 rfl) rfl
theorem q891 : (Jvm.Cond.methodLink "PolygonBoard$Region" (156 : Nat) ({ cls := "PolygonBoard$Region", name := "spansAround", desc := "(II)LPolygonBoard$Spans;" } : Jvm.MethodName)) ∈ lw_all := lw_g (lw_at lw_m4 121 rfl) rfl
theorem q892 : (Jvm.Cond.privateMethod ({ cls := "PolygonBoard$Region", name := "spansAround", desc := "(II)LPolygonBoard$Spans;" } : Jvm.MethodName)) ∈ lw_tbl := lw_at lw_m4 122 rfl
theorem q893 : (Jvm.Cond.instanceMethod ({ cls := "PolygonBoard$Region", name := "spansAround", desc := "(II)LPolygonBoard$Spans;" } : Jvm.MethodName)) ∈ lw_all := lw_g (lw_at lw_m4 123 rfl) rfl
theorem q894 : (Jvm.Cond.code ({ cls := "PolygonBoard$Region", name := "spansAround", desc := "(II)LPolygonBoard$Spans;" } : Jvm.MethodName) prog_17_method_19_code (6 : Nat) (Option.some (Jvm.ClassFile.FieldType.object "PolygonBoard$Spans"))) ∈ lw_all := lw_g (lw_at lw_m4 124 rfl) rfl
theorem q895 : (Jvm.Cond.fieldLink "PolygonBoard$Region" (160 : Nat) "PolygonBoard$Operation" "UNION" "LPolygonBoard$Operation;") ∈ lw_all := lw_g (lw_at lw_m4 125 rfl) rfl
theorem q897 : (Jvm.Cond.instanceMethod ({ cls := "PolygonBoard$Region", name := "clipped", desc := "()LPolygonBoard$Region;" } : Jvm.MethodName)) ∈ lw_all := lw_g (lw_at lw_m4 127 rfl) rfl
theorem q898 : (Jvm.Cond.selects "PolygonBoard$Region" ({ cls := "PolygonBoard$Region", name := "clipped", desc := "()LPolygonBoard$Region;" } : Jvm.MethodName) ({ cls := "PolygonBoard$Region", name := "clipped", desc := "()LPolygonBoard$Region;" } : Jvm.MethodName)) ∈ lw_all := lw_g (lw_at lw_m4 128 rfl) rfl
theorem q899 : (Jvm.Cond.code ({ cls := "PolygonBoard$Region", name := "clipped", desc := "()LPolygonBoard$Region;" } : Jvm.MethodName) prog_17_method_21_code (1 : Nat) (Option.some (Jvm.ClassFile.FieldType.object "PolygonBoard$Region"))) ∈ lw_all := lw_g (lw_at lw_m4 129 rfl) rfl
theorem q900 : (Jvm.Cond.methodLink "PolygonBoard$Region" (163 : Nat) ({ cls := "PolygonBoard$Region", name := "rectangle", desc := "(IIII)LPolygonBoard$Region;" } : Jvm.MethodName)) ∈ lw_all := lw_g (lw_at lw_m4 130 rfl) rfl
theorem q901 : (Jvm.Cond.fieldLink "PolygonBoard$Region" (177 : Nat) "PolygonBoard$Operation" "INTERSECTION" "LPolygonBoard$Operation;") ∈ lw_all := lw_g (lw_at lw_m4 131 rfl) rfl
theorem q903 : (Jvm.Cond.methodLink "PolygonBoard$Region" (170 : Nat) ({ cls := "PolygonBoard$Region", name := "combine", desc := "(LPolygonBoard$Region;LPolygonBoard$Operation;)LPolygonBoard$Region;" } : Jvm.MethodName)) ∈ lw_all := lw_g (lw_at lw_m4 133 rfl) rfl
theorem q912 : (Jvm.Cond.instanceMethod ({ cls := "PolygonBoard$Region", name := "shrunk", desc := "(I)LPolygonBoard$Region;" } : Jvm.MethodName)) ∈ lw_all := lw_g (lw_at lw_m4 142 rfl) rfl
theorem q913 : (Jvm.Cond.selects "PolygonBoard$Region" ({ cls := "PolygonBoard$Region", name := "shrunk", desc := "(I)LPolygonBoard$Region;" } : Jvm.MethodName) ({ cls := "PolygonBoard$Region", name := "shrunk", desc := "(I)LPolygonBoard$Region;" } : Jvm.MethodName)) ∈ lw_all := lw_g (lw_at lw_m4 143 rfl) rfl
theorem q914 : (Jvm.Cond.code ({ cls := "PolygonBoard$Region", name := "shrunk", desc := "(I)LPolygonBoard$Region;" } : Jvm.MethodName) prog_17_method_20_code (4 : Nat) (Option.some (Jvm.ClassFile.FieldType.object "PolygonBoard$Region"))) ∈ lw_all := lw_g (lw_at lw_m4 144 rfl) rfl
theorem q915 : (Jvm.Cond.fieldLink "PolygonBoard$Region" (167 : Nat) "PolygonBoard$Operation" "DIFFERENCE" "LPolygonBoard$Operation;") ∈ lw_all := lw_g (lw_at lw_m4 145 rfl) rfl
theorem q916 : (Jvm.Cond.methodLink "PolygonBoard$Region" (173 : Nat) ({ cls := "PolygonBoard$Region", name := "grown", desc := "(I)LPolygonBoard$Region;" } : Jvm.MethodName)) ∈ lw_all := lw_g (lw_at lw_m4 146 rfl) rfl
theorem q925 : (Jvm.Cond.instanceMethod ({ cls := "PolygonBoard$Region", name := "moved", desc := "(II)LPolygonBoard$Region;" } : Jvm.MethodName)) ∈ lw_all := lw_g (lw_at lw_m4 155 rfl) rfl
theorem q926 : (Jvm.Cond.selects "PolygonBoard$Region" ({ cls := "PolygonBoard$Region", name := "moved", desc := "(II)LPolygonBoard$Region;" } : Jvm.MethodName) ({ cls := "PolygonBoard$Region", name := "moved", desc := "(II)LPolygonBoard$Region;" } : Jvm.MethodName)) ∈ lw_all := lw_g (lw_at lw_m4 156 rfl) rfl
theorem q927 : (Jvm.Cond.code ({ cls := "PolygonBoard$Region", name := "moved", desc := "(II)LPolygonBoard$Region;" } : Jvm.MethodName) prog_17_method_22_code (6 : Nat) (Option.some (Jvm.ClassFile.FieldType.object "PolygonBoard$Region"))) ∈ lw_all := lw_g (lw_at lw_m4 157 rfl) rfl
theorem q928 : (Jvm.Cond.methodLink "PolygonBoard$Region" (180 : Nat) ({ cls := "PolygonBoard$Spans", name := "moved", desc := "(I)LPolygonBoard$Spans;" } : Jvm.MethodName)) ∈ lw_all := lw_g (lw_at lw_m4 158 rfl) rfl
theorem q932 : (Jvm.Cond.methodLink "PolygonBoard$Region" (183 : Nat) ({ cls := "PolygonBoard$Region", name := "clipped", desc := "()LPolygonBoard$Region;" } : Jvm.MethodName)) ∈ lw_all := lw_g (lw_at lw_m4 162 rfl) rfl
theorem q941 : (Jvm.Cond.instanceMethod ({ cls := "PolygonBoard$Region", name := "turned", desc := "()LPolygonBoard$Region;" } : Jvm.MethodName)) ∈ lw_all := lw_g (lw_at lw_m4 171 rfl) rfl
theorem q942 : (Jvm.Cond.selects "PolygonBoard$Region" ({ cls := "PolygonBoard$Region", name := "turned", desc := "()LPolygonBoard$Region;" } : Jvm.MethodName) ({ cls := "PolygonBoard$Region", name := "turned", desc := "()LPolygonBoard$Region;" } : Jvm.MethodName)) ∈ lw_all := lw_g (lw_at lw_m4 172 rfl) rfl
theorem q943 : (Jvm.Cond.code ({ cls := "PolygonBoard$Region", name := "turned", desc := "()LPolygonBoard$Region;" } : Jvm.MethodName) prog_17_method_24_code (6 : Nat) (Option.some (Jvm.ClassFile.FieldType.object "PolygonBoard$Region"))) ∈ lw_all := lw_g (lw_at lw_m4 173 rfl) rfl
theorem q944 : (Jvm.Cond.methodLink "PolygonBoard$Region" (90 : Nat) ({ cls := "PolygonBoard$Spans", name := "contains", desc := "(I)Z" } : Jvm.MethodName)) ∈ lw_all := lw_g (lw_at lw_m4 174 rfl) rfl
theorem q957 : (Jvm.Cond.instanceMethod ({ cls := "PolygonBoard$Region", name := "mirrored", desc := "()LPolygonBoard$Region;" } : Jvm.MethodName)) ∈ lw_all := lw_g (lw_at lw_m4 187 rfl) rfl
theorem q958 : (Jvm.Cond.selects "PolygonBoard$Region" ({ cls := "PolygonBoard$Region", name := "mirrored", desc := "()LPolygonBoard$Region;" } : Jvm.MethodName) ({ cls := "PolygonBoard$Region", name := "mirrored", desc := "()LPolygonBoard$Region;" } : Jvm.MethodName)) ∈ lw_all := lw_g (lw_at lw_m4 188 rfl) rfl
theorem q959 : (Jvm.Cond.code ({ cls := "PolygonBoard$Region", name := "mirrored", desc := "()LPolygonBoard$Region;" } : Jvm.MethodName) prog_17_method_23_code (4 : Nat) (Option.some (Jvm.ClassFile.FieldType.object "PolygonBoard$Region"))) ∈ lw_all := lw_g (lw_at lw_m4 189 rfl) rfl
theorem q960 : (Jvm.Cond.methodLink "PolygonBoard$Region" (187 : Nat) ({ cls := "PolygonBoard$Spans", name := "mirrored", desc := "()LPolygonBoard$Spans;" } : Jvm.MethodName)) ∈ lw_all := lw_g (lw_at lw_m4 190 rfl) rfl
theorem q1109 : (Jvm.Cond.instanceMethod ({ cls := "PolygonBoard$Region", name := "contains", desc := "(II)Z" } : Jvm.MethodName)) ∈ lw_all := lw_g (lw_at lw_m5 99 rfl) rfl
theorem q1110 : (Jvm.Cond.selects "PolygonBoard$Region" ({ cls := "PolygonBoard$Region", name := "contains", desc := "(II)Z" } : Jvm.MethodName) ({ cls := "PolygonBoard$Region", name := "contains", desc := "(II)Z" } : Jvm.MethodName)) ∈ lw_all := lw_g (lw_at lw_m5 100 rfl) rfl
theorem q1111 : (Jvm.Cond.code ({ cls := "PolygonBoard$Region", name := "contains", desc := "(II)Z" } : Jvm.MethodName) prog_17_method_6_code (3 : Nat) (Option.some Jvm.ClassFile.FieldType.boolean)) ∈ lw_all := lw_g (lw_at lw_m5 101 rfl) rfl
theorem q1144 : (Jvm.Cond.instanceMethod ({ cls := "PolygonBoard$Region", name := "perimeter", desc := "()I" } : Jvm.MethodName)) ∈ lw_all := lw_g (lw_at lw_m5 134 rfl) rfl
theorem q1145 : (Jvm.Cond.selects "PolygonBoard$Region" ({ cls := "PolygonBoard$Region", name := "perimeter", desc := "()I" } : Jvm.MethodName) ({ cls := "PolygonBoard$Region", name := "perimeter", desc := "()I" } : Jvm.MethodName)) ∈ lw_all := lw_g (lw_at lw_m5 135 rfl) rfl
theorem q1146 : (Jvm.Cond.code ({ cls := "PolygonBoard$Region", name := "perimeter", desc := "()I" } : Jvm.MethodName) prog_17_method_17_code (4 : Nat) (Option.some Jvm.ClassFile.FieldType.int)) ∈ lw_all := lw_g (lw_at lw_m5 136 rfl) rfl
theorem q1147 : (Jvm.Cond.methodLink "PolygonBoard$Region" (142 : Nat) ({ cls := "PolygonBoard$Band", name := "height", desc := "()I" } : Jvm.MethodName)) ∈ lw_all := lw_g (lw_at lw_m5 137 rfl) rfl
theorem q1151 : (Jvm.Cond.methodLink "PolygonBoard$Region" (145 : Nat) ({ cls := "PolygonBoard$Region", name := "differenceOf", desc := "(LPolygonBoard$Spans;LPolygonBoard$Spans;)I" } : Jvm.MethodName)) ∈ lw_all := lw_g (lw_at lw_m5 141 rfl) rfl
theorem q1152 : (Jvm.Cond.static ({ cls := "PolygonBoard$Region", name := "differenceOf", desc := "(LPolygonBoard$Spans;LPolygonBoard$Spans;)I" } : Jvm.MethodName)) ∈ lw_all := lw_g (lw_at lw_m5 142 rfl) rfl
theorem q1153 : (Jvm.Cond.code ({ cls := "PolygonBoard$Region", name := "differenceOf", desc := "(LPolygonBoard$Spans;LPolygonBoard$Spans;)I" } : Jvm.MethodName) prog_17_method_16_code (2 : Nat) (Option.some Jvm.ClassFile.FieldType.int)) ∈ lw_all := lw_g (lw_at lw_m5 143 rfl) rfl
theorem q1154 : (Jvm.Cond.fieldLink "PolygonBoard$Region" (133 : Nat) "PolygonBoard$Operation" "EXCLUSIVE" "LPolygonBoard$Operation;") ∈ lw_all := lw_g (lw_at lw_m5 144 rfl) rfl
theorem q1156 : (Jvm.Cond.methodLink "PolygonBoard$Region" (139 : Nat) ({ cls := "PolygonBoard$Spans", name := "length", desc := "()I" } : Jvm.MethodName)) ∈ lw_all := lw_g (lw_at lw_m5 146 rfl) rfl
theorem q1358 : (Jvm.Cond.instanceMethod ({ cls := "PolygonBoard$Region", name := "left", desc := "()I" } : Jvm.MethodName)) ∈ lw_all := lw_g (lw_at lw_m6 108 rfl) rfl
theorem q1359 : (Jvm.Cond.selects "PolygonBoard$Region" ({ cls := "PolygonBoard$Region", name := "left", desc := "()I" } : Jvm.MethodName) ({ cls := "PolygonBoard$Region", name := "left", desc := "()I" } : Jvm.MethodName)) ∈ lw_all := lw_g (lw_at lw_m6 109 rfl) rfl
theorem q1360 : (Jvm.Cond.code ({ cls := "PolygonBoard$Region", name := "left", desc := "()I" } : Jvm.MethodName) prog_17_method_12_code (4 : Nat) (Option.some Jvm.ClassFile.FieldType.int)) ∈ lw_all := lw_g (lw_at lw_m6 110 rfl) rfl
theorem q1361 : (Jvm.Cond.methodLink "PolygonBoard$Region" (127 : Nat) ({ cls := "PolygonBoard$Spans", name := "left", desc := "(I)I" } : Jvm.MethodName)) ∈ lw_all := lw_g (lw_at lw_m6 111 rfl) rfl
theorem q1370 : (Jvm.Cond.instanceMethod ({ cls := "PolygonBoard$Region", name := "right", desc := "()I" } : Jvm.MethodName)) ∈ lw_all := lw_g (lw_at lw_m6 120 rfl) rfl
theorem q1371 : (Jvm.Cond.selects "PolygonBoard$Region" ({ cls := "PolygonBoard$Region", name := "right", desc := "()I" } : Jvm.MethodName) ({ cls := "PolygonBoard$Region", name := "right", desc := "()I" } : Jvm.MethodName)) ∈ lw_all := lw_g (lw_at lw_m6 121 rfl) rfl
theorem q1372 : (Jvm.Cond.code ({ cls := "PolygonBoard$Region", name := "right", desc := "()I" } : Jvm.MethodName) prog_17_method_13_code (4 : Nat) (Option.some Jvm.ClassFile.FieldType.int)) ∈ lw_all := lw_g (lw_at lw_m6 122 rfl) rfl
theorem q1373 : (Jvm.Cond.methodLink "PolygonBoard$Region" (130 : Nat) ({ cls := "PolygonBoard$Spans", name := "right", desc := "(I)I" } : Jvm.MethodName)) ∈ lw_all := lw_g (lw_at lw_m6 123 rfl) rfl
theorem q1382 : (Jvm.Cond.instanceMethod ({ cls := "PolygonBoard$Region", name := "bottom", desc := "()I" } : Jvm.MethodName)) ∈ lw_all := lw_g (lw_at lw_m6 132 rfl) rfl
theorem q1383 : (Jvm.Cond.selects "PolygonBoard$Region" ({ cls := "PolygonBoard$Region", name := "bottom", desc := "()I" } : Jvm.MethodName) ({ cls := "PolygonBoard$Region", name := "bottom", desc := "()I" } : Jvm.MethodName)) ∈ lw_all := lw_g (lw_at lw_m6 133 rfl) rfl
theorem q1384 : (Jvm.Cond.code ({ cls := "PolygonBoard$Region", name := "bottom", desc := "()I" } : Jvm.MethodName) prog_17_method_14_code (1 : Nat) (Option.some Jvm.ClassFile.FieldType.int)) ∈ lw_all := lw_g (lw_at lw_m6 134 rfl) rfl
theorem q2130 : (Jvm.Cond.castable "PolygonBoard$Region" "java/lang/Object") ∈ lw_tbl := lw_at lw_m9 160 rfl
theorem in_X2 : ∀ w ∈ wsX20, w ∈ lw_all := lw_in wsX20 [142] (by decide +kernel) (by decide +kernel)
/-! PolygonBoard$Rectangle -/
set_option maxRecDepth 100000
def RX10 : String := "PolygonBoard$Rectangle"
def TX10 : u_T := fun k => match k with
  | 0 => ("PolygonBoard$Rectangle", "left", "I", true)
  | 1 => ("PolygonBoard$Rectangle", "low", "I", true)
  | 2 => ("PolygonBoard$Rectangle", "right", "I", true)
  | 3 => ("PolygonBoard$Rectangle", "high", "I", true)
  | _ => ("PolygonBoard$Rectangle", "part", "LPolygonBoard$Rectangle;", false)
def tyX10 : Nat → FieldType := fun k => match k with
  | 0 => .int
  | 1 => .int
  | 2 => .int
  | 3 => .int
  | _ => .object "PolygonBoard$Rectangle"
abbrev wsX100 : List Cond := u_ws RX10 TX10 5
theorem nmX10 : ∀ a, a < 5 → ∀ b, b < 5 → a ≠ b → (TX10 a).2.1 ≠ (TX10 b).2.1 := by decide +kernel
theorem tyX10_ok : ∀ k, k < 5 → parseFieldDescriptor (TX10 k).2.2.1 = some (tyX10 k) := by decide +kernel
abbrev cX10_init : ByteArray := prog_16_method_1_code
def yX10_init : MethodName := ⟨RX10, "<init>", "(IIII)V"⟩
def dkwX10_init_1 : List UInt8 := [42, 21, 4, 181, 0, 23, 177]
abbrev dktX10_init_1 : List UInt8 := dkwX10_init_1 ++ []
def dkwX10_init_0 : List UInt8 := [42, 183, 0, 1, 42, 42, 181, 0, 7, 42, 27, 181, 0, 13, 42, 28, 181, 0, 17, 42, 29, 181, 0, 20]
abbrev dktX10_init_0 : List UInt8 := dkwX10_init_0 ++ dktX10_init_1
theorem dksX10_init_0 : cX10_init.data.toList.drop 0 = dktX10_init_0 := by decide +kernel
theorem dksX10_init_1 : cX10_init.data.toList.drop 24 = dktX10_init_1 := dk_seg dksX10_init_0 24 rfl rfl
theorem dX10_init_0 : decode cX10_init 0 = .ok (.aload_n 0, 1) := dk_42 (dk_at dksX10_init_0 0 rfl rfl)
theorem dX10_init_1 : decode cX10_init 1 = .ok (.invokespecial 1, 3) := dk_183 0 1 (dk_at dksX10_init_0 1 rfl rfl)
theorem dX10_init_4 : decode cX10_init 4 = .ok (.aload_n 0, 1) := dk_42 (dk_at dksX10_init_0 4 rfl rfl)
theorem dX10_init_5 : decode cX10_init 5 = .ok (.aload_n 0, 1) := dk_42 (dk_at dksX10_init_0 5 rfl rfl)
theorem dX10_init_6 : decode cX10_init 6 = .ok (.putfield 7, 3) := dk_181 0 7 (dk_at dksX10_init_0 6 rfl rfl)
theorem dX10_init_9 : decode cX10_init 9 = .ok (.aload_n 0, 1) := dk_42 (dk_at dksX10_init_0 9 rfl rfl)
theorem dX10_init_10 : decode cX10_init 10 = .ok (.iload_n 1, 1) := dk_27 (dk_at dksX10_init_0 10 rfl rfl)
theorem dX10_init_11 : decode cX10_init 11 = .ok (.putfield 13, 3) := dk_181 0 13 (dk_at dksX10_init_0 11 rfl rfl)
theorem dX10_init_14 : decode cX10_init 14 = .ok (.aload_n 0, 1) := dk_42 (dk_at dksX10_init_0 14 rfl rfl)
theorem dX10_init_15 : decode cX10_init 15 = .ok (.iload_n 2, 1) := dk_28 (dk_at dksX10_init_0 15 rfl rfl)
theorem dX10_init_16 : decode cX10_init 16 = .ok (.putfield 17, 3) := dk_181 0 17 (dk_at dksX10_init_0 16 rfl rfl)
theorem dX10_init_19 : decode cX10_init 19 = .ok (.aload_n 0, 1) := dk_42 (dk_at dksX10_init_0 19 rfl rfl)
theorem dX10_init_20 : decode cX10_init 20 = .ok (.iload_n 3, 1) := dk_29 (dk_at dksX10_init_0 20 rfl rfl)
theorem dX10_init_21 : decode cX10_init 21 = .ok (.putfield 20, 3) := dk_181 0 20 (dk_at dksX10_init_0 21 rfl rfl)
theorem dX10_init_24 : decode cX10_init 24 = .ok (.aload_n 0, 1) := dk_42 (dk_at dksX10_init_1 0 rfl rfl)
theorem dX10_init_25 : decode cX10_init 25 = .ok (.iload 4, 2) := dk_21 4 (dk_at dksX10_init_1 1 rfl rfl)
theorem dX10_init_27 : decode cX10_init 27 = .ok (.putfield 23, 3) := dk_181 0 23 (dk_at dksX10_init_1 3 rfl rfl)
theorem dX10_init_30 : decode cX10_init 30 = .ok (.return_, 1) := dk_177 (dk_at dksX10_init_1 6 rfl rfl)
abbrev cX10_isUnder : ByteArray := prog_16_method_3_code
def yX10_isUnder : MethodName := ⟨RX10, "isUnder", "(LPolygonBoard$Rectangle;)Z"⟩
def dkwX10_isUnder_1 : List UInt8 := [180, 0, 13, 42, 180, 0, 20, 162, 0, 7, 4, 167, 0, 4, 3, 172]
abbrev dktX10_isUnder_1 : List UInt8 := dkwX10_isUnder_1 ++ []
def dkwX10_isUnder_0 : List UInt8 := [42, 180, 0, 23, 43, 180, 0, 17, 160, 0, 29, 42, 180, 0, 13, 43, 180, 0, 20, 162, 0, 18, 43]
abbrev dktX10_isUnder_0 : List UInt8 := dkwX10_isUnder_0 ++ dktX10_isUnder_1
theorem dksX10_isUnder_0 : cX10_isUnder.data.toList.drop 0 = dktX10_isUnder_0 := by decide +kernel
theorem dksX10_isUnder_1 : cX10_isUnder.data.toList.drop 23 = dktX10_isUnder_1 := dk_seg dksX10_isUnder_0 23 rfl rfl
theorem dX10_isUnder_0 : decode cX10_isUnder 0 = .ok (.aload_n 0, 1) := dk_42 (dk_at dksX10_isUnder_0 0 rfl rfl)
theorem dX10_isUnder_1 : decode cX10_isUnder 1 = .ok (.getfield 23, 3) := dk_180 0 23 (dk_at dksX10_isUnder_0 1 rfl rfl)
theorem dX10_isUnder_4 : decode cX10_isUnder 4 = .ok (.aload_n 1, 1) := dk_43 (dk_at dksX10_isUnder_0 4 rfl rfl)
theorem dX10_isUnder_5 : decode cX10_isUnder 5 = .ok (.getfield 17, 3) := dk_180 0 17 (dk_at dksX10_isUnder_0 5 rfl rfl)
theorem dX10_isUnder_8 : decode cX10_isUnder 8 = .ok (.if_icmp .ne 29, 3) := dk_160 0 29 (dk_at dksX10_isUnder_0 8 rfl rfl)
theorem dX10_isUnder_11 : decode cX10_isUnder 11 = .ok (.aload_n 0, 1) := dk_42 (dk_at dksX10_isUnder_0 11 rfl rfl)
theorem dX10_isUnder_12 : decode cX10_isUnder 12 = .ok (.getfield 13, 3) := dk_180 0 13 (dk_at dksX10_isUnder_0 12 rfl rfl)
theorem dX10_isUnder_15 : decode cX10_isUnder 15 = .ok (.aload_n 1, 1) := dk_43 (dk_at dksX10_isUnder_0 15 rfl rfl)
theorem dX10_isUnder_16 : decode cX10_isUnder 16 = .ok (.getfield 20, 3) := dk_180 0 20 (dk_at dksX10_isUnder_0 16 rfl rfl)
theorem dX10_isUnder_19 : decode cX10_isUnder 19 = .ok (.if_icmp .ge 18, 3) := dk_162 0 18 (dk_at dksX10_isUnder_0 19 rfl rfl)
theorem dX10_isUnder_22 : decode cX10_isUnder 22 = .ok (.aload_n 1, 1) := dk_43 (dk_at dksX10_isUnder_0 22 rfl rfl)
theorem dX10_isUnder_23 : decode cX10_isUnder 23 = .ok (.getfield 13, 3) := dk_180 0 13 (dk_at dksX10_isUnder_1 0 rfl rfl)
theorem dX10_isUnder_26 : decode cX10_isUnder 26 = .ok (.aload_n 0, 1) := dk_42 (dk_at dksX10_isUnder_1 3 rfl rfl)
theorem dX10_isUnder_27 : decode cX10_isUnder 27 = .ok (.getfield 20, 3) := dk_180 0 20 (dk_at dksX10_isUnder_1 4 rfl rfl)
theorem dX10_isUnder_30 : decode cX10_isUnder 30 = .ok (.if_icmp .ge 7, 3) := dk_162 0 7 (dk_at dksX10_isUnder_1 7 rfl rfl)
theorem dX10_isUnder_33 : decode cX10_isUnder 33 = .ok (.iconst 1, 1) := dk_4 (dk_at dksX10_isUnder_1 10 rfl rfl)
theorem dX10_isUnder_34 : decode cX10_isUnder 34 = .ok (.goto 4, 3) := dk_167 0 4 (dk_at dksX10_isUnder_1 11 rfl rfl)
theorem dX10_isUnder_37 : decode cX10_isUnder 37 = .ok (.iconst 0, 1) := dk_3 (dk_at dksX10_isUnder_1 14 rfl rfl)
theorem dX10_isUnder_38 : decode cX10_isUnder 38 = .ok (.ireturn, 1) := dk_172 (dk_at dksX10_isUnder_1 15 rfl rfl)
abbrev cX10_root : ByteArray := prog_16_method_2_code
def yX10_root : MethodName := ⟨RX10, "root", "()LPolygonBoard$Rectangle;"⟩
def dkwX10_root_0 : List UInt8 := [42, 76, 43, 180, 0, 7, 43, 165, 0, 11, 43, 180, 0, 7, 76, 167, 255, 243, 43, 176]
abbrev dktX10_root_0 : List UInt8 := dkwX10_root_0 ++ []
theorem dksX10_root_0 : cX10_root.data.toList.drop 0 = dktX10_root_0 := by decide +kernel
theorem dX10_root_0 : decode cX10_root 0 = .ok (.aload_n 0, 1) := dk_42 (dk_at dksX10_root_0 0 rfl rfl)
theorem dX10_root_1 : decode cX10_root 1 = .ok (.astore_n 1, 1) := dk_76 (dk_at dksX10_root_0 1 rfl rfl)
theorem dX10_root_2 : decode cX10_root 2 = .ok (.aload_n 1, 1) := dk_43 (dk_at dksX10_root_0 2 rfl rfl)
theorem dX10_root_3 : decode cX10_root 3 = .ok (.getfield 7, 3) := dk_180 0 7 (dk_at dksX10_root_0 3 rfl rfl)
theorem dX10_root_6 : decode cX10_root 6 = .ok (.aload_n 1, 1) := dk_43 (dk_at dksX10_root_0 6 rfl rfl)
theorem dX10_root_7 : decode cX10_root 7 = .ok (.if_acmp .eq 11, 3) := dk_165 0 11 (dk_at dksX10_root_0 7 rfl rfl)
theorem dX10_root_10 : decode cX10_root 10 = .ok (.aload_n 1, 1) := dk_43 (dk_at dksX10_root_0 10 rfl rfl)
theorem dX10_root_11 : decode cX10_root 11 = .ok (.getfield 7, 3) := dk_180 0 7 (dk_at dksX10_root_0 11 rfl rfl)
theorem dX10_root_14 : decode cX10_root 14 = .ok (.astore_n 1, 1) := dk_76 (dk_at dksX10_root_0 14 rfl rfl)
theorem dX10_root_15 : decode cX10_root 15 = .ok (.goto (-13), 3) := dk_167 255 243 (dk_at dksX10_root_0 15 rfl rfl)
theorem dX10_root_18 : decode cX10_root 18 = .ok (.aload_n 1, 1) := dk_43 (dk_at dksX10_root_0 18 rfl rfl)
theorem dX10_root_19 : decode cX10_root 19 = .ok (.areturn, 1) := dk_176 (dk_at dksX10_root_0 19 rfl rfl)
abbrev cX10_contains : ByteArray := prog_16_method_4_code
def yX10_contains : MethodName := ⟨RX10, "contains", "(II)Z"⟩
def dkwX10_contains_1 : List UInt8 := [180, 0, 23, 4, 100, 184, 0, 26, 153, 0, 7, 4, 167, 0, 4, 3, 172]
abbrev dktX10_contains_1 : List UInt8 := dkwX10_contains_1 ++ []
def dkwX10_contains_0 : List UInt8 := [27, 42, 180, 0, 13, 42, 180, 0, 20, 4, 100, 184, 0, 26, 153, 0, 24, 28, 42, 180, 0, 17, 42]
abbrev dktX10_contains_0 : List UInt8 := dkwX10_contains_0 ++ dktX10_contains_1
theorem dksX10_contains_0 : cX10_contains.data.toList.drop 0 = dktX10_contains_0 := by decide +kernel
theorem dksX10_contains_1 : cX10_contains.data.toList.drop 23 = dktX10_contains_1 := dk_seg dksX10_contains_0 23 rfl rfl
theorem dX10_contains_0 : decode cX10_contains 0 = .ok (.iload_n 1, 1) := dk_27 (dk_at dksX10_contains_0 0 rfl rfl)
theorem dX10_contains_1 : decode cX10_contains 1 = .ok (.aload_n 0, 1) := dk_42 (dk_at dksX10_contains_0 1 rfl rfl)
theorem dX10_contains_2 : decode cX10_contains 2 = .ok (.getfield 13, 3) := dk_180 0 13 (dk_at dksX10_contains_0 2 rfl rfl)
theorem dX10_contains_5 : decode cX10_contains 5 = .ok (.aload_n 0, 1) := dk_42 (dk_at dksX10_contains_0 5 rfl rfl)
theorem dX10_contains_6 : decode cX10_contains 6 = .ok (.getfield 20, 3) := dk_180 0 20 (dk_at dksX10_contains_0 6 rfl rfl)
theorem dX10_contains_9 : decode cX10_contains 9 = .ok (.iconst 1, 1) := dk_4 (dk_at dksX10_contains_0 9 rfl rfl)
theorem dX10_contains_10 : decode cX10_contains 10 = .ok (.isub, 1) := dk_100 (dk_at dksX10_contains_0 10 rfl rfl)
theorem dX10_contains_11 : decode cX10_contains 11 = .ok (.invokestatic 26, 3) := dk_184 0 26 (dk_at dksX10_contains_0 11 rfl rfl)
theorem dX10_contains_14 : decode cX10_contains 14 = .ok (.ifCond .eq 24, 3) := dk_153 0 24 (dk_at dksX10_contains_0 14 rfl rfl)
theorem dX10_contains_17 : decode cX10_contains 17 = .ok (.iload_n 2, 1) := dk_28 (dk_at dksX10_contains_0 17 rfl rfl)
theorem dX10_contains_18 : decode cX10_contains 18 = .ok (.aload_n 0, 1) := dk_42 (dk_at dksX10_contains_0 18 rfl rfl)
theorem dX10_contains_19 : decode cX10_contains 19 = .ok (.getfield 17, 3) := dk_180 0 17 (dk_at dksX10_contains_0 19 rfl rfl)
theorem dX10_contains_22 : decode cX10_contains 22 = .ok (.aload_n 0, 1) := dk_42 (dk_at dksX10_contains_0 22 rfl rfl)
theorem dX10_contains_23 : decode cX10_contains 23 = .ok (.getfield 23, 3) := dk_180 0 23 (dk_at dksX10_contains_1 0 rfl rfl)
theorem dX10_contains_26 : decode cX10_contains 26 = .ok (.iconst 1, 1) := dk_4 (dk_at dksX10_contains_1 3 rfl rfl)
theorem dX10_contains_27 : decode cX10_contains 27 = .ok (.isub, 1) := dk_100 (dk_at dksX10_contains_1 4 rfl rfl)
theorem dX10_contains_28 : decode cX10_contains 28 = .ok (.invokestatic 26, 3) := dk_184 0 26 (dk_at dksX10_contains_1 5 rfl rfl)
theorem dX10_contains_31 : decode cX10_contains 31 = .ok (.ifCond .eq 7, 3) := dk_153 0 7 (dk_at dksX10_contains_1 8 rfl rfl)
theorem dX10_contains_34 : decode cX10_contains 34 = .ok (.iconst 1, 1) := dk_4 (dk_at dksX10_contains_1 11 rfl rfl)
theorem dX10_contains_35 : decode cX10_contains 35 = .ok (.goto 4, 3) := dk_167 0 4 (dk_at dksX10_contains_1 12 rfl rfl)
theorem dX10_contains_38 : decode cX10_contains 38 = .ok (.iconst 0, 1) := dk_3 (dk_at dksX10_contains_1 15 rfl rfl)
theorem dX10_contains_39 : decode cX10_contains 39 = .ok (.ireturn, 1) := dk_172 (dk_at dksX10_contains_1 16 rfl rfl)
theorem q79 : (Jvm.Cond.initialized "PolygonBoard$Rectangle") ∈ lw_all := lw_g (lw_at lw_m1 29 rfl) rfl
theorem q197 : (Jvm.Cond.selects "PolygonBoard$Rectangle" ({ cls := "java/lang/Object", name := "getClass", desc := "()Ljava/lang/Class;" } : Jvm.MethodName) ({ cls := "java/lang/Object", name := "getClass", desc := "()Ljava/lang/Class;" } : Jvm.MethodName)) ∈ lw_all := lw_g (lw_at lw_m1 147 rfl) rfl
theorem q622 : (Jvm.Cond.instantiable "PolygonBoard$Rectangle" (5 : Nat)) ∈ lw_all := lw_g (lw_at lw_m3 92 rfl) rfl
theorem q624 : (Jvm.Cond.instanceMethod ({ cls := "PolygonBoard$Rectangle", name := "<init>", desc := "(IIII)V" } : Jvm.MethodName)) ∈ lw_all := lw_g (lw_at lw_m3 94 rfl) rfl
theorem q625 : (Jvm.Cond.code ({ cls := "PolygonBoard$Rectangle", name := "<init>", desc := "(IIII)V" } : Jvm.MethodName) prog_16_method_1_code (5 : Nat) (Option.none : Option Jvm.ClassFile.FieldType)) ∈ lw_all := lw_g (lw_at lw_m3 95 rfl) rfl
theorem q626 : (Jvm.Cond.methodLink "PolygonBoard$Rectangle" (1 : Nat) ({ cls := "java/lang/Object", name := "<init>", desc := "()V" } : Jvm.MethodName)) ∈ lw_all := lw_g (lw_at lw_m3 96 rfl) rfl
theorem q627 : (Jvm.Cond.fieldLink "PolygonBoard$Rectangle" (13 : Nat) "PolygonBoard$Rectangle" "left" "I") ∈ lw_all := lw_g (lw_at lw_m3 97 rfl) rfl
theorem q629 : (Jvm.Cond.fieldLink "PolygonBoard$Rectangle" (17 : Nat) "PolygonBoard$Rectangle" "low" "I") ∈ lw_all := lw_g (lw_at lw_m3 99 rfl) rfl
theorem q631 : (Jvm.Cond.fieldLink "PolygonBoard$Rectangle" (20 : Nat) "PolygonBoard$Rectangle" "right" "I") ∈ lw_all := lw_g (lw_at lw_m3 101 rfl) rfl
theorem q633 : (Jvm.Cond.fieldLink "PolygonBoard$Rectangle" (23 : Nat) "PolygonBoard$Rectangle" "high" "I") ∈ lw_all := lw_g (lw_at lw_m3 103 rfl) rfl
theorem q635 : (Jvm.Cond.fieldLink "PolygonBoard$Rectangle" (7 : Nat) "PolygonBoard$Rectangle" "part" "LPolygonBoard$Rectangle;") ∈ lw_all := lw_g (lw_at lw_m3 105 rfl) rfl
theorem q637 : (Jvm.Cond.laysFinal "PolygonBoard$Rectangle" "PolygonBoard$Rectangle" "left" "I") ∈ lw_all := lw_g (lw_at lw_m3 107 rfl) rfl
theorem q638 : (Jvm.Cond.soleField "PolygonBoard$Rectangle" "left") ∈ lw_all := lw_g (lw_at lw_m3 108 rfl) rfl
theorem q639 : (Jvm.Cond.laysFinal "PolygonBoard$Rectangle" "PolygonBoard$Rectangle" "low" "I") ∈ lw_all := lw_g (lw_at lw_m3 109 rfl) rfl
theorem q640 : (Jvm.Cond.soleField "PolygonBoard$Rectangle" "low") ∈ lw_all := lw_g (lw_at lw_m3 110 rfl) rfl
theorem q641 : (Jvm.Cond.laysFinal "PolygonBoard$Rectangle" "PolygonBoard$Rectangle" "right" "I") ∈ lw_all := lw_g (lw_at lw_m3 111 rfl) rfl
theorem q642 : (Jvm.Cond.soleField "PolygonBoard$Rectangle" "right") ∈ lw_all := lw_g (lw_at lw_m3 112 rfl) rfl
theorem q643 : (Jvm.Cond.laysFinal "PolygonBoard$Rectangle" "PolygonBoard$Rectangle" "high" "I") ∈ lw_all := lw_g (lw_at lw_m3 113 rfl) rfl
theorem q644 : (Jvm.Cond.soleField "PolygonBoard$Rectangle" "high") ∈ lw_all := lw_g (lw_at lw_m3 114 rfl) rfl
theorem q645 : (Jvm.Cond.lays "PolygonBoard$Rectangle" "PolygonBoard$Rectangle" "part" "LPolygonBoard$Rectangle;") ∈ lw_all := lw_g (lw_at lw_m3 115 rfl) rfl
theorem q646 : (Jvm.Cond.soleField "PolygonBoard$Rectangle" "part") ∈ lw_all := lw_g (lw_at lw_m3 116 rfl) rfl
theorem q647 : (Jvm.Cond.superclass "PolygonBoard$Rectangle" "java/lang/Object") ∈ lw_all := lw_g (lw_at lw_m3 117 rfl) rfl
theorem q655 : (Jvm.Cond.instanceMethod ({ cls := "PolygonBoard$Rectangle", name := "isUnder", desc := "(LPolygonBoard$Rectangle;)Z" } : Jvm.MethodName)) ∈ lw_all := lw_g (lw_at lw_m3 125 rfl) rfl
theorem q656 : (Jvm.Cond.selects "PolygonBoard$Rectangle" ({ cls := "PolygonBoard$Rectangle", name := "isUnder", desc := "(LPolygonBoard$Rectangle;)Z" } : Jvm.MethodName) ({ cls := "PolygonBoard$Rectangle", name := "isUnder", desc := "(LPolygonBoard$Rectangle;)Z" } : Jvm.MethodName)) ∈ lw_all := lw_g (lw_at lw_m3 126 rfl) rfl
theorem q657 : (Jvm.Cond.code ({ cls := "PolygonBoard$Rectangle", name := "isUnder", desc := "(LPolygonBoard$Rectangle;)Z" } : Jvm.MethodName) prog_16_method_3_code (2 : Nat) (Option.some Jvm.ClassFile.FieldType.boolean)) ∈ lw_all := lw_g (lw_at lw_m3 127 rfl) rfl
theorem q659 : (Jvm.Cond.instanceMethod ({ cls := "PolygonBoard$Rectangle", name := "root", desc := "()LPolygonBoard$Rectangle;" } : Jvm.MethodName)) ∈ lw_all := lw_g (lw_at lw_m3 129 rfl) rfl
theorem q660 : (Jvm.Cond.selects "PolygonBoard$Rectangle" ({ cls := "PolygonBoard$Rectangle", name := "root", desc := "()LPolygonBoard$Rectangle;" } : Jvm.MethodName) ({ cls := "PolygonBoard$Rectangle", name := "root", desc := "()LPolygonBoard$Rectangle;" } : Jvm.MethodName)) ∈ lw_all := lw_g (lw_at lw_m3 130 rfl) rfl
theorem q661 : (Jvm.Cond.code ({ cls := "PolygonBoard$Rectangle", name := "root", desc := "()LPolygonBoard$Rectangle;" } : Jvm.MethodName) prog_16_method_2_code (2 : Nat) (Option.some (Jvm.ClassFile.FieldType.object "PolygonBoard$Rectangle"))) ∈ lw_all := lw_g (lw_at lw_m3 131 rfl) rfl
theorem q1078 : (Jvm.Cond.instanceMethod ({ cls := "PolygonBoard$Rectangle", name := "contains", desc := "(II)Z" } : Jvm.MethodName)) ∈ lw_all := lw_g (lw_at lw_m5 68 rfl) rfl
theorem q1079 : (Jvm.Cond.selects "PolygonBoard$Rectangle" ({ cls := "PolygonBoard$Rectangle", name := "contains", desc := "(II)Z" } : Jvm.MethodName) ({ cls := "PolygonBoard$Rectangle", name := "contains", desc := "(II)Z" } : Jvm.MethodName)) ∈ lw_all := lw_g (lw_at lw_m5 69 rfl) rfl
theorem q1080 : (Jvm.Cond.code ({ cls := "PolygonBoard$Rectangle", name := "contains", desc := "(II)Z" } : Jvm.MethodName) prog_16_method_4_code (3 : Nat) (Option.some Jvm.ClassFile.FieldType.boolean)) ∈ lw_all := lw_g (lw_at lw_m5 70 rfl) rfl
theorem q1081 : (Jvm.Cond.methodLinkNest "PolygonBoard$Rectangle" (26 : Nat) ({ cls := "PolygonBoard", name := "isBetween", desc := "(III)Z" } : Jvm.MethodName) "PolygonBoard") ∈ lw_tbl := lw_at lw_m5 71 rfl
theorem q2156 : (Jvm.Cond.castable "PolygonBoard$Rectangle" "java/lang/Object") ∈ lw_tbl := lw_at lw_m9 186 rfl
theorem in_X10 : ∀ w ∈ wsX100, w ∈ lw_all := lw_in wsX100 [637, 639, 641, 643, 645] (by decide +kernel) (by decide +kernel)
/-! PolygonBoard$Path -/
set_option maxRecDepth 100000
def RX11 : String := "PolygonBoard$Path"
def TX11 : u_T := fun k => match k with
  | 0 => ("PolygonBoard$Path", "xs", "[I", true)
  | 1 => ("PolygonBoard$Path", "ys", "[I", true)
  | _ => ("PolygonBoard$Path", "count", "I", false)
def tyX11 : Nat → FieldType := fun k => match k with
  | 0 => .array .int
  | 1 => .array .int
  | _ => .int
abbrev wsX110 : List Cond := u_ws RX11 TX11 3
theorem nmX11 : ∀ a, a < 3 → ∀ b, b < 3 → a ≠ b → (TX11 a).2.1 ≠ (TX11 b).2.1 := by decide +kernel
theorem tyX11_ok : ∀ k, k < 3 → parseFieldDescriptor (TX11 k).2.2.1 = some (tyX11 k) := by decide +kernel
abbrev cX11_init : ByteArray := prog_14_method_1_code
def yX11_init : MethodName := ⟨RX11, "<init>", "(II)V"⟩
def dkwX11_init_1 : List UInt8 := [182, 0, 18, 177]
abbrev dktX11_init_1 : List UInt8 := dkwX11_init_1 ++ []
def dkwX11_init_0 : List UInt8 := [42, 183, 0, 3, 42, 16, 40, 188, 10, 181, 0, 9, 42, 16, 40, 188, 10, 181, 0, 15, 42, 27, 28]
abbrev dktX11_init_0 : List UInt8 := dkwX11_init_0 ++ dktX11_init_1
theorem dksX11_init_0 : cX11_init.data.toList.drop 0 = dktX11_init_0 := by decide +kernel
theorem dksX11_init_1 : cX11_init.data.toList.drop 23 = dktX11_init_1 := dk_seg dksX11_init_0 23 rfl rfl
theorem dX11_init_0 : decode cX11_init 0 = .ok (.aload_n 0, 1) := dk_42 (dk_at dksX11_init_0 0 rfl rfl)
theorem dX11_init_1 : decode cX11_init 1 = .ok (.invokespecial 3, 3) := dk_183 0 3 (dk_at dksX11_init_0 1 rfl rfl)
theorem dX11_init_4 : decode cX11_init 4 = .ok (.aload_n 0, 1) := dk_42 (dk_at dksX11_init_0 4 rfl rfl)
theorem dX11_init_5 : decode cX11_init 5 = .ok (.bipush 40, 2) := dk_16 40 (dk_at dksX11_init_0 5 rfl rfl)
theorem dX11_init_7 : decode cX11_init 7 = .ok (.newarray .int, 2) := dk_188_10 (dk_at dksX11_init_0 7 rfl rfl)
theorem dX11_init_9 : decode cX11_init 9 = .ok (.putfield 9, 3) := dk_181 0 9 (dk_at dksX11_init_0 9 rfl rfl)
theorem dX11_init_12 : decode cX11_init 12 = .ok (.aload_n 0, 1) := dk_42 (dk_at dksX11_init_0 12 rfl rfl)
theorem dX11_init_13 : decode cX11_init 13 = .ok (.bipush 40, 2) := dk_16 40 (dk_at dksX11_init_0 13 rfl rfl)
theorem dX11_init_15 : decode cX11_init 15 = .ok (.newarray .int, 2) := dk_188_10 (dk_at dksX11_init_0 15 rfl rfl)
theorem dX11_init_17 : decode cX11_init 17 = .ok (.putfield 15, 3) := dk_181 0 15 (dk_at dksX11_init_0 17 rfl rfl)
theorem dX11_init_20 : decode cX11_init 20 = .ok (.aload_n 0, 1) := dk_42 (dk_at dksX11_init_0 20 rfl rfl)
theorem dX11_init_21 : decode cX11_init 21 = .ok (.iload_n 1, 1) := dk_27 (dk_at dksX11_init_0 21 rfl rfl)
theorem dX11_init_22 : decode cX11_init 22 = .ok (.iload_n 2, 1) := dk_28 (dk_at dksX11_init_0 22 rfl rfl)
theorem dX11_init_23 : decode cX11_init 23 = .ok (.invokevirtual 18, 3) := dk_182 0 18 (dk_at dksX11_init_1 0 rfl rfl)
theorem dX11_init_26 : decode cX11_init 26 = .ok (.return_, 1) := dk_177 (dk_at dksX11_init_1 3 rfl rfl)
abbrev cX11_add : ByteArray := prog_14_method_2_code
def yX11_add : MethodName := ⟨RX11, "add", "(II)V"⟩
def dkwX11_add_1 : List UInt8 := [180, 0, 22, 4, 96, 181, 0, 22, 177]
abbrev dktX11_add_1 : List UInt8 := dkwX11_add_1 ++ []
def dkwX11_add_0 : List UInt8 := [42, 180, 0, 9, 42, 180, 0, 22, 27, 79, 42, 180, 0, 15, 42, 180, 0, 22, 28, 79, 42, 89]
abbrev dktX11_add_0 : List UInt8 := dkwX11_add_0 ++ dktX11_add_1
theorem dksX11_add_0 : cX11_add.data.toList.drop 0 = dktX11_add_0 := by decide +kernel
theorem dksX11_add_1 : cX11_add.data.toList.drop 22 = dktX11_add_1 := dk_seg dksX11_add_0 22 rfl rfl
theorem dX11_add_0 : decode cX11_add 0 = .ok (.aload_n 0, 1) := dk_42 (dk_at dksX11_add_0 0 rfl rfl)
theorem dX11_add_1 : decode cX11_add 1 = .ok (.getfield 9, 3) := dk_180 0 9 (dk_at dksX11_add_0 1 rfl rfl)
theorem dX11_add_4 : decode cX11_add 4 = .ok (.aload_n 0, 1) := dk_42 (dk_at dksX11_add_0 4 rfl rfl)
theorem dX11_add_5 : decode cX11_add 5 = .ok (.getfield 22, 3) := dk_180 0 22 (dk_at dksX11_add_0 5 rfl rfl)
theorem dX11_add_8 : decode cX11_add 8 = .ok (.iload_n 1, 1) := dk_27 (dk_at dksX11_add_0 8 rfl rfl)
theorem dX11_add_9 : decode cX11_add 9 = .ok (.iastore, 1) := dk_79 (dk_at dksX11_add_0 9 rfl rfl)
theorem dX11_add_10 : decode cX11_add 10 = .ok (.aload_n 0, 1) := dk_42 (dk_at dksX11_add_0 10 rfl rfl)
theorem dX11_add_11 : decode cX11_add 11 = .ok (.getfield 15, 3) := dk_180 0 15 (dk_at dksX11_add_0 11 rfl rfl)
theorem dX11_add_14 : decode cX11_add 14 = .ok (.aload_n 0, 1) := dk_42 (dk_at dksX11_add_0 14 rfl rfl)
theorem dX11_add_15 : decode cX11_add 15 = .ok (.getfield 22, 3) := dk_180 0 22 (dk_at dksX11_add_0 15 rfl rfl)
theorem dX11_add_18 : decode cX11_add 18 = .ok (.iload_n 2, 1) := dk_28 (dk_at dksX11_add_0 18 rfl rfl)
theorem dX11_add_19 : decode cX11_add 19 = .ok (.iastore, 1) := dk_79 (dk_at dksX11_add_0 19 rfl rfl)
theorem dX11_add_20 : decode cX11_add 20 = .ok (.aload_n 0, 1) := dk_42 (dk_at dksX11_add_0 20 rfl rfl)
theorem dX11_add_21 : decode cX11_add 21 = .ok (.dup, 1) := dk_89 (dk_at dksX11_add_0 21 rfl rfl)
theorem dX11_add_22 : decode cX11_add 22 = .ok (.getfield 22, 3) := dk_180 0 22 (dk_at dksX11_add_1 0 rfl rfl)
theorem dX11_add_25 : decode cX11_add 25 = .ok (.iconst 1, 1) := dk_4 (dk_at dksX11_add_1 3 rfl rfl)
theorem dX11_add_26 : decode cX11_add 26 = .ok (.iadd, 1) := dk_96 (dk_at dksX11_add_1 4 rfl rfl)
theorem dX11_add_27 : decode cX11_add 27 = .ok (.putfield 22, 3) := dk_181 0 22 (dk_at dksX11_add_1 5 rfl rfl)
theorem dX11_add_30 : decode cX11_add 30 = .ok (.return_, 1) := dk_177 (dk_at dksX11_add_1 8 rfl rfl)
abbrev cX11_isStraightFrom : ByteArray := prog_14_method_3_code
def yX11_isStraightFrom : MethodName := ⟨RX11, "isStraightFrom", "(III)Z"⟩
def dkwX11_isStraightFrom_1 : List UInt8 := [160, 0, 7, 4, 167, 0, 4, 3, 159, 0, 7, 4, 167, 0, 4, 3, 172]
abbrev dktX11_isStraightFrom_1 : List UInt8 := dkwX11_isStraightFrom_1 ++ []
def dkwX11_isStraightFrom_0 : List UInt8 := [42, 180, 0, 9, 27, 46, 28, 160, 0, 7, 4, 167, 0, 4, 3, 42, 180, 0, 15, 27, 46, 29]
abbrev dktX11_isStraightFrom_0 : List UInt8 := dkwX11_isStraightFrom_0 ++ dktX11_isStraightFrom_1
theorem dksX11_isStraightFrom_0 : cX11_isStraightFrom.data.toList.drop 0 = dktX11_isStraightFrom_0 := by decide +kernel
theorem dksX11_isStraightFrom_1 : cX11_isStraightFrom.data.toList.drop 22 = dktX11_isStraightFrom_1 := dk_seg dksX11_isStraightFrom_0 22 rfl rfl
theorem dX11_isStraightFrom_0 : decode cX11_isStraightFrom 0 = .ok (.aload_n 0, 1) := dk_42 (dk_at dksX11_isStraightFrom_0 0 rfl rfl)
theorem dX11_isStraightFrom_1 : decode cX11_isStraightFrom 1 = .ok (.getfield 9, 3) := dk_180 0 9 (dk_at dksX11_isStraightFrom_0 1 rfl rfl)
theorem dX11_isStraightFrom_4 : decode cX11_isStraightFrom 4 = .ok (.iload_n 1, 1) := dk_27 (dk_at dksX11_isStraightFrom_0 4 rfl rfl)
theorem dX11_isStraightFrom_5 : decode cX11_isStraightFrom 5 = .ok (.iaload, 1) := dk_46 (dk_at dksX11_isStraightFrom_0 5 rfl rfl)
theorem dX11_isStraightFrom_6 : decode cX11_isStraightFrom 6 = .ok (.iload_n 2, 1) := dk_28 (dk_at dksX11_isStraightFrom_0 6 rfl rfl)
theorem dX11_isStraightFrom_7 : decode cX11_isStraightFrom 7 = .ok (.if_icmp .ne 7, 3) := dk_160 0 7 (dk_at dksX11_isStraightFrom_0 7 rfl rfl)
theorem dX11_isStraightFrom_10 : decode cX11_isStraightFrom 10 = .ok (.iconst 1, 1) := dk_4 (dk_at dksX11_isStraightFrom_0 10 rfl rfl)
theorem dX11_isStraightFrom_11 : decode cX11_isStraightFrom 11 = .ok (.goto 4, 3) := dk_167 0 4 (dk_at dksX11_isStraightFrom_0 11 rfl rfl)
theorem dX11_isStraightFrom_14 : decode cX11_isStraightFrom 14 = .ok (.iconst 0, 1) := dk_3 (dk_at dksX11_isStraightFrom_0 14 rfl rfl)
theorem dX11_isStraightFrom_15 : decode cX11_isStraightFrom 15 = .ok (.aload_n 0, 1) := dk_42 (dk_at dksX11_isStraightFrom_0 15 rfl rfl)
theorem dX11_isStraightFrom_16 : decode cX11_isStraightFrom 16 = .ok (.getfield 15, 3) := dk_180 0 15 (dk_at dksX11_isStraightFrom_0 16 rfl rfl)
theorem dX11_isStraightFrom_19 : decode cX11_isStraightFrom 19 = .ok (.iload_n 1, 1) := dk_27 (dk_at dksX11_isStraightFrom_0 19 rfl rfl)
theorem dX11_isStraightFrom_20 : decode cX11_isStraightFrom 20 = .ok (.iaload, 1) := dk_46 (dk_at dksX11_isStraightFrom_0 20 rfl rfl)
theorem dX11_isStraightFrom_21 : decode cX11_isStraightFrom 21 = .ok (.iload_n 3, 1) := dk_29 (dk_at dksX11_isStraightFrom_0 21 rfl rfl)
theorem dX11_isStraightFrom_22 : decode cX11_isStraightFrom 22 = .ok (.if_icmp .ne 7, 3) := dk_160 0 7 (dk_at dksX11_isStraightFrom_1 0 rfl rfl)
theorem dX11_isStraightFrom_25 : decode cX11_isStraightFrom 25 = .ok (.iconst 1, 1) := dk_4 (dk_at dksX11_isStraightFrom_1 3 rfl rfl)
theorem dX11_isStraightFrom_26 : decode cX11_isStraightFrom 26 = .ok (.goto 4, 3) := dk_167 0 4 (dk_at dksX11_isStraightFrom_1 4 rfl rfl)
theorem dX11_isStraightFrom_29 : decode cX11_isStraightFrom 29 = .ok (.iconst 0, 1) := dk_3 (dk_at dksX11_isStraightFrom_1 7 rfl rfl)
theorem dX11_isStraightFrom_30 : decode cX11_isStraightFrom 30 = .ok (.if_icmp .eq 7, 3) := dk_159 0 7 (dk_at dksX11_isStraightFrom_1 8 rfl rfl)
theorem dX11_isStraightFrom_33 : decode cX11_isStraightFrom 33 = .ok (.iconst 1, 1) := dk_4 (dk_at dksX11_isStraightFrom_1 11 rfl rfl)
theorem dX11_isStraightFrom_34 : decode cX11_isStraightFrom 34 = .ok (.goto 4, 3) := dk_167 0 4 (dk_at dksX11_isStraightFrom_1 12 rfl rfl)
theorem dX11_isStraightFrom_37 : decode cX11_isStraightFrom 37 = .ok (.iconst 0, 1) := dk_3 (dk_at dksX11_isStraightFrom_1 15 rfl rfl)
theorem dX11_isStraightFrom_38 : decode cX11_isStraightFrom 38 = .ok (.ireturn, 1) := dk_172 (dk_at dksX11_isStraightFrom_1 16 rfl rfl)
abbrev cX11_canClose : ByteArray := prog_14_method_4_code
def yX11_canClose : MethodName := ⟨RX11, "canClose", "()Z"⟩
def dkwX11_canClose_1 : List UInt8 := [180, 0, 15, 3, 46, 182, 0, 26, 153, 0, 7, 4, 167, 0, 4, 3, 172]
abbrev dktX11_canClose_1 : List UInt8 := dkwX11_canClose_1 ++ []
def dkwX11_canClose_0 : List UInt8 := [42, 180, 0, 22, 7, 161, 0, 32, 42, 42, 180, 0, 22, 4, 100, 42, 180, 0, 9, 3, 46, 42]
abbrev dktX11_canClose_0 : List UInt8 := dkwX11_canClose_0 ++ dktX11_canClose_1
theorem dksX11_canClose_0 : cX11_canClose.data.toList.drop 0 = dktX11_canClose_0 := by decide +kernel
theorem dksX11_canClose_1 : cX11_canClose.data.toList.drop 22 = dktX11_canClose_1 := dk_seg dksX11_canClose_0 22 rfl rfl
theorem dX11_canClose_0 : decode cX11_canClose 0 = .ok (.aload_n 0, 1) := dk_42 (dk_at dksX11_canClose_0 0 rfl rfl)
theorem dX11_canClose_1 : decode cX11_canClose 1 = .ok (.getfield 22, 3) := dk_180 0 22 (dk_at dksX11_canClose_0 1 rfl rfl)
theorem dX11_canClose_4 : decode cX11_canClose 4 = .ok (.iconst 4, 1) := dk_7 (dk_at dksX11_canClose_0 4 rfl rfl)
theorem dX11_canClose_5 : decode cX11_canClose 5 = .ok (.if_icmp .lt 32, 3) := dk_161 0 32 (dk_at dksX11_canClose_0 5 rfl rfl)
theorem dX11_canClose_8 : decode cX11_canClose 8 = .ok (.aload_n 0, 1) := dk_42 (dk_at dksX11_canClose_0 8 rfl rfl)
theorem dX11_canClose_9 : decode cX11_canClose 9 = .ok (.aload_n 0, 1) := dk_42 (dk_at dksX11_canClose_0 9 rfl rfl)
theorem dX11_canClose_10 : decode cX11_canClose 10 = .ok (.getfield 22, 3) := dk_180 0 22 (dk_at dksX11_canClose_0 10 rfl rfl)
theorem dX11_canClose_13 : decode cX11_canClose 13 = .ok (.iconst 1, 1) := dk_4 (dk_at dksX11_canClose_0 13 rfl rfl)
theorem dX11_canClose_14 : decode cX11_canClose 14 = .ok (.isub, 1) := dk_100 (dk_at dksX11_canClose_0 14 rfl rfl)
theorem dX11_canClose_15 : decode cX11_canClose 15 = .ok (.aload_n 0, 1) := dk_42 (dk_at dksX11_canClose_0 15 rfl rfl)
theorem dX11_canClose_16 : decode cX11_canClose 16 = .ok (.getfield 9, 3) := dk_180 0 9 (dk_at dksX11_canClose_0 16 rfl rfl)
theorem dX11_canClose_19 : decode cX11_canClose 19 = .ok (.iconst 0, 1) := dk_3 (dk_at dksX11_canClose_0 19 rfl rfl)
theorem dX11_canClose_20 : decode cX11_canClose 20 = .ok (.iaload, 1) := dk_46 (dk_at dksX11_canClose_0 20 rfl rfl)
theorem dX11_canClose_21 : decode cX11_canClose 21 = .ok (.aload_n 0, 1) := dk_42 (dk_at dksX11_canClose_0 21 rfl rfl)
theorem dX11_canClose_22 : decode cX11_canClose 22 = .ok (.getfield 15, 3) := dk_180 0 15 (dk_at dksX11_canClose_1 0 rfl rfl)
theorem dX11_canClose_25 : decode cX11_canClose 25 = .ok (.iconst 0, 1) := dk_3 (dk_at dksX11_canClose_1 3 rfl rfl)
theorem dX11_canClose_26 : decode cX11_canClose 26 = .ok (.iaload, 1) := dk_46 (dk_at dksX11_canClose_1 4 rfl rfl)
theorem dX11_canClose_27 : decode cX11_canClose 27 = .ok (.invokevirtual 26, 3) := dk_182 0 26 (dk_at dksX11_canClose_1 5 rfl rfl)
theorem dX11_canClose_30 : decode cX11_canClose 30 = .ok (.ifCond .eq 7, 3) := dk_153 0 7 (dk_at dksX11_canClose_1 8 rfl rfl)
theorem dX11_canClose_33 : decode cX11_canClose 33 = .ok (.iconst 1, 1) := dk_4 (dk_at dksX11_canClose_1 11 rfl rfl)
theorem dX11_canClose_34 : decode cX11_canClose 34 = .ok (.goto 4, 3) := dk_167 0 4 (dk_at dksX11_canClose_1 12 rfl rfl)
theorem dX11_canClose_37 : decode cX11_canClose 37 = .ok (.iconst 0, 1) := dk_3 (dk_at dksX11_canClose_1 15 rfl rfl)
theorem dX11_canClose_38 : decode cX11_canClose 38 = .ok (.ireturn, 1) := dk_172 (dk_at dksX11_canClose_1 16 rfl rfl)
abbrev cX11_filled : ByteArray := prog_14_method_7_code
def yX11_filled : MethodName := ⟨RX11, "filled", "(Z)LPolygonBoard$Region;"⟩
def dkwX11_filled_1 : List UInt8 := [182, 0, 41, 182, 0, 45, 132, 3, 1, 167, 255, 233, 44, 176]
abbrev dktX11_filled_1 : List UInt8 := dkwX11_filled_1 ++ []
def dkwX11_filled_0 : List UInt8 := [187, 0, 38, 89, 183, 0, 40, 77, 3, 62, 29, 16, 24, 162, 0, 23, 44, 29, 29, 4, 96, 42, 29, 27]
abbrev dktX11_filled_0 : List UInt8 := dkwX11_filled_0 ++ dktX11_filled_1
theorem dksX11_filled_0 : cX11_filled.data.toList.drop 0 = dktX11_filled_0 := by decide +kernel
theorem dksX11_filled_1 : cX11_filled.data.toList.drop 24 = dktX11_filled_1 := dk_seg dksX11_filled_0 24 rfl rfl
theorem dX11_filled_0 : decode cX11_filled 0 = .ok (.new 38, 3) := dk_187 0 38 (dk_at dksX11_filled_0 0 rfl rfl)
theorem dX11_filled_3 : decode cX11_filled 3 = .ok (.dup, 1) := dk_89 (dk_at dksX11_filled_0 3 rfl rfl)
theorem dX11_filled_4 : decode cX11_filled 4 = .ok (.invokespecial 40, 3) := dk_183 0 40 (dk_at dksX11_filled_0 4 rfl rfl)
theorem dX11_filled_7 : decode cX11_filled 7 = .ok (.astore_n 2, 1) := dk_77 (dk_at dksX11_filled_0 7 rfl rfl)
theorem dX11_filled_8 : decode cX11_filled 8 = .ok (.iconst 0, 1) := dk_3 (dk_at dksX11_filled_0 8 rfl rfl)
theorem dX11_filled_9 : decode cX11_filled 9 = .ok (.istore_n 3, 1) := dk_62 (dk_at dksX11_filled_0 9 rfl rfl)
theorem dX11_filled_10 : decode cX11_filled 10 = .ok (.iload_n 3, 1) := dk_29 (dk_at dksX11_filled_0 10 rfl rfl)
theorem dX11_filled_11 : decode cX11_filled 11 = .ok (.bipush 24, 2) := dk_16 24 (dk_at dksX11_filled_0 11 rfl rfl)
theorem dX11_filled_13 : decode cX11_filled 13 = .ok (.if_icmp .ge 23, 3) := dk_162 0 23 (dk_at dksX11_filled_0 13 rfl rfl)
theorem dX11_filled_16 : decode cX11_filled 16 = .ok (.aload_n 2, 1) := dk_44 (dk_at dksX11_filled_0 16 rfl rfl)
theorem dX11_filled_17 : decode cX11_filled 17 = .ok (.iload_n 3, 1) := dk_29 (dk_at dksX11_filled_0 17 rfl rfl)
theorem dX11_filled_18 : decode cX11_filled 18 = .ok (.iload_n 3, 1) := dk_29 (dk_at dksX11_filled_0 18 rfl rfl)
theorem dX11_filled_19 : decode cX11_filled 19 = .ok (.iconst 1, 1) := dk_4 (dk_at dksX11_filled_0 19 rfl rfl)
theorem dX11_filled_20 : decode cX11_filled 20 = .ok (.iadd, 1) := dk_96 (dk_at dksX11_filled_0 20 rfl rfl)
theorem dX11_filled_21 : decode cX11_filled 21 = .ok (.aload_n 0, 1) := dk_42 (dk_at dksX11_filled_0 21 rfl rfl)
theorem dX11_filled_22 : decode cX11_filled 22 = .ok (.iload_n 3, 1) := dk_29 (dk_at dksX11_filled_0 22 rfl rfl)
theorem dX11_filled_23 : decode cX11_filled 23 = .ok (.iload_n 1, 1) := dk_27 (dk_at dksX11_filled_0 23 rfl rfl)
theorem dX11_filled_24 : decode cX11_filled 24 = .ok (.invokevirtual 41, 3) := dk_182 0 41 (dk_at dksX11_filled_1 0 rfl rfl)
theorem dX11_filled_27 : decode cX11_filled 27 = .ok (.invokevirtual 45, 3) := dk_182 0 45 (dk_at dksX11_filled_1 3 rfl rfl)
theorem dX11_filled_30 : decode cX11_filled 30 = .ok (.iinc 3 1, 3) := dk_132 3 1 (dk_at dksX11_filled_1 6 rfl rfl)
theorem dX11_filled_33 : decode cX11_filled 33 = .ok (.goto (-23), 3) := dk_167 255 233 (dk_at dksX11_filled_1 9 rfl rfl)
theorem dX11_filled_36 : decode cX11_filled 36 = .ok (.aload_n 2, 1) := dk_44 (dk_at dksX11_filled_1 12 rfl rfl)
theorem dX11_filled_37 : decode cX11_filled 37 = .ok (.areturn, 1) := dk_176 (dk_at dksX11_filled_1 13 rfl rfl)
abbrev cX11_rowAt : ByteArray := prog_14_method_6_code
def yX11_rowAt : MethodName := ⟨RX11, "rowAt", "(IZ)LPolygonBoard$Spans;"⟩
def dkwX11_rowAt_5 : List UInt8 := [132, 4, 1, 167, 255, 146, 45, 176]
abbrev dktX11_rowAt_5 : List UInt8 := dkwX11_rowAt_5 ++ []
def dkwX11_rowAt_4 : List UInt8 := [3, 54, 6, 45, 21, 4, 21, 6, 153, 0, 10, 21, 4, 4, 96, 167, 0, 5, 21, 4, 182, 0, 37]
abbrev dktX11_rowAt_4 : List UInt8 := dkwX11_rowAt_4 ++ dktX11_rowAt_5
def dkwX11_rowAt_3 : List UInt8 := [21, 5, 5, 112, 153, 0, 7, 4, 167, 0, 17, 3, 167, 0, 13, 21, 5, 153, 0, 7, 4, 167, 0, 4]
abbrev dktX11_rowAt_3 : List UInt8 := dkwX11_rowAt_3 ++ dktX11_rowAt_4
def dkwX11_rowAt_2 : List UInt8 := [21, 6, 27, 182, 0, 33, 167, 0, 4, 3, 96, 54, 5, 132, 6, 1, 167, 255, 216, 28, 153, 0, 18]
abbrev dktX11_rowAt_2 : List UInt8 := dkwX11_rowAt_2 ++ dktX11_rowAt_3
def dkwX11_rowAt_1 : List UInt8 := [21, 6, 42, 180, 0, 22, 162, 0, 37, 21, 5, 42, 180, 0, 9, 21, 6, 46, 21, 4, 164, 0, 13, 42]
abbrev dktX11_rowAt_1 : List UInt8 := dkwX11_rowAt_1 ++ dktX11_rowAt_2
def dkwX11_rowAt_0 : List UInt8 := [187, 0, 30, 89, 183, 0, 32, 78, 3, 54, 4, 21, 4, 16, 24, 162, 0, 109, 3, 54, 5, 3, 54, 6]
abbrev dktX11_rowAt_0 : List UInt8 := dkwX11_rowAt_0 ++ dktX11_rowAt_1
theorem dksX11_rowAt_0 : cX11_rowAt.data.toList.drop 0 = dktX11_rowAt_0 := by decide +kernel
theorem dksX11_rowAt_1 : cX11_rowAt.data.toList.drop 24 = dktX11_rowAt_1 := dk_seg dksX11_rowAt_0 24 rfl rfl
theorem dksX11_rowAt_2 : cX11_rowAt.data.toList.drop 48 = dktX11_rowAt_2 := dk_seg dksX11_rowAt_1 24 rfl rfl
theorem dksX11_rowAt_3 : cX11_rowAt.data.toList.drop 71 = dktX11_rowAt_3 := dk_seg dksX11_rowAt_2 23 rfl rfl
theorem dksX11_rowAt_4 : cX11_rowAt.data.toList.drop 95 = dktX11_rowAt_4 := dk_seg dksX11_rowAt_3 24 rfl rfl
theorem dksX11_rowAt_5 : cX11_rowAt.data.toList.drop 118 = dktX11_rowAt_5 := dk_seg dksX11_rowAt_4 23 rfl rfl
theorem dX11_rowAt_0 : decode cX11_rowAt 0 = .ok (.new 30, 3) := dk_187 0 30 (dk_at dksX11_rowAt_0 0 rfl rfl)
theorem dX11_rowAt_3 : decode cX11_rowAt 3 = .ok (.dup, 1) := dk_89 (dk_at dksX11_rowAt_0 3 rfl rfl)
theorem dX11_rowAt_4 : decode cX11_rowAt 4 = .ok (.invokespecial 32, 3) := dk_183 0 32 (dk_at dksX11_rowAt_0 4 rfl rfl)
theorem dX11_rowAt_7 : decode cX11_rowAt 7 = .ok (.astore_n 3, 1) := dk_78 (dk_at dksX11_rowAt_0 7 rfl rfl)
theorem dX11_rowAt_8 : decode cX11_rowAt 8 = .ok (.iconst 0, 1) := dk_3 (dk_at dksX11_rowAt_0 8 rfl rfl)
theorem dX11_rowAt_9 : decode cX11_rowAt 9 = .ok (.istore 4, 2) := dk_54 4 (dk_at dksX11_rowAt_0 9 rfl rfl)
theorem dX11_rowAt_11 : decode cX11_rowAt 11 = .ok (.iload 4, 2) := dk_21 4 (dk_at dksX11_rowAt_0 11 rfl rfl)
theorem dX11_rowAt_13 : decode cX11_rowAt 13 = .ok (.bipush 24, 2) := dk_16 24 (dk_at dksX11_rowAt_0 13 rfl rfl)
theorem dX11_rowAt_15 : decode cX11_rowAt 15 = .ok (.if_icmp .ge 109, 3) := dk_162 0 109 (dk_at dksX11_rowAt_0 15 rfl rfl)
theorem dX11_rowAt_18 : decode cX11_rowAt 18 = .ok (.iconst 0, 1) := dk_3 (dk_at dksX11_rowAt_0 18 rfl rfl)
theorem dX11_rowAt_19 : decode cX11_rowAt 19 = .ok (.istore 5, 2) := dk_54 5 (dk_at dksX11_rowAt_0 19 rfl rfl)
theorem dX11_rowAt_21 : decode cX11_rowAt 21 = .ok (.iconst 0, 1) := dk_3 (dk_at dksX11_rowAt_0 21 rfl rfl)
theorem dX11_rowAt_22 : decode cX11_rowAt 22 = .ok (.istore 6, 2) := dk_54 6 (dk_at dksX11_rowAt_0 22 rfl rfl)
theorem dX11_rowAt_24 : decode cX11_rowAt 24 = .ok (.iload 6, 2) := dk_21 6 (dk_at dksX11_rowAt_1 0 rfl rfl)
theorem dX11_rowAt_26 : decode cX11_rowAt 26 = .ok (.aload_n 0, 1) := dk_42 (dk_at dksX11_rowAt_1 2 rfl rfl)
theorem dX11_rowAt_27 : decode cX11_rowAt 27 = .ok (.getfield 22, 3) := dk_180 0 22 (dk_at dksX11_rowAt_1 3 rfl rfl)
theorem dX11_rowAt_30 : decode cX11_rowAt 30 = .ok (.if_icmp .ge 37, 3) := dk_162 0 37 (dk_at dksX11_rowAt_1 6 rfl rfl)
theorem dX11_rowAt_33 : decode cX11_rowAt 33 = .ok (.iload 5, 2) := dk_21 5 (dk_at dksX11_rowAt_1 9 rfl rfl)
theorem dX11_rowAt_35 : decode cX11_rowAt 35 = .ok (.aload_n 0, 1) := dk_42 (dk_at dksX11_rowAt_1 11 rfl rfl)
theorem dX11_rowAt_36 : decode cX11_rowAt 36 = .ok (.getfield 9, 3) := dk_180 0 9 (dk_at dksX11_rowAt_1 12 rfl rfl)
theorem dX11_rowAt_39 : decode cX11_rowAt 39 = .ok (.iload 6, 2) := dk_21 6 (dk_at dksX11_rowAt_1 15 rfl rfl)
theorem dX11_rowAt_41 : decode cX11_rowAt 41 = .ok (.iaload, 1) := dk_46 (dk_at dksX11_rowAt_1 17 rfl rfl)
theorem dX11_rowAt_42 : decode cX11_rowAt 42 = .ok (.iload 4, 2) := dk_21 4 (dk_at dksX11_rowAt_1 18 rfl rfl)
theorem dX11_rowAt_44 : decode cX11_rowAt 44 = .ok (.if_icmp .le 13, 3) := dk_164 0 13 (dk_at dksX11_rowAt_1 20 rfl rfl)
theorem dX11_rowAt_47 : decode cX11_rowAt 47 = .ok (.aload_n 0, 1) := dk_42 (dk_at dksX11_rowAt_1 23 rfl rfl)
theorem dX11_rowAt_48 : decode cX11_rowAt 48 = .ok (.iload 6, 2) := dk_21 6 (dk_at dksX11_rowAt_2 0 rfl rfl)
theorem dX11_rowAt_50 : decode cX11_rowAt 50 = .ok (.iload_n 1, 1) := dk_27 (dk_at dksX11_rowAt_2 2 rfl rfl)
theorem dX11_rowAt_51 : decode cX11_rowAt 51 = .ok (.invokevirtual 33, 3) := dk_182 0 33 (dk_at dksX11_rowAt_2 3 rfl rfl)
theorem dX11_rowAt_54 : decode cX11_rowAt 54 = .ok (.goto 4, 3) := dk_167 0 4 (dk_at dksX11_rowAt_2 6 rfl rfl)
theorem dX11_rowAt_57 : decode cX11_rowAt 57 = .ok (.iconst 0, 1) := dk_3 (dk_at dksX11_rowAt_2 9 rfl rfl)
theorem dX11_rowAt_58 : decode cX11_rowAt 58 = .ok (.iadd, 1) := dk_96 (dk_at dksX11_rowAt_2 10 rfl rfl)
theorem dX11_rowAt_59 : decode cX11_rowAt 59 = .ok (.istore 5, 2) := dk_54 5 (dk_at dksX11_rowAt_2 11 rfl rfl)
theorem dX11_rowAt_61 : decode cX11_rowAt 61 = .ok (.iinc 6 1, 3) := dk_132 6 1 (dk_at dksX11_rowAt_2 13 rfl rfl)
theorem dX11_rowAt_64 : decode cX11_rowAt 64 = .ok (.goto (-40), 3) := dk_167 255 216 (dk_at dksX11_rowAt_2 16 rfl rfl)
theorem dX11_rowAt_67 : decode cX11_rowAt 67 = .ok (.iload_n 2, 1) := dk_28 (dk_at dksX11_rowAt_2 19 rfl rfl)
theorem dX11_rowAt_68 : decode cX11_rowAt 68 = .ok (.ifCond .eq 18, 3) := dk_153 0 18 (dk_at dksX11_rowAt_2 20 rfl rfl)
theorem dX11_rowAt_71 : decode cX11_rowAt 71 = .ok (.iload 5, 2) := dk_21 5 (dk_at dksX11_rowAt_3 0 rfl rfl)
theorem dX11_rowAt_73 : decode cX11_rowAt 73 = .ok (.iconst 2, 1) := dk_5 (dk_at dksX11_rowAt_3 2 rfl rfl)
theorem dX11_rowAt_74 : decode cX11_rowAt 74 = .ok (.irem, 1) := dk_112 (dk_at dksX11_rowAt_3 3 rfl rfl)
theorem dX11_rowAt_75 : decode cX11_rowAt 75 = .ok (.ifCond .eq 7, 3) := dk_153 0 7 (dk_at dksX11_rowAt_3 4 rfl rfl)
theorem dX11_rowAt_78 : decode cX11_rowAt 78 = .ok (.iconst 1, 1) := dk_4 (dk_at dksX11_rowAt_3 7 rfl rfl)
theorem dX11_rowAt_79 : decode cX11_rowAt 79 = .ok (.goto 17, 3) := dk_167 0 17 (dk_at dksX11_rowAt_3 8 rfl rfl)
theorem dX11_rowAt_82 : decode cX11_rowAt 82 = .ok (.iconst 0, 1) := dk_3 (dk_at dksX11_rowAt_3 11 rfl rfl)
theorem dX11_rowAt_83 : decode cX11_rowAt 83 = .ok (.goto 13, 3) := dk_167 0 13 (dk_at dksX11_rowAt_3 12 rfl rfl)
theorem dX11_rowAt_86 : decode cX11_rowAt 86 = .ok (.iload 5, 2) := dk_21 5 (dk_at dksX11_rowAt_3 15 rfl rfl)
theorem dX11_rowAt_88 : decode cX11_rowAt 88 = .ok (.ifCond .eq 7, 3) := dk_153 0 7 (dk_at dksX11_rowAt_3 17 rfl rfl)
theorem dX11_rowAt_91 : decode cX11_rowAt 91 = .ok (.iconst 1, 1) := dk_4 (dk_at dksX11_rowAt_3 20 rfl rfl)
theorem dX11_rowAt_92 : decode cX11_rowAt 92 = .ok (.goto 4, 3) := dk_167 0 4 (dk_at dksX11_rowAt_3 21 rfl rfl)
theorem dX11_rowAt_95 : decode cX11_rowAt 95 = .ok (.iconst 0, 1) := dk_3 (dk_at dksX11_rowAt_4 0 rfl rfl)
theorem dX11_rowAt_96 : decode cX11_rowAt 96 = .ok (.istore 6, 2) := dk_54 6 (dk_at dksX11_rowAt_4 1 rfl rfl)
theorem dX11_rowAt_98 : decode cX11_rowAt 98 = .ok (.aload_n 3, 1) := dk_45 (dk_at dksX11_rowAt_4 3 rfl rfl)
theorem dX11_rowAt_99 : decode cX11_rowAt 99 = .ok (.iload 4, 2) := dk_21 4 (dk_at dksX11_rowAt_4 4 rfl rfl)
theorem dX11_rowAt_101 : decode cX11_rowAt 101 = .ok (.iload 6, 2) := dk_21 6 (dk_at dksX11_rowAt_4 6 rfl rfl)
theorem dX11_rowAt_103 : decode cX11_rowAt 103 = .ok (.ifCond .eq 10, 3) := dk_153 0 10 (dk_at dksX11_rowAt_4 8 rfl rfl)
theorem dX11_rowAt_106 : decode cX11_rowAt 106 = .ok (.iload 4, 2) := dk_21 4 (dk_at dksX11_rowAt_4 11 rfl rfl)
theorem dX11_rowAt_108 : decode cX11_rowAt 108 = .ok (.iconst 1, 1) := dk_4 (dk_at dksX11_rowAt_4 13 rfl rfl)
theorem dX11_rowAt_109 : decode cX11_rowAt 109 = .ok (.iadd, 1) := dk_96 (dk_at dksX11_rowAt_4 14 rfl rfl)
theorem dX11_rowAt_110 : decode cX11_rowAt 110 = .ok (.goto 5, 3) := dk_167 0 5 (dk_at dksX11_rowAt_4 15 rfl rfl)
theorem dX11_rowAt_113 : decode cX11_rowAt 113 = .ok (.iload 4, 2) := dk_21 4 (dk_at dksX11_rowAt_4 18 rfl rfl)
theorem dX11_rowAt_115 : decode cX11_rowAt 115 = .ok (.invokevirtual 37, 3) := dk_182 0 37 (dk_at dksX11_rowAt_4 20 rfl rfl)
theorem dX11_rowAt_118 : decode cX11_rowAt 118 = .ok (.iinc 4 1, 3) := dk_132 4 1 (dk_at dksX11_rowAt_5 0 rfl rfl)
theorem dX11_rowAt_121 : decode cX11_rowAt 121 = .ok (.goto (-110), 3) := dk_167 255 146 (dk_at dksX11_rowAt_5 3 rfl rfl)
theorem dX11_rowAt_124 : decode cX11_rowAt 124 = .ok (.aload_n 3, 1) := dk_45 (dk_at dksX11_rowAt_5 6 rfl rfl)
theorem dX11_rowAt_125 : decode cX11_rowAt 125 = .ok (.areturn, 1) := dk_176 (dk_at dksX11_rowAt_5 7 rfl rfl)
abbrev cX11_risesAt : ByteArray := prog_14_method_5_code
def yX11_risesAt : MethodName := ⟨RX11, "risesAt", "(II)I"⟩
def dkwX11_risesAt_2 : List UInt8 := [164, 0, 7, 2, 167, 0, 4, 3, 172]
abbrev dktX11_risesAt_2 : List UInt8 := dkwX11_risesAt_2 ++ []
def dkwX11_risesAt_1 : List UInt8 := [46, 28, 164, 0, 5, 4, 172, 42, 180, 0, 15, 29, 46, 28, 163, 0, 17, 42, 180, 0, 15, 27, 46, 28]
abbrev dktX11_risesAt_1 : List UInt8 := dkwX11_risesAt_1 ++ dktX11_risesAt_2
def dkwX11_risesAt_0 : List UInt8 := [27, 4, 96, 42, 180, 0, 22, 112, 62, 42, 180, 0, 15, 27, 46, 28, 163, 0, 15, 42, 180, 0, 15, 29]
abbrev dktX11_risesAt_0 : List UInt8 := dkwX11_risesAt_0 ++ dktX11_risesAt_1
theorem dksX11_risesAt_0 : cX11_risesAt.data.toList.drop 0 = dktX11_risesAt_0 := by decide +kernel
theorem dksX11_risesAt_1 : cX11_risesAt.data.toList.drop 24 = dktX11_risesAt_1 := dk_seg dksX11_risesAt_0 24 rfl rfl
theorem dksX11_risesAt_2 : cX11_risesAt.data.toList.drop 48 = dktX11_risesAt_2 := dk_seg dksX11_risesAt_1 24 rfl rfl
theorem dX11_risesAt_0 : decode cX11_risesAt 0 = .ok (.iload_n 1, 1) := dk_27 (dk_at dksX11_risesAt_0 0 rfl rfl)
theorem dX11_risesAt_1 : decode cX11_risesAt 1 = .ok (.iconst 1, 1) := dk_4 (dk_at dksX11_risesAt_0 1 rfl rfl)
theorem dX11_risesAt_2 : decode cX11_risesAt 2 = .ok (.iadd, 1) := dk_96 (dk_at dksX11_risesAt_0 2 rfl rfl)
theorem dX11_risesAt_3 : decode cX11_risesAt 3 = .ok (.aload_n 0, 1) := dk_42 (dk_at dksX11_risesAt_0 3 rfl rfl)
theorem dX11_risesAt_4 : decode cX11_risesAt 4 = .ok (.getfield 22, 3) := dk_180 0 22 (dk_at dksX11_risesAt_0 4 rfl rfl)
theorem dX11_risesAt_7 : decode cX11_risesAt 7 = .ok (.irem, 1) := dk_112 (dk_at dksX11_risesAt_0 7 rfl rfl)
theorem dX11_risesAt_8 : decode cX11_risesAt 8 = .ok (.istore_n 3, 1) := dk_62 (dk_at dksX11_risesAt_0 8 rfl rfl)
theorem dX11_risesAt_9 : decode cX11_risesAt 9 = .ok (.aload_n 0, 1) := dk_42 (dk_at dksX11_risesAt_0 9 rfl rfl)
theorem dX11_risesAt_10 : decode cX11_risesAt 10 = .ok (.getfield 15, 3) := dk_180 0 15 (dk_at dksX11_risesAt_0 10 rfl rfl)
theorem dX11_risesAt_13 : decode cX11_risesAt 13 = .ok (.iload_n 1, 1) := dk_27 (dk_at dksX11_risesAt_0 13 rfl rfl)
theorem dX11_risesAt_14 : decode cX11_risesAt 14 = .ok (.iaload, 1) := dk_46 (dk_at dksX11_risesAt_0 14 rfl rfl)
theorem dX11_risesAt_15 : decode cX11_risesAt 15 = .ok (.iload_n 2, 1) := dk_28 (dk_at dksX11_risesAt_0 15 rfl rfl)
theorem dX11_risesAt_16 : decode cX11_risesAt 16 = .ok (.if_icmp .gt 15, 3) := dk_163 0 15 (dk_at dksX11_risesAt_0 16 rfl rfl)
theorem dX11_risesAt_19 : decode cX11_risesAt 19 = .ok (.aload_n 0, 1) := dk_42 (dk_at dksX11_risesAt_0 19 rfl rfl)
theorem dX11_risesAt_20 : decode cX11_risesAt 20 = .ok (.getfield 15, 3) := dk_180 0 15 (dk_at dksX11_risesAt_0 20 rfl rfl)
theorem dX11_risesAt_23 : decode cX11_risesAt 23 = .ok (.iload_n 3, 1) := dk_29 (dk_at dksX11_risesAt_0 23 rfl rfl)
theorem dX11_risesAt_24 : decode cX11_risesAt 24 = .ok (.iaload, 1) := dk_46 (dk_at dksX11_risesAt_1 0 rfl rfl)
theorem dX11_risesAt_25 : decode cX11_risesAt 25 = .ok (.iload_n 2, 1) := dk_28 (dk_at dksX11_risesAt_1 1 rfl rfl)
theorem dX11_risesAt_26 : decode cX11_risesAt 26 = .ok (.if_icmp .le 5, 3) := dk_164 0 5 (dk_at dksX11_risesAt_1 2 rfl rfl)
theorem dX11_risesAt_29 : decode cX11_risesAt 29 = .ok (.iconst 1, 1) := dk_4 (dk_at dksX11_risesAt_1 5 rfl rfl)
theorem dX11_risesAt_30 : decode cX11_risesAt 30 = .ok (.ireturn, 1) := dk_172 (dk_at dksX11_risesAt_1 6 rfl rfl)
theorem dX11_risesAt_31 : decode cX11_risesAt 31 = .ok (.aload_n 0, 1) := dk_42 (dk_at dksX11_risesAt_1 7 rfl rfl)
theorem dX11_risesAt_32 : decode cX11_risesAt 32 = .ok (.getfield 15, 3) := dk_180 0 15 (dk_at dksX11_risesAt_1 8 rfl rfl)
theorem dX11_risesAt_35 : decode cX11_risesAt 35 = .ok (.iload_n 3, 1) := dk_29 (dk_at dksX11_risesAt_1 11 rfl rfl)
theorem dX11_risesAt_36 : decode cX11_risesAt 36 = .ok (.iaload, 1) := dk_46 (dk_at dksX11_risesAt_1 12 rfl rfl)
theorem dX11_risesAt_37 : decode cX11_risesAt 37 = .ok (.iload_n 2, 1) := dk_28 (dk_at dksX11_risesAt_1 13 rfl rfl)
theorem dX11_risesAt_38 : decode cX11_risesAt 38 = .ok (.if_icmp .gt 17, 3) := dk_163 0 17 (dk_at dksX11_risesAt_1 14 rfl rfl)
theorem dX11_risesAt_41 : decode cX11_risesAt 41 = .ok (.aload_n 0, 1) := dk_42 (dk_at dksX11_risesAt_1 17 rfl rfl)
theorem dX11_risesAt_42 : decode cX11_risesAt 42 = .ok (.getfield 15, 3) := dk_180 0 15 (dk_at dksX11_risesAt_1 18 rfl rfl)
theorem dX11_risesAt_45 : decode cX11_risesAt 45 = .ok (.iload_n 1, 1) := dk_27 (dk_at dksX11_risesAt_1 21 rfl rfl)
theorem dX11_risesAt_46 : decode cX11_risesAt 46 = .ok (.iaload, 1) := dk_46 (dk_at dksX11_risesAt_1 22 rfl rfl)
theorem dX11_risesAt_47 : decode cX11_risesAt 47 = .ok (.iload_n 2, 1) := dk_28 (dk_at dksX11_risesAt_1 23 rfl rfl)
theorem dX11_risesAt_48 : decode cX11_risesAt 48 = .ok (.if_icmp .le 7, 3) := dk_164 0 7 (dk_at dksX11_risesAt_2 0 rfl rfl)
theorem dX11_risesAt_51 : decode cX11_risesAt 51 = .ok (.iconst (-1), 1) := dk_2 (dk_at dksX11_risesAt_2 3 rfl rfl)
theorem dX11_risesAt_52 : decode cX11_risesAt 52 = .ok (.goto 4, 3) := dk_167 0 4 (dk_at dksX11_risesAt_2 4 rfl rfl)
theorem dX11_risesAt_55 : decode cX11_risesAt 55 = .ok (.iconst 0, 1) := dk_3 (dk_at dksX11_risesAt_2 7 rfl rfl)
theorem dX11_risesAt_56 : decode cX11_risesAt 56 = .ok (.ireturn, 1) := dk_172 (dk_at dksX11_risesAt_2 8 rfl rfl)
theorem q80 : (Jvm.Cond.initialized "PolygonBoard$Path") ∈ lw_all := lw_g (lw_at lw_m1 30 rfl) rfl
theorem q195 : (Jvm.Cond.selects "PolygonBoard$Path" ({ cls := "java/lang/Object", name := "getClass", desc := "()Ljava/lang/Class;" } : Jvm.MethodName) ({ cls := "java/lang/Object", name := "getClass", desc := "()Ljava/lang/Class;" } : Jvm.MethodName)) ∈ lw_all := lw_g (lw_at lw_m1 145 rfl) rfl
theorem q753 : (Jvm.Cond.instantiable "PolygonBoard$Path" (3 : Nat)) ∈ lw_all := lw_g (lw_at lw_m3 223 rfl) rfl
theorem q755 : (Jvm.Cond.instanceMethod ({ cls := "PolygonBoard$Path", name := "<init>", desc := "(II)V" } : Jvm.MethodName)) ∈ lw_all := lw_g (lw_at lw_m3 225 rfl) rfl
theorem q756 : (Jvm.Cond.code ({ cls := "PolygonBoard$Path", name := "<init>", desc := "(II)V" } : Jvm.MethodName) prog_14_method_1_code (3 : Nat) (Option.none : Option Jvm.ClassFile.FieldType)) ∈ lw_all := lw_g (lw_at lw_m3 226 rfl) rfl
theorem q757 : (Jvm.Cond.methodLink "PolygonBoard$Path" (3 : Nat) ({ cls := "java/lang/Object", name := "<init>", desc := "()V" } : Jvm.MethodName)) ∈ lw_all := lw_g (lw_at lw_m3 227 rfl) rfl
theorem q758 : (Jvm.Cond.methodLink "PolygonBoard$Path" (18 : Nat) ({ cls := "PolygonBoard$Path", name := "add", desc := "(II)V" } : Jvm.MethodName)) ∈ lw_all := lw_g (lw_at lw_m3 228 rfl) rfl
theorem q759 : (Jvm.Cond.instanceMethod ({ cls := "PolygonBoard$Path", name := "add", desc := "(II)V" } : Jvm.MethodName)) ∈ lw_all := lw_g (lw_at lw_m3 229 rfl) rfl
theorem q760 : (Jvm.Cond.selects "PolygonBoard$Path" ({ cls := "PolygonBoard$Path", name := "add", desc := "(II)V" } : Jvm.MethodName) ({ cls := "PolygonBoard$Path", name := "add", desc := "(II)V" } : Jvm.MethodName)) ∈ lw_all := lw_g (lw_at lw_m3 230 rfl) rfl
theorem q761 : (Jvm.Cond.code ({ cls := "PolygonBoard$Path", name := "add", desc := "(II)V" } : Jvm.MethodName) prog_14_method_2_code (3 : Nat) (Option.none : Option Jvm.ClassFile.FieldType)) ∈ lw_all := lw_g (lw_at lw_m3 231 rfl) rfl
theorem q762 : (Jvm.Cond.fieldLink "PolygonBoard$Path" (9 : Nat) "PolygonBoard$Path" "xs" "[I") ∈ lw_all := lw_g (lw_at lw_m3 232 rfl) rfl
theorem q763 : (Jvm.Cond.fieldLink "PolygonBoard$Path" (15 : Nat) "PolygonBoard$Path" "ys" "[I") ∈ lw_all := lw_g (lw_at lw_m3 233 rfl) rfl
theorem q764 : (Jvm.Cond.fieldLink "PolygonBoard$Path" (22 : Nat) "PolygonBoard$Path" "count" "I") ∈ lw_all := lw_g (lw_at lw_m3 234 rfl) rfl
theorem q766 : (Jvm.Cond.laysFinal "PolygonBoard$Path" "PolygonBoard$Path" "xs" "[I") ∈ lw_all := lw_g (lw_at lw_m3 236 rfl) rfl
theorem q767 : (Jvm.Cond.soleField "PolygonBoard$Path" "xs") ∈ lw_all := lw_g (lw_at lw_m3 237 rfl) rfl
theorem q768 : (Jvm.Cond.laysFinal "PolygonBoard$Path" "PolygonBoard$Path" "ys" "[I") ∈ lw_all := lw_g (lw_at lw_m3 238 rfl) rfl
theorem q769 : (Jvm.Cond.soleField "PolygonBoard$Path" "ys") ∈ lw_all := lw_g (lw_at lw_m3 239 rfl) rfl
theorem q770 : (Jvm.Cond.lays "PolygonBoard$Path" "PolygonBoard$Path" "count" "I") ∈ lw_all := lw_g (lw_at lw_m4 0 rfl) rfl
theorem q771 : (Jvm.Cond.soleField "PolygonBoard$Path" "count") ∈ lw_all := lw_g (lw_at lw_m4 1 rfl) rfl
theorem q772 : (Jvm.Cond.superclass "PolygonBoard$Path" "java/lang/Object") ∈ lw_all := lw_g (lw_at lw_m4 2 rfl) rfl
theorem q801 : (Jvm.Cond.instanceMethod ({ cls := "PolygonBoard$Path", name := "isStraightFrom", desc := "(III)Z" } : Jvm.MethodName)) ∈ lw_all := lw_g (lw_at lw_m4 31 rfl) rfl
theorem q802 : (Jvm.Cond.selects "PolygonBoard$Path" ({ cls := "PolygonBoard$Path", name := "isStraightFrom", desc := "(III)Z" } : Jvm.MethodName) ({ cls := "PolygonBoard$Path", name := "isStraightFrom", desc := "(III)Z" } : Jvm.MethodName)) ∈ lw_all := lw_g (lw_at lw_m4 32 rfl) rfl
theorem q803 : (Jvm.Cond.code ({ cls := "PolygonBoard$Path", name := "isStraightFrom", desc := "(III)Z" } : Jvm.MethodName) prog_14_method_3_code (4 : Nat) (Option.some Jvm.ClassFile.FieldType.boolean)) ∈ lw_all := lw_g (lw_at lw_m4 33 rfl) rfl
theorem q813 : (Jvm.Cond.instanceMethod ({ cls := "PolygonBoard$Path", name := "canClose", desc := "()Z" } : Jvm.MethodName)) ∈ lw_all := lw_g (lw_at lw_m4 43 rfl) rfl
theorem q814 : (Jvm.Cond.selects "PolygonBoard$Path" ({ cls := "PolygonBoard$Path", name := "canClose", desc := "()Z" } : Jvm.MethodName) ({ cls := "PolygonBoard$Path", name := "canClose", desc := "()Z" } : Jvm.MethodName)) ∈ lw_all := lw_g (lw_at lw_m4 44 rfl) rfl
theorem q815 : (Jvm.Cond.code ({ cls := "PolygonBoard$Path", name := "canClose", desc := "()Z" } : Jvm.MethodName) prog_14_method_4_code (1 : Nat) (Option.some Jvm.ClassFile.FieldType.boolean)) ∈ lw_all := lw_g (lw_at lw_m4 45 rfl) rfl
theorem q816 : (Jvm.Cond.methodLink "PolygonBoard$Path" (26 : Nat) ({ cls := "PolygonBoard$Path", name := "isStraightFrom", desc := "(III)Z" } : Jvm.MethodName)) ∈ lw_all := lw_g (lw_at lw_m4 46 rfl) rfl
theorem q818 : (Jvm.Cond.instanceMethod ({ cls := "PolygonBoard$Path", name := "filled", desc := "(Z)LPolygonBoard$Region;" } : Jvm.MethodName)) ∈ lw_all := lw_g (lw_at lw_m4 48 rfl) rfl
theorem q819 : (Jvm.Cond.selects "PolygonBoard$Path" ({ cls := "PolygonBoard$Path", name := "filled", desc := "(Z)LPolygonBoard$Region;" } : Jvm.MethodName) ({ cls := "PolygonBoard$Path", name := "filled", desc := "(Z)LPolygonBoard$Region;" } : Jvm.MethodName)) ∈ lw_all := lw_g (lw_at lw_m4 49 rfl) rfl
theorem q820 : (Jvm.Cond.code ({ cls := "PolygonBoard$Path", name := "filled", desc := "(Z)LPolygonBoard$Region;" } : Jvm.MethodName) prog_14_method_7_code (4 : Nat) (Option.some (Jvm.ClassFile.FieldType.object "PolygonBoard$Region"))) ∈ lw_all := lw_g (lw_at lw_m4 50 rfl) rfl
theorem q821 : (Jvm.Cond.classLink "PolygonBoard$Path" (38 : Nat) "PolygonBoard$Region") ∈ lw_all := lw_g (lw_at lw_m4 51 rfl) rfl
theorem q822 : (Jvm.Cond.methodLinkNest "PolygonBoard$Path" (40 : Nat) ({ cls := "PolygonBoard$Region", name := "<init>", desc := "()V" } : Jvm.MethodName) "PolygonBoard") ∈ lw_tbl := lw_at lw_m4 52 rfl
theorem q823 : (Jvm.Cond.methodLink "PolygonBoard$Path" (41 : Nat) ({ cls := "PolygonBoard$Path", name := "rowAt", desc := "(IZ)LPolygonBoard$Spans;" } : Jvm.MethodName)) ∈ lw_all := lw_g (lw_at lw_m4 53 rfl) rfl
theorem q824 : (Jvm.Cond.privateMethod ({ cls := "PolygonBoard$Path", name := "rowAt", desc := "(IZ)LPolygonBoard$Spans;" } : Jvm.MethodName)) ∈ lw_tbl := lw_at lw_m4 54 rfl
theorem q825 : (Jvm.Cond.instanceMethod ({ cls := "PolygonBoard$Path", name := "rowAt", desc := "(IZ)LPolygonBoard$Spans;" } : Jvm.MethodName)) ∈ lw_all := lw_g (lw_at lw_m4 55 rfl) rfl
theorem q826 : (Jvm.Cond.code ({ cls := "PolygonBoard$Path", name := "rowAt", desc := "(IZ)LPolygonBoard$Spans;" } : Jvm.MethodName) prog_14_method_6_code (7 : Nat) (Option.some (Jvm.ClassFile.FieldType.object "PolygonBoard$Spans"))) ∈ lw_all := lw_g (lw_at lw_m4 56 rfl) rfl
theorem q827 : (Jvm.Cond.classLink "PolygonBoard$Path" (30 : Nat) "PolygonBoard$Spans") ∈ lw_all := lw_g (lw_at lw_m4 57 rfl) rfl
theorem q828 : (Jvm.Cond.methodLinkNest "PolygonBoard$Path" (32 : Nat) ({ cls := "PolygonBoard$Spans", name := "<init>", desc := "()V" } : Jvm.MethodName) "PolygonBoard") ∈ lw_tbl := lw_at lw_m4 58 rfl
theorem q829 : (Jvm.Cond.methodLink "PolygonBoard$Path" (33 : Nat) ({ cls := "PolygonBoard$Path", name := "risesAt", desc := "(II)I" } : Jvm.MethodName)) ∈ lw_all := lw_g (lw_at lw_m4 59 rfl) rfl
theorem q830 : (Jvm.Cond.privateMethod ({ cls := "PolygonBoard$Path", name := "risesAt", desc := "(II)I" } : Jvm.MethodName)) ∈ lw_tbl := lw_at lw_m4 60 rfl
theorem q831 : (Jvm.Cond.instanceMethod ({ cls := "PolygonBoard$Path", name := "risesAt", desc := "(II)I" } : Jvm.MethodName)) ∈ lw_all := lw_g (lw_at lw_m4 61 rfl) rfl
theorem q832 : (Jvm.Cond.code ({ cls := "PolygonBoard$Path", name := "risesAt", desc := "(II)I" } : Jvm.MethodName) prog_14_method_5_code (4 : Nat) (Option.some Jvm.ClassFile.FieldType.int)) ∈ lw_all := lw_g (lw_at lw_m4 62 rfl) rfl
theorem q833 : (Jvm.Cond.methodLink "PolygonBoard$Path" (37 : Nat) ({ cls := "PolygonBoard$Spans", name := "add", desc := "(II)V" } : Jvm.MethodName)) ∈ lw_all := lw_g (lw_at lw_m4 63 rfl) rfl
theorem q834 : (Jvm.Cond.methodLink "PolygonBoard$Path" (45 : Nat) ({ cls := "PolygonBoard$Region", name := "add", desc := "(IILPolygonBoard$Spans;)V" } : Jvm.MethodName)) ∈ lw_all := lw_g (lw_at lw_m4 64 rfl) rfl
theorem q2142 : (Jvm.Cond.castable "PolygonBoard$Path" "java/lang/Object") ∈ lw_tbl := lw_at lw_m9 172 rfl
theorem in_X11 : ∀ w ∈ wsX110, w ∈ lw_all := lw_in wsX110 [766, 768, 770] (by decide +kernel) (by decide +kernel)
/-! PolygonBoard$Cells -/
set_option maxRecDepth 100000
def RX12 : String := "PolygonBoard$Cells"
def TX12 : u_T := fun k => match k with
  | _ => ("PolygonBoard$Cells", "rows", "[I", true)
def tyX12 : Nat → FieldType := fun k => match k with
  | _ => .array .int
abbrev wsX120 : List Cond := u_ws RX12 TX12 1
theorem nmX12 : ∀ a, a < 1 → ∀ b, b < 1 → a ≠ b → (TX12 a).2.1 ≠ (TX12 b).2.1 := by decide +kernel
theorem tyX12_ok : ∀ k, k < 1 → parseFieldDescriptor (TX12 k).2.2.1 = some (tyX12 k) := by decide +kernel
abbrev cX12_of : ByteArray := prog_4_method_2_code
def yX12_of : MethodName := ⟨RX12, "of", "(LPolygonBoard$Region;)LPolygonBoard$Cells;"⟩
def dkwX12_of_3 : List UInt8 := [167, 255, 197, 43, 176]
abbrev dktX12_of_3 : List UInt8 := dkwX12_of_3 ++ []
def dkwX12_of_2 : List UInt8 := [182, 0, 28, 120, 4, 45, 21, 4, 182, 0, 32, 120, 100, 128, 79, 132, 4, 1, 167, 255, 218, 132, 2, 1]
abbrev dktX12_of_2 : List UInt8 := dkwX12_of_2 ++ dktX12_of_3
def dkwX12_of_1 : List UInt8 := [54, 4, 21, 4, 45, 182, 0, 22, 162, 0, 35, 43, 180, 0, 9, 28, 92, 46, 4, 45, 21, 4]
abbrev dktX12_of_1 : List UInt8 := dkwX12_of_1 ++ dktX12_of_2
def dkwX12_of_0 : List UInt8 := [187, 0, 10, 89, 183, 0, 15, 76, 3, 61, 28, 16, 24, 162, 0, 59, 42, 28, 182, 0, 16, 78, 3]
abbrev dktX12_of_0 : List UInt8 := dkwX12_of_0 ++ dktX12_of_1
theorem dksX12_of_0 : cX12_of.data.toList.drop 0 = dktX12_of_0 := by decide +kernel
theorem dksX12_of_1 : cX12_of.data.toList.drop 23 = dktX12_of_1 := dk_seg dksX12_of_0 23 rfl rfl
theorem dksX12_of_2 : cX12_of.data.toList.drop 45 = dktX12_of_2 := dk_seg dksX12_of_1 22 rfl rfl
theorem dksX12_of_3 : cX12_of.data.toList.drop 69 = dktX12_of_3 := dk_seg dksX12_of_2 24 rfl rfl
theorem dX12_of_0 : decode cX12_of 0 = .ok (.new 10, 3) := dk_187 0 10 (dk_at dksX12_of_0 0 rfl rfl)
theorem dX12_of_3 : decode cX12_of 3 = .ok (.dup, 1) := dk_89 (dk_at dksX12_of_0 3 rfl rfl)
theorem dX12_of_4 : decode cX12_of 4 = .ok (.invokespecial 15, 3) := dk_183 0 15 (dk_at dksX12_of_0 4 rfl rfl)
theorem dX12_of_7 : decode cX12_of 7 = .ok (.astore_n 1, 1) := dk_76 (dk_at dksX12_of_0 7 rfl rfl)
theorem dX12_of_8 : decode cX12_of 8 = .ok (.iconst 0, 1) := dk_3 (dk_at dksX12_of_0 8 rfl rfl)
theorem dX12_of_9 : decode cX12_of 9 = .ok (.istore_n 2, 1) := dk_61 (dk_at dksX12_of_0 9 rfl rfl)
theorem dX12_of_10 : decode cX12_of 10 = .ok (.iload_n 2, 1) := dk_28 (dk_at dksX12_of_0 10 rfl rfl)
theorem dX12_of_11 : decode cX12_of 11 = .ok (.bipush 24, 2) := dk_16 24 (dk_at dksX12_of_0 11 rfl rfl)
theorem dX12_of_13 : decode cX12_of 13 = .ok (.if_icmp .ge 59, 3) := dk_162 0 59 (dk_at dksX12_of_0 13 rfl rfl)
theorem dX12_of_16 : decode cX12_of 16 = .ok (.aload_n 0, 1) := dk_42 (dk_at dksX12_of_0 16 rfl rfl)
theorem dX12_of_17 : decode cX12_of 17 = .ok (.iload_n 2, 1) := dk_28 (dk_at dksX12_of_0 17 rfl rfl)
theorem dX12_of_18 : decode cX12_of 18 = .ok (.invokevirtual 16, 3) := dk_182 0 16 (dk_at dksX12_of_0 18 rfl rfl)
theorem dX12_of_21 : decode cX12_of 21 = .ok (.astore_n 3, 1) := dk_78 (dk_at dksX12_of_0 21 rfl rfl)
theorem dX12_of_22 : decode cX12_of 22 = .ok (.iconst 0, 1) := dk_3 (dk_at dksX12_of_0 22 rfl rfl)
theorem dX12_of_23 : decode cX12_of 23 = .ok (.istore 4, 2) := dk_54 4 (dk_at dksX12_of_1 0 rfl rfl)
theorem dX12_of_25 : decode cX12_of 25 = .ok (.iload 4, 2) := dk_21 4 (dk_at dksX12_of_1 2 rfl rfl)
theorem dX12_of_27 : decode cX12_of 27 = .ok (.aload_n 3, 1) := dk_45 (dk_at dksX12_of_1 4 rfl rfl)
theorem dX12_of_28 : decode cX12_of 28 = .ok (.invokevirtual 22, 3) := dk_182 0 22 (dk_at dksX12_of_1 5 rfl rfl)
theorem dX12_of_31 : decode cX12_of 31 = .ok (.if_icmp .ge 35, 3) := dk_162 0 35 (dk_at dksX12_of_1 8 rfl rfl)
theorem dX12_of_34 : decode cX12_of 34 = .ok (.aload_n 1, 1) := dk_43 (dk_at dksX12_of_1 11 rfl rfl)
theorem dX12_of_35 : decode cX12_of 35 = .ok (.getfield 9, 3) := dk_180 0 9 (dk_at dksX12_of_1 12 rfl rfl)
theorem dX12_of_38 : decode cX12_of 38 = .ok (.iload_n 2, 1) := dk_28 (dk_at dksX12_of_1 15 rfl rfl)
theorem dX12_of_39 : decode cX12_of 39 = .ok (.dup2, 1) := dk_92 (dk_at dksX12_of_1 16 rfl rfl)
theorem dX12_of_40 : decode cX12_of 40 = .ok (.iaload, 1) := dk_46 (dk_at dksX12_of_1 17 rfl rfl)
theorem dX12_of_41 : decode cX12_of 41 = .ok (.iconst 1, 1) := dk_4 (dk_at dksX12_of_1 18 rfl rfl)
theorem dX12_of_42 : decode cX12_of 42 = .ok (.aload_n 3, 1) := dk_45 (dk_at dksX12_of_1 19 rfl rfl)
theorem dX12_of_43 : decode cX12_of 43 = .ok (.iload 4, 2) := dk_21 4 (dk_at dksX12_of_1 20 rfl rfl)
theorem dX12_of_45 : decode cX12_of 45 = .ok (.invokevirtual 28, 3) := dk_182 0 28 (dk_at dksX12_of_2 0 rfl rfl)
theorem dX12_of_48 : decode cX12_of 48 = .ok (.ishl, 1) := dk_120 (dk_at dksX12_of_2 3 rfl rfl)
theorem dX12_of_49 : decode cX12_of 49 = .ok (.iconst 1, 1) := dk_4 (dk_at dksX12_of_2 4 rfl rfl)
theorem dX12_of_50 : decode cX12_of 50 = .ok (.aload_n 3, 1) := dk_45 (dk_at dksX12_of_2 5 rfl rfl)
theorem dX12_of_51 : decode cX12_of 51 = .ok (.iload 4, 2) := dk_21 4 (dk_at dksX12_of_2 6 rfl rfl)
theorem dX12_of_53 : decode cX12_of 53 = .ok (.invokevirtual 32, 3) := dk_182 0 32 (dk_at dksX12_of_2 8 rfl rfl)
theorem dX12_of_56 : decode cX12_of 56 = .ok (.ishl, 1) := dk_120 (dk_at dksX12_of_2 11 rfl rfl)
theorem dX12_of_57 : decode cX12_of 57 = .ok (.isub, 1) := dk_100 (dk_at dksX12_of_2 12 rfl rfl)
theorem dX12_of_58 : decode cX12_of 58 = .ok (.ior, 1) := dk_128 (dk_at dksX12_of_2 13 rfl rfl)
theorem dX12_of_59 : decode cX12_of 59 = .ok (.iastore, 1) := dk_79 (dk_at dksX12_of_2 14 rfl rfl)
theorem dX12_of_60 : decode cX12_of 60 = .ok (.iinc 4 1, 3) := dk_132 4 1 (dk_at dksX12_of_2 15 rfl rfl)
theorem dX12_of_63 : decode cX12_of 63 = .ok (.goto (-38), 3) := dk_167 255 218 (dk_at dksX12_of_2 18 rfl rfl)
theorem dX12_of_66 : decode cX12_of 66 = .ok (.iinc 2 1, 3) := dk_132 2 1 (dk_at dksX12_of_2 21 rfl rfl)
theorem dX12_of_69 : decode cX12_of 69 = .ok (.goto (-59), 3) := dk_167 255 197 (dk_at dksX12_of_3 0 rfl rfl)
theorem dX12_of_72 : decode cX12_of 72 = .ok (.aload_n 1, 1) := dk_43 (dk_at dksX12_of_3 3 rfl rfl)
theorem dX12_of_73 : decode cX12_of 73 = .ok (.areturn, 1) := dk_176 (dk_at dksX12_of_3 4 rfl rfl)
abbrev cX12_init : ByteArray := prog_4_method_1_code
def yX12_init : MethodName := ⟨RX12, "<init>", "()V"⟩
def dkwX12_init_0 : List UInt8 := [42, 183, 0, 3, 42, 16, 24, 188, 10, 181, 0, 9, 177]
abbrev dktX12_init_0 : List UInt8 := dkwX12_init_0 ++ []
theorem dksX12_init_0 : cX12_init.data.toList.drop 0 = dktX12_init_0 := by decide +kernel
theorem dX12_init_0 : decode cX12_init 0 = .ok (.aload_n 0, 1) := dk_42 (dk_at dksX12_init_0 0 rfl rfl)
theorem dX12_init_1 : decode cX12_init 1 = .ok (.invokespecial 3, 3) := dk_183 0 3 (dk_at dksX12_init_0 1 rfl rfl)
theorem dX12_init_4 : decode cX12_init 4 = .ok (.aload_n 0, 1) := dk_42 (dk_at dksX12_init_0 4 rfl rfl)
theorem dX12_init_5 : decode cX12_init 5 = .ok (.bipush 24, 2) := dk_16 24 (dk_at dksX12_init_0 5 rfl rfl)
theorem dX12_init_7 : decode cX12_init 7 = .ok (.newarray .int, 2) := dk_188_10 (dk_at dksX12_init_0 7 rfl rfl)
theorem dX12_init_9 : decode cX12_init 9 = .ok (.putfield 9, 3) := dk_181 0 9 (dk_at dksX12_init_0 9 rfl rfl)
theorem dX12_init_12 : decode cX12_init 12 = .ok (.return_, 1) := dk_177 (dk_at dksX12_init_0 12 rfl rfl)
abbrev cX12_others : ByteArray := prog_4_method_8_code
def yX12_others : MethodName := ⟨RX12, "others", "()LPolygonBoard$Cells;"⟩
def dkwX12_others_1 : List UInt8 := [180, 0, 9, 28, 46, 2, 130, 126, 79, 132, 2, 1, 167, 255, 230, 43, 176]
abbrev dktX12_others_1 : List UInt8 := dkwX12_others_1 ++ []
def dkwX12_others_0 : List UInt8 := [187, 0, 10, 89, 183, 0, 15, 76, 3, 61, 28, 16, 24, 162, 0, 26, 43, 180, 0, 9, 28, 18, 51, 42]
abbrev dktX12_others_0 : List UInt8 := dkwX12_others_0 ++ dktX12_others_1
theorem dksX12_others_0 : cX12_others.data.toList.drop 0 = dktX12_others_0 := by decide +kernel
theorem dksX12_others_1 : cX12_others.data.toList.drop 24 = dktX12_others_1 := dk_seg dksX12_others_0 24 rfl rfl
theorem dX12_others_0 : decode cX12_others 0 = .ok (.new 10, 3) := dk_187 0 10 (dk_at dksX12_others_0 0 rfl rfl)
theorem dX12_others_3 : decode cX12_others 3 = .ok (.dup, 1) := dk_89 (dk_at dksX12_others_0 3 rfl rfl)
theorem dX12_others_4 : decode cX12_others 4 = .ok (.invokespecial 15, 3) := dk_183 0 15 (dk_at dksX12_others_0 4 rfl rfl)
theorem dX12_others_7 : decode cX12_others 7 = .ok (.astore_n 1, 1) := dk_76 (dk_at dksX12_others_0 7 rfl rfl)
theorem dX12_others_8 : decode cX12_others 8 = .ok (.iconst 0, 1) := dk_3 (dk_at dksX12_others_0 8 rfl rfl)
theorem dX12_others_9 : decode cX12_others 9 = .ok (.istore_n 2, 1) := dk_61 (dk_at dksX12_others_0 9 rfl rfl)
theorem dX12_others_10 : decode cX12_others 10 = .ok (.iload_n 2, 1) := dk_28 (dk_at dksX12_others_0 10 rfl rfl)
theorem dX12_others_11 : decode cX12_others 11 = .ok (.bipush 24, 2) := dk_16 24 (dk_at dksX12_others_0 11 rfl rfl)
theorem dX12_others_13 : decode cX12_others 13 = .ok (.if_icmp .ge 26, 3) := dk_162 0 26 (dk_at dksX12_others_0 13 rfl rfl)
theorem dX12_others_16 : decode cX12_others 16 = .ok (.aload_n 1, 1) := dk_43 (dk_at dksX12_others_0 16 rfl rfl)
theorem dX12_others_17 : decode cX12_others 17 = .ok (.getfield 9, 3) := dk_180 0 9 (dk_at dksX12_others_0 17 rfl rfl)
theorem dX12_others_20 : decode cX12_others 20 = .ok (.iload_n 2, 1) := dk_28 (dk_at dksX12_others_0 20 rfl rfl)
theorem dX12_others_21 : decode cX12_others 21 = .ok (.ldc 51, 2) := dk_18 51 (dk_at dksX12_others_0 21 rfl rfl)
theorem dX12_others_23 : decode cX12_others 23 = .ok (.aload_n 0, 1) := dk_42 (dk_at dksX12_others_0 23 rfl rfl)
theorem dX12_others_24 : decode cX12_others 24 = .ok (.getfield 9, 3) := dk_180 0 9 (dk_at dksX12_others_1 0 rfl rfl)
theorem dX12_others_27 : decode cX12_others 27 = .ok (.iload_n 2, 1) := dk_28 (dk_at dksX12_others_1 3 rfl rfl)
theorem dX12_others_28 : decode cX12_others 28 = .ok (.iaload, 1) := dk_46 (dk_at dksX12_others_1 4 rfl rfl)
theorem dX12_others_29 : decode cX12_others 29 = .ok (.iconst (-1), 1) := dk_2 (dk_at dksX12_others_1 5 rfl rfl)
theorem dX12_others_30 : decode cX12_others 30 = .ok (.ixor, 1) := dk_130 (dk_at dksX12_others_1 6 rfl rfl)
theorem dX12_others_31 : decode cX12_others 31 = .ok (.iand, 1) := dk_126 (dk_at dksX12_others_1 7 rfl rfl)
theorem dX12_others_32 : decode cX12_others 32 = .ok (.iastore, 1) := dk_79 (dk_at dksX12_others_1 8 rfl rfl)
theorem dX12_others_33 : decode cX12_others 33 = .ok (.iinc 2 1, 3) := dk_132 2 1 (dk_at dksX12_others_1 9 rfl rfl)
theorem dX12_others_36 : decode cX12_others 36 = .ok (.goto (-26), 3) := dk_167 255 230 (dk_at dksX12_others_1 12 rfl rfl)
theorem dX12_others_39 : decode cX12_others 39 = .ok (.aload_n 1, 1) := dk_43 (dk_at dksX12_others_1 15 rfl rfl)
theorem dX12_others_40 : decode cX12_others 40 = .ok (.areturn, 1) := dk_176 (dk_at dksX12_others_1 16 rfl rfl)
abbrev cX12_inner : ByteArray := prog_4_method_14_code
def yX12_inner : MethodName := ⟨RX12, "inner", "()LPolygonBoard$Cells;"⟩
def dkwX12_inner_3 : List UInt8 := [21, 4, 46, 128, 79, 132, 4, 1, 167, 255, 222, 167, 255, 191, 132, 2, 1, 167, 255, 179, 43, 176]
abbrev dktX12_inner_3 : List UInt8 := dkwX12_inner_3 ++ []
def dkwX12_inner_2 : List UInt8 := [16, 24, 162, 0, 33, 45, 182, 0, 76, 154, 0, 26, 43, 180, 0, 9, 21, 4, 92, 46, 45, 180, 0, 9]
abbrev dktX12_inner_2 : List UInt8 := dkwX12_inner_2 ++ dktX12_inner_3
def dkwX12_inner_1 : List UInt8 := [153, 0, 62, 42, 42, 180, 0, 9, 28, 46, 184, 0, 69, 28, 4, 182, 0, 72, 78, 3, 54, 4, 21, 4]
abbrev dktX12_inner_1 : List UInt8 := dkwX12_inner_1 ++ dktX12_inner_2
def dkwX12_inner_0 : List UInt8 := [187, 0, 10, 89, 183, 0, 15, 76, 3, 61, 28, 16, 24, 162, 0, 77, 42, 180, 0, 9, 28, 46]
abbrev dktX12_inner_0 : List UInt8 := dkwX12_inner_0 ++ dktX12_inner_1
theorem dksX12_inner_0 : cX12_inner.data.toList.drop 0 = dktX12_inner_0 := by decide +kernel
theorem dksX12_inner_1 : cX12_inner.data.toList.drop 22 = dktX12_inner_1 := dk_seg dksX12_inner_0 22 rfl rfl
theorem dksX12_inner_2 : cX12_inner.data.toList.drop 46 = dktX12_inner_2 := dk_seg dksX12_inner_1 24 rfl rfl
theorem dksX12_inner_3 : cX12_inner.data.toList.drop 70 = dktX12_inner_3 := dk_seg dksX12_inner_2 24 rfl rfl
theorem dX12_inner_0 : decode cX12_inner 0 = .ok (.new 10, 3) := dk_187 0 10 (dk_at dksX12_inner_0 0 rfl rfl)
theorem dX12_inner_3 : decode cX12_inner 3 = .ok (.dup, 1) := dk_89 (dk_at dksX12_inner_0 3 rfl rfl)
theorem dX12_inner_4 : decode cX12_inner 4 = .ok (.invokespecial 15, 3) := dk_183 0 15 (dk_at dksX12_inner_0 4 rfl rfl)
theorem dX12_inner_7 : decode cX12_inner 7 = .ok (.astore_n 1, 1) := dk_76 (dk_at dksX12_inner_0 7 rfl rfl)
theorem dX12_inner_8 : decode cX12_inner 8 = .ok (.iconst 0, 1) := dk_3 (dk_at dksX12_inner_0 8 rfl rfl)
theorem dX12_inner_9 : decode cX12_inner 9 = .ok (.istore_n 2, 1) := dk_61 (dk_at dksX12_inner_0 9 rfl rfl)
theorem dX12_inner_10 : decode cX12_inner 10 = .ok (.iload_n 2, 1) := dk_28 (dk_at dksX12_inner_0 10 rfl rfl)
theorem dX12_inner_11 : decode cX12_inner 11 = .ok (.bipush 24, 2) := dk_16 24 (dk_at dksX12_inner_0 11 rfl rfl)
theorem dX12_inner_13 : decode cX12_inner 13 = .ok (.if_icmp .ge 77, 3) := dk_162 0 77 (dk_at dksX12_inner_0 13 rfl rfl)
theorem dX12_inner_16 : decode cX12_inner 16 = .ok (.aload_n 0, 1) := dk_42 (dk_at dksX12_inner_0 16 rfl rfl)
theorem dX12_inner_17 : decode cX12_inner 17 = .ok (.getfield 9, 3) := dk_180 0 9 (dk_at dksX12_inner_0 17 rfl rfl)
theorem dX12_inner_20 : decode cX12_inner 20 = .ok (.iload_n 2, 1) := dk_28 (dk_at dksX12_inner_0 20 rfl rfl)
theorem dX12_inner_21 : decode cX12_inner 21 = .ok (.iaload, 1) := dk_46 (dk_at dksX12_inner_0 21 rfl rfl)
theorem dX12_inner_22 : decode cX12_inner 22 = .ok (.ifCond .eq 62, 3) := dk_153 0 62 (dk_at dksX12_inner_1 0 rfl rfl)
theorem dX12_inner_25 : decode cX12_inner 25 = .ok (.aload_n 0, 1) := dk_42 (dk_at dksX12_inner_1 3 rfl rfl)
theorem dX12_inner_26 : decode cX12_inner 26 = .ok (.aload_n 0, 1) := dk_42 (dk_at dksX12_inner_1 4 rfl rfl)
theorem dX12_inner_27 : decode cX12_inner 27 = .ok (.getfield 9, 3) := dk_180 0 9 (dk_at dksX12_inner_1 5 rfl rfl)
theorem dX12_inner_30 : decode cX12_inner 30 = .ok (.iload_n 2, 1) := dk_28 (dk_at dksX12_inner_1 8 rfl rfl)
theorem dX12_inner_31 : decode cX12_inner 31 = .ok (.iaload, 1) := dk_46 (dk_at dksX12_inner_1 9 rfl rfl)
theorem dX12_inner_32 : decode cX12_inner 32 = .ok (.invokestatic 69, 3) := dk_184 0 69 (dk_at dksX12_inner_1 10 rfl rfl)
theorem dX12_inner_35 : decode cX12_inner 35 = .ok (.iload_n 2, 1) := dk_28 (dk_at dksX12_inner_1 13 rfl rfl)
theorem dX12_inner_36 : decode cX12_inner 36 = .ok (.iconst 1, 1) := dk_4 (dk_at dksX12_inner_1 14 rfl rfl)
theorem dX12_inner_37 : decode cX12_inner 37 = .ok (.invokevirtual 72, 3) := dk_182 0 72 (dk_at dksX12_inner_1 15 rfl rfl)
theorem dX12_inner_40 : decode cX12_inner 40 = .ok (.astore_n 3, 1) := dk_78 (dk_at dksX12_inner_1 18 rfl rfl)
theorem dX12_inner_41 : decode cX12_inner 41 = .ok (.iconst 0, 1) := dk_3 (dk_at dksX12_inner_1 19 rfl rfl)
theorem dX12_inner_42 : decode cX12_inner 42 = .ok (.istore 4, 2) := dk_54 4 (dk_at dksX12_inner_1 20 rfl rfl)
theorem dX12_inner_44 : decode cX12_inner 44 = .ok (.iload 4, 2) := dk_21 4 (dk_at dksX12_inner_1 22 rfl rfl)
theorem dX12_inner_46 : decode cX12_inner 46 = .ok (.bipush 24, 2) := dk_16 24 (dk_at dksX12_inner_2 0 rfl rfl)
theorem dX12_inner_48 : decode cX12_inner 48 = .ok (.if_icmp .ge 33, 3) := dk_162 0 33 (dk_at dksX12_inner_2 2 rfl rfl)
theorem dX12_inner_51 : decode cX12_inner 51 = .ok (.aload_n 3, 1) := dk_45 (dk_at dksX12_inner_2 5 rfl rfl)
theorem dX12_inner_52 : decode cX12_inner 52 = .ok (.invokevirtual 76, 3) := dk_182 0 76 (dk_at dksX12_inner_2 6 rfl rfl)
theorem dX12_inner_55 : decode cX12_inner 55 = .ok (.ifCond .ne 26, 3) := dk_154 0 26 (dk_at dksX12_inner_2 9 rfl rfl)
theorem dX12_inner_58 : decode cX12_inner 58 = .ok (.aload_n 1, 1) := dk_43 (dk_at dksX12_inner_2 12 rfl rfl)
theorem dX12_inner_59 : decode cX12_inner 59 = .ok (.getfield 9, 3) := dk_180 0 9 (dk_at dksX12_inner_2 13 rfl rfl)
theorem dX12_inner_62 : decode cX12_inner 62 = .ok (.iload 4, 2) := dk_21 4 (dk_at dksX12_inner_2 16 rfl rfl)
theorem dX12_inner_64 : decode cX12_inner 64 = .ok (.dup2, 1) := dk_92 (dk_at dksX12_inner_2 18 rfl rfl)
theorem dX12_inner_65 : decode cX12_inner 65 = .ok (.iaload, 1) := dk_46 (dk_at dksX12_inner_2 19 rfl rfl)
theorem dX12_inner_66 : decode cX12_inner 66 = .ok (.aload_n 3, 1) := dk_45 (dk_at dksX12_inner_2 20 rfl rfl)
theorem dX12_inner_67 : decode cX12_inner 67 = .ok (.getfield 9, 3) := dk_180 0 9 (dk_at dksX12_inner_2 21 rfl rfl)
theorem dX12_inner_70 : decode cX12_inner 70 = .ok (.iload 4, 2) := dk_21 4 (dk_at dksX12_inner_3 0 rfl rfl)
theorem dX12_inner_72 : decode cX12_inner 72 = .ok (.iaload, 1) := dk_46 (dk_at dksX12_inner_3 2 rfl rfl)
theorem dX12_inner_73 : decode cX12_inner 73 = .ok (.ior, 1) := dk_128 (dk_at dksX12_inner_3 3 rfl rfl)
theorem dX12_inner_74 : decode cX12_inner 74 = .ok (.iastore, 1) := dk_79 (dk_at dksX12_inner_3 4 rfl rfl)
theorem dX12_inner_75 : decode cX12_inner 75 = .ok (.iinc 4 1, 3) := dk_132 4 1 (dk_at dksX12_inner_3 5 rfl rfl)
theorem dX12_inner_78 : decode cX12_inner 78 = .ok (.goto (-34), 3) := dk_167 255 222 (dk_at dksX12_inner_3 8 rfl rfl)
theorem dX12_inner_81 : decode cX12_inner 81 = .ok (.goto (-65), 3) := dk_167 255 191 (dk_at dksX12_inner_3 11 rfl rfl)
theorem dX12_inner_84 : decode cX12_inner 84 = .ok (.iinc 2 1, 3) := dk_132 2 1 (dk_at dksX12_inner_3 14 rfl rfl)
theorem dX12_inner_87 : decode cX12_inner 87 = .ok (.goto (-77), 3) := dk_167 255 179 (dk_at dksX12_inner_3 17 rfl rfl)
theorem dX12_inner_90 : decode cX12_inner 90 = .ok (.aload_n 1, 1) := dk_43 (dk_at dksX12_inner_3 20 rfl rfl)
theorem dX12_inner_91 : decode cX12_inner 91 = .ok (.areturn, 1) := dk_176 (dk_at dksX12_inner_3 21 rfl rfl)
abbrev cX12_takePart : ByteArray := prog_4_method_11_code
def yX12_takePart : MethodName := ⟨RX12, "takePart", "(IIZ)LPolygonBoard$Cells;"⟩
def dkwX12_takePart_1 : List UInt8 := [167, 255, 242, 42, 25, 4, 182, 0, 65, 25, 4, 176]
abbrev dktX12_takePart_1 : List UInt8 := dkwX12_takePart_1 ++ []
def dkwX12_takePart_0 : List UInt8 := [27, 28, 184, 0, 57, 58, 4, 4, 54, 5, 21, 5, 153, 0, 15, 25, 4, 42, 29, 182, 0, 61, 54, 5]
abbrev dktX12_takePart_0 : List UInt8 := dkwX12_takePart_0 ++ dktX12_takePart_1
theorem dksX12_takePart_0 : cX12_takePart.data.toList.drop 0 = dktX12_takePart_0 := by decide +kernel
theorem dksX12_takePart_1 : cX12_takePart.data.toList.drop 24 = dktX12_takePart_1 := dk_seg dksX12_takePart_0 24 rfl rfl
theorem dX12_takePart_0 : decode cX12_takePart 0 = .ok (.iload_n 1, 1) := dk_27 (dk_at dksX12_takePart_0 0 rfl rfl)
theorem dX12_takePart_1 : decode cX12_takePart 1 = .ok (.iload_n 2, 1) := dk_28 (dk_at dksX12_takePart_0 1 rfl rfl)
theorem dX12_takePart_2 : decode cX12_takePart 2 = .ok (.invokestatic 57, 3) := dk_184 0 57 (dk_at dksX12_takePart_0 2 rfl rfl)
theorem dX12_takePart_5 : decode cX12_takePart 5 = .ok (.astore 4, 2) := dk_58 4 (dk_at dksX12_takePart_0 5 rfl rfl)
theorem dX12_takePart_7 : decode cX12_takePart 7 = .ok (.iconst 1, 1) := dk_4 (dk_at dksX12_takePart_0 7 rfl rfl)
theorem dX12_takePart_8 : decode cX12_takePart 8 = .ok (.istore 5, 2) := dk_54 5 (dk_at dksX12_takePart_0 8 rfl rfl)
theorem dX12_takePart_10 : decode cX12_takePart 10 = .ok (.iload 5, 2) := dk_21 5 (dk_at dksX12_takePart_0 10 rfl rfl)
theorem dX12_takePart_12 : decode cX12_takePart 12 = .ok (.ifCond .eq 15, 3) := dk_153 0 15 (dk_at dksX12_takePart_0 12 rfl rfl)
theorem dX12_takePart_15 : decode cX12_takePart 15 = .ok (.aload 4, 2) := dk_25 4 (dk_at dksX12_takePart_0 15 rfl rfl)
theorem dX12_takePart_17 : decode cX12_takePart 17 = .ok (.aload_n 0, 1) := dk_42 (dk_at dksX12_takePart_0 17 rfl rfl)
theorem dX12_takePart_18 : decode cX12_takePart 18 = .ok (.iload_n 3, 1) := dk_29 (dk_at dksX12_takePart_0 18 rfl rfl)
theorem dX12_takePart_19 : decode cX12_takePart 19 = .ok (.invokevirtual 61, 3) := dk_182 0 61 (dk_at dksX12_takePart_0 19 rfl rfl)
theorem dX12_takePart_22 : decode cX12_takePart 22 = .ok (.istore 5, 2) := dk_54 5 (dk_at dksX12_takePart_0 22 rfl rfl)
theorem dX12_takePart_24 : decode cX12_takePart 24 = .ok (.goto (-14), 3) := dk_167 255 242 (dk_at dksX12_takePart_1 0 rfl rfl)
theorem dX12_takePart_27 : decode cX12_takePart 27 = .ok (.aload_n 0, 1) := dk_42 (dk_at dksX12_takePart_1 3 rfl rfl)
theorem dX12_takePart_28 : decode cX12_takePart 28 = .ok (.aload 4, 2) := dk_25 4 (dk_at dksX12_takePart_1 4 rfl rfl)
theorem dX12_takePart_30 : decode cX12_takePart 30 = .ok (.invokevirtual 65, 3) := dk_182 0 65 (dk_at dksX12_takePart_1 6 rfl rfl)
theorem dX12_takePart_33 : decode cX12_takePart 33 = .ok (.aload 4, 2) := dk_25 4 (dk_at dksX12_takePart_1 9 rfl rfl)
theorem dX12_takePart_35 : decode cX12_takePart 35 = .ok (.areturn, 1) := dk_176 (dk_at dksX12_takePart_1 11 rfl rfl)
abbrev cX12_at : ByteArray := prog_4_method_3_code
def yX12_at : MethodName := ⟨RX12, "at", "(II)LPolygonBoard$Cells;"⟩
def dkwX12_at_0 : List UInt8 := [187, 0, 10, 89, 183, 0, 15, 77, 44, 180, 0, 9, 27, 4, 26, 120, 79, 44, 176]
abbrev dktX12_at_0 : List UInt8 := dkwX12_at_0 ++ []
theorem dksX12_at_0 : cX12_at.data.toList.drop 0 = dktX12_at_0 := by decide +kernel
theorem dX12_at_0 : decode cX12_at 0 = .ok (.new 10, 3) := dk_187 0 10 (dk_at dksX12_at_0 0 rfl rfl)
theorem dX12_at_3 : decode cX12_at 3 = .ok (.dup, 1) := dk_89 (dk_at dksX12_at_0 3 rfl rfl)
theorem dX12_at_4 : decode cX12_at 4 = .ok (.invokespecial 15, 3) := dk_183 0 15 (dk_at dksX12_at_0 4 rfl rfl)
theorem dX12_at_7 : decode cX12_at 7 = .ok (.astore_n 2, 1) := dk_77 (dk_at dksX12_at_0 7 rfl rfl)
theorem dX12_at_8 : decode cX12_at 8 = .ok (.aload_n 2, 1) := dk_44 (dk_at dksX12_at_0 8 rfl rfl)
theorem dX12_at_9 : decode cX12_at 9 = .ok (.getfield 9, 3) := dk_180 0 9 (dk_at dksX12_at_0 9 rfl rfl)
theorem dX12_at_12 : decode cX12_at 12 = .ok (.iload_n 1, 1) := dk_27 (dk_at dksX12_at_0 12 rfl rfl)
theorem dX12_at_13 : decode cX12_at 13 = .ok (.iconst 1, 1) := dk_4 (dk_at dksX12_at_0 13 rfl rfl)
theorem dX12_at_14 : decode cX12_at 14 = .ok (.iload_n 0, 1) := dk_26 (dk_at dksX12_at_0 14 rfl rfl)
theorem dX12_at_15 : decode cX12_at 15 = .ok (.ishl, 1) := dk_120 (dk_at dksX12_at_0 15 rfl rfl)
theorem dX12_at_16 : decode cX12_at 16 = .ok (.iastore, 1) := dk_79 (dk_at dksX12_at_0 16 rfl rfl)
theorem dX12_at_17 : decode cX12_at 17 = .ok (.aload_n 2, 1) := dk_44 (dk_at dksX12_at_0 17 rfl rfl)
theorem dX12_at_18 : decode cX12_at 18 = .ok (.areturn, 1) := dk_176 (dk_at dksX12_at_0 18 rfl rfl)
abbrev cX12_spread : ByteArray := prog_4_method_9_code
def yX12_spread : MethodName := ⟨RX12, "spread", "(LPolygonBoard$Cells;Z)Z"⟩
def dkwX12_spread_6 : List UInt8 := [167, 0, 4, 3, 128, 54, 4, 132, 5, 1, 167, 255, 120, 21, 4, 172]
abbrev dktX12_spread_6 : List UInt8 := dkwX12_spread_6 ++ []
def dkwX12_spread_5 : List UInt8 := [126, 45, 21, 5, 46, 128, 79, 21, 4, 42, 180, 0, 9, 21, 5, 46, 45, 21, 5, 46, 159, 0, 7, 4]
abbrev dktX12_spread_5 : List UInt8 := dkwX12_spread_5 ++ dktX12_spread_6
def dkwX12_spread_4 : List UInt8 := [122, 128, 167, 0, 4, 3, 128, 54, 7, 42, 180, 0, 9, 21, 5, 21, 7, 43, 180, 0, 9, 21, 5, 46]
abbrev dktX12_spread_4 : List UInt8 := dkwX12_spread_4 ++ dktX12_spread_5
def dkwX12_spread_3 : List UInt8 := [21, 5, 46, 4, 122, 128, 21, 6, 128, 54, 7, 21, 7, 28, 153, 0, 15, 21, 6, 4, 120, 21, 6, 4]
abbrev dktX12_spread_3 : List UInt8 := dkwX12_spread_3 ++ dktX12_spread_4
def dkwX12_spread_2 : List UInt8 := [21, 5, 4, 96, 46, 167, 0, 4, 3, 128, 54, 6, 45, 21, 5, 46, 45, 21, 5, 46, 4, 120, 128, 45]
abbrev dktX12_spread_2 : List UInt8 := dkwX12_spread_2 ++ dktX12_spread_3
def dkwX12_spread_1 : List UInt8 := [21, 5, 158, 0, 12, 45, 21, 5, 4, 100, 46, 167, 0, 4, 3, 21, 5, 16, 23, 162, 0, 12, 45]
abbrev dktX12_spread_1 : List UInt8 := dkwX12_spread_1 ++ dktX12_spread_2
def dkwX12_spread_0 : List UInt8 := [42, 180, 0, 9, 182, 0, 52, 192, 0, 53, 78, 3, 54, 4, 3, 54, 5, 21, 5, 16, 24, 162, 0, 135]
abbrev dktX12_spread_0 : List UInt8 := dkwX12_spread_0 ++ dktX12_spread_1
theorem dksX12_spread_0 : cX12_spread.data.toList.drop 0 = dktX12_spread_0 := by decide +kernel
theorem dksX12_spread_1 : cX12_spread.data.toList.drop 24 = dktX12_spread_1 := dk_seg dksX12_spread_0 24 rfl rfl
theorem dksX12_spread_2 : cX12_spread.data.toList.drop 47 = dktX12_spread_2 := dk_seg dksX12_spread_1 23 rfl rfl
theorem dksX12_spread_3 : cX12_spread.data.toList.drop 71 = dktX12_spread_3 := dk_seg dksX12_spread_2 24 rfl rfl
theorem dksX12_spread_4 : cX12_spread.data.toList.drop 95 = dktX12_spread_4 := dk_seg dksX12_spread_3 24 rfl rfl
theorem dksX12_spread_5 : cX12_spread.data.toList.drop 119 = dktX12_spread_5 := dk_seg dksX12_spread_4 24 rfl rfl
theorem dksX12_spread_6 : cX12_spread.data.toList.drop 143 = dktX12_spread_6 := dk_seg dksX12_spread_5 24 rfl rfl
theorem dX12_spread_0 : decode cX12_spread 0 = .ok (.aload_n 0, 1) := dk_42 (dk_at dksX12_spread_0 0 rfl rfl)
theorem dX12_spread_1 : decode cX12_spread 1 = .ok (.getfield 9, 3) := dk_180 0 9 (dk_at dksX12_spread_0 1 rfl rfl)
theorem dX12_spread_4 : decode cX12_spread 4 = .ok (.invokevirtual 52, 3) := dk_182 0 52 (dk_at dksX12_spread_0 4 rfl rfl)
theorem dX12_spread_7 : decode cX12_spread 7 = .ok (.checkcast 53, 3) := dk_192 0 53 (dk_at dksX12_spread_0 7 rfl rfl)
theorem dX12_spread_10 : decode cX12_spread 10 = .ok (.astore_n 3, 1) := dk_78 (dk_at dksX12_spread_0 10 rfl rfl)
theorem dX12_spread_11 : decode cX12_spread 11 = .ok (.iconst 0, 1) := dk_3 (dk_at dksX12_spread_0 11 rfl rfl)
theorem dX12_spread_12 : decode cX12_spread 12 = .ok (.istore 4, 2) := dk_54 4 (dk_at dksX12_spread_0 12 rfl rfl)
theorem dX12_spread_14 : decode cX12_spread 14 = .ok (.iconst 0, 1) := dk_3 (dk_at dksX12_spread_0 14 rfl rfl)
theorem dX12_spread_15 : decode cX12_spread 15 = .ok (.istore 5, 2) := dk_54 5 (dk_at dksX12_spread_0 15 rfl rfl)
theorem dX12_spread_17 : decode cX12_spread 17 = .ok (.iload 5, 2) := dk_21 5 (dk_at dksX12_spread_0 17 rfl rfl)
theorem dX12_spread_19 : decode cX12_spread 19 = .ok (.bipush 24, 2) := dk_16 24 (dk_at dksX12_spread_0 19 rfl rfl)
theorem dX12_spread_21 : decode cX12_spread 21 = .ok (.if_icmp .ge 135, 3) := dk_162 0 135 (dk_at dksX12_spread_0 21 rfl rfl)
theorem dX12_spread_24 : decode cX12_spread 24 = .ok (.iload 5, 2) := dk_21 5 (dk_at dksX12_spread_1 0 rfl rfl)
theorem dX12_spread_26 : decode cX12_spread 26 = .ok (.ifCond .le 12, 3) := dk_158 0 12 (dk_at dksX12_spread_1 2 rfl rfl)
theorem dX12_spread_29 : decode cX12_spread 29 = .ok (.aload_n 3, 1) := dk_45 (dk_at dksX12_spread_1 5 rfl rfl)
theorem dX12_spread_30 : decode cX12_spread 30 = .ok (.iload 5, 2) := dk_21 5 (dk_at dksX12_spread_1 6 rfl rfl)
theorem dX12_spread_32 : decode cX12_spread 32 = .ok (.iconst 1, 1) := dk_4 (dk_at dksX12_spread_1 8 rfl rfl)
theorem dX12_spread_33 : decode cX12_spread 33 = .ok (.isub, 1) := dk_100 (dk_at dksX12_spread_1 9 rfl rfl)
theorem dX12_spread_34 : decode cX12_spread 34 = .ok (.iaload, 1) := dk_46 (dk_at dksX12_spread_1 10 rfl rfl)
theorem dX12_spread_35 : decode cX12_spread 35 = .ok (.goto 4, 3) := dk_167 0 4 (dk_at dksX12_spread_1 11 rfl rfl)
theorem dX12_spread_38 : decode cX12_spread 38 = .ok (.iconst 0, 1) := dk_3 (dk_at dksX12_spread_1 14 rfl rfl)
theorem dX12_spread_39 : decode cX12_spread 39 = .ok (.iload 5, 2) := dk_21 5 (dk_at dksX12_spread_1 15 rfl rfl)
theorem dX12_spread_41 : decode cX12_spread 41 = .ok (.bipush 23, 2) := dk_16 23 (dk_at dksX12_spread_1 17 rfl rfl)
theorem dX12_spread_43 : decode cX12_spread 43 = .ok (.if_icmp .ge 12, 3) := dk_162 0 12 (dk_at dksX12_spread_1 19 rfl rfl)
theorem dX12_spread_46 : decode cX12_spread 46 = .ok (.aload_n 3, 1) := dk_45 (dk_at dksX12_spread_1 22 rfl rfl)
theorem dX12_spread_47 : decode cX12_spread 47 = .ok (.iload 5, 2) := dk_21 5 (dk_at dksX12_spread_2 0 rfl rfl)
theorem dX12_spread_49 : decode cX12_spread 49 = .ok (.iconst 1, 1) := dk_4 (dk_at dksX12_spread_2 2 rfl rfl)
theorem dX12_spread_50 : decode cX12_spread 50 = .ok (.iadd, 1) := dk_96 (dk_at dksX12_spread_2 3 rfl rfl)
theorem dX12_spread_51 : decode cX12_spread 51 = .ok (.iaload, 1) := dk_46 (dk_at dksX12_spread_2 4 rfl rfl)
theorem dX12_spread_52 : decode cX12_spread 52 = .ok (.goto 4, 3) := dk_167 0 4 (dk_at dksX12_spread_2 5 rfl rfl)
theorem dX12_spread_55 : decode cX12_spread 55 = .ok (.iconst 0, 1) := dk_3 (dk_at dksX12_spread_2 8 rfl rfl)
theorem dX12_spread_56 : decode cX12_spread 56 = .ok (.ior, 1) := dk_128 (dk_at dksX12_spread_2 9 rfl rfl)
theorem dX12_spread_57 : decode cX12_spread 57 = .ok (.istore 6, 2) := dk_54 6 (dk_at dksX12_spread_2 10 rfl rfl)
theorem dX12_spread_59 : decode cX12_spread 59 = .ok (.aload_n 3, 1) := dk_45 (dk_at dksX12_spread_2 12 rfl rfl)
theorem dX12_spread_60 : decode cX12_spread 60 = .ok (.iload 5, 2) := dk_21 5 (dk_at dksX12_spread_2 13 rfl rfl)
theorem dX12_spread_62 : decode cX12_spread 62 = .ok (.iaload, 1) := dk_46 (dk_at dksX12_spread_2 15 rfl rfl)
theorem dX12_spread_63 : decode cX12_spread 63 = .ok (.aload_n 3, 1) := dk_45 (dk_at dksX12_spread_2 16 rfl rfl)
theorem dX12_spread_64 : decode cX12_spread 64 = .ok (.iload 5, 2) := dk_21 5 (dk_at dksX12_spread_2 17 rfl rfl)
theorem dX12_spread_66 : decode cX12_spread 66 = .ok (.iaload, 1) := dk_46 (dk_at dksX12_spread_2 19 rfl rfl)
theorem dX12_spread_67 : decode cX12_spread 67 = .ok (.iconst 1, 1) := dk_4 (dk_at dksX12_spread_2 20 rfl rfl)
theorem dX12_spread_68 : decode cX12_spread 68 = .ok (.ishl, 1) := dk_120 (dk_at dksX12_spread_2 21 rfl rfl)
theorem dX12_spread_69 : decode cX12_spread 69 = .ok (.ior, 1) := dk_128 (dk_at dksX12_spread_2 22 rfl rfl)
theorem dX12_spread_70 : decode cX12_spread 70 = .ok (.aload_n 3, 1) := dk_45 (dk_at dksX12_spread_2 23 rfl rfl)
theorem dX12_spread_71 : decode cX12_spread 71 = .ok (.iload 5, 2) := dk_21 5 (dk_at dksX12_spread_3 0 rfl rfl)
theorem dX12_spread_73 : decode cX12_spread 73 = .ok (.iaload, 1) := dk_46 (dk_at dksX12_spread_3 2 rfl rfl)
theorem dX12_spread_74 : decode cX12_spread 74 = .ok (.iconst 1, 1) := dk_4 (dk_at dksX12_spread_3 3 rfl rfl)
theorem dX12_spread_75 : decode cX12_spread 75 = .ok (.ishr, 1) := dk_122 (dk_at dksX12_spread_3 4 rfl rfl)
theorem dX12_spread_76 : decode cX12_spread 76 = .ok (.ior, 1) := dk_128 (dk_at dksX12_spread_3 5 rfl rfl)
theorem dX12_spread_77 : decode cX12_spread 77 = .ok (.iload 6, 2) := dk_21 6 (dk_at dksX12_spread_3 6 rfl rfl)
theorem dX12_spread_79 : decode cX12_spread 79 = .ok (.ior, 1) := dk_128 (dk_at dksX12_spread_3 8 rfl rfl)
theorem dX12_spread_80 : decode cX12_spread 80 = .ok (.istore 7, 2) := dk_54 7 (dk_at dksX12_spread_3 9 rfl rfl)
theorem dX12_spread_82 : decode cX12_spread 82 = .ok (.iload 7, 2) := dk_21 7 (dk_at dksX12_spread_3 11 rfl rfl)
theorem dX12_spread_84 : decode cX12_spread 84 = .ok (.iload_n 2, 1) := dk_28 (dk_at dksX12_spread_3 13 rfl rfl)
theorem dX12_spread_85 : decode cX12_spread 85 = .ok (.ifCond .eq 15, 3) := dk_153 0 15 (dk_at dksX12_spread_3 14 rfl rfl)
theorem dX12_spread_88 : decode cX12_spread 88 = .ok (.iload 6, 2) := dk_21 6 (dk_at dksX12_spread_3 17 rfl rfl)
theorem dX12_spread_90 : decode cX12_spread 90 = .ok (.iconst 1, 1) := dk_4 (dk_at dksX12_spread_3 19 rfl rfl)
theorem dX12_spread_91 : decode cX12_spread 91 = .ok (.ishl, 1) := dk_120 (dk_at dksX12_spread_3 20 rfl rfl)
theorem dX12_spread_92 : decode cX12_spread 92 = .ok (.iload 6, 2) := dk_21 6 (dk_at dksX12_spread_3 21 rfl rfl)
theorem dX12_spread_94 : decode cX12_spread 94 = .ok (.iconst 1, 1) := dk_4 (dk_at dksX12_spread_3 23 rfl rfl)
theorem dX12_spread_95 : decode cX12_spread 95 = .ok (.ishr, 1) := dk_122 (dk_at dksX12_spread_4 0 rfl rfl)
theorem dX12_spread_96 : decode cX12_spread 96 = .ok (.ior, 1) := dk_128 (dk_at dksX12_spread_4 1 rfl rfl)
theorem dX12_spread_97 : decode cX12_spread 97 = .ok (.goto 4, 3) := dk_167 0 4 (dk_at dksX12_spread_4 2 rfl rfl)
theorem dX12_spread_100 : decode cX12_spread 100 = .ok (.iconst 0, 1) := dk_3 (dk_at dksX12_spread_4 5 rfl rfl)
theorem dX12_spread_101 : decode cX12_spread 101 = .ok (.ior, 1) := dk_128 (dk_at dksX12_spread_4 6 rfl rfl)
theorem dX12_spread_102 : decode cX12_spread 102 = .ok (.istore 7, 2) := dk_54 7 (dk_at dksX12_spread_4 7 rfl rfl)
theorem dX12_spread_104 : decode cX12_spread 104 = .ok (.aload_n 0, 1) := dk_42 (dk_at dksX12_spread_4 9 rfl rfl)
theorem dX12_spread_105 : decode cX12_spread 105 = .ok (.getfield 9, 3) := dk_180 0 9 (dk_at dksX12_spread_4 10 rfl rfl)
theorem dX12_spread_108 : decode cX12_spread 108 = .ok (.iload 5, 2) := dk_21 5 (dk_at dksX12_spread_4 13 rfl rfl)
theorem dX12_spread_110 : decode cX12_spread 110 = .ok (.iload 7, 2) := dk_21 7 (dk_at dksX12_spread_4 15 rfl rfl)
theorem dX12_spread_112 : decode cX12_spread 112 = .ok (.aload_n 1, 1) := dk_43 (dk_at dksX12_spread_4 17 rfl rfl)
theorem dX12_spread_113 : decode cX12_spread 113 = .ok (.getfield 9, 3) := dk_180 0 9 (dk_at dksX12_spread_4 18 rfl rfl)
theorem dX12_spread_116 : decode cX12_spread 116 = .ok (.iload 5, 2) := dk_21 5 (dk_at dksX12_spread_4 21 rfl rfl)
theorem dX12_spread_118 : decode cX12_spread 118 = .ok (.iaload, 1) := dk_46 (dk_at dksX12_spread_4 23 rfl rfl)
theorem dX12_spread_119 : decode cX12_spread 119 = .ok (.iand, 1) := dk_126 (dk_at dksX12_spread_5 0 rfl rfl)
theorem dX12_spread_120 : decode cX12_spread 120 = .ok (.aload_n 3, 1) := dk_45 (dk_at dksX12_spread_5 1 rfl rfl)
theorem dX12_spread_121 : decode cX12_spread 121 = .ok (.iload 5, 2) := dk_21 5 (dk_at dksX12_spread_5 2 rfl rfl)
theorem dX12_spread_123 : decode cX12_spread 123 = .ok (.iaload, 1) := dk_46 (dk_at dksX12_spread_5 4 rfl rfl)
theorem dX12_spread_124 : decode cX12_spread 124 = .ok (.ior, 1) := dk_128 (dk_at dksX12_spread_5 5 rfl rfl)
theorem dX12_spread_125 : decode cX12_spread 125 = .ok (.iastore, 1) := dk_79 (dk_at dksX12_spread_5 6 rfl rfl)
theorem dX12_spread_126 : decode cX12_spread 126 = .ok (.iload 4, 2) := dk_21 4 (dk_at dksX12_spread_5 7 rfl rfl)
theorem dX12_spread_128 : decode cX12_spread 128 = .ok (.aload_n 0, 1) := dk_42 (dk_at dksX12_spread_5 9 rfl rfl)
theorem dX12_spread_129 : decode cX12_spread 129 = .ok (.getfield 9, 3) := dk_180 0 9 (dk_at dksX12_spread_5 10 rfl rfl)
theorem dX12_spread_132 : decode cX12_spread 132 = .ok (.iload 5, 2) := dk_21 5 (dk_at dksX12_spread_5 13 rfl rfl)
theorem dX12_spread_134 : decode cX12_spread 134 = .ok (.iaload, 1) := dk_46 (dk_at dksX12_spread_5 15 rfl rfl)
theorem dX12_spread_135 : decode cX12_spread 135 = .ok (.aload_n 3, 1) := dk_45 (dk_at dksX12_spread_5 16 rfl rfl)
theorem dX12_spread_136 : decode cX12_spread 136 = .ok (.iload 5, 2) := dk_21 5 (dk_at dksX12_spread_5 17 rfl rfl)
theorem dX12_spread_138 : decode cX12_spread 138 = .ok (.iaload, 1) := dk_46 (dk_at dksX12_spread_5 19 rfl rfl)
theorem dX12_spread_139 : decode cX12_spread 139 = .ok (.if_icmp .eq 7, 3) := dk_159 0 7 (dk_at dksX12_spread_5 20 rfl rfl)
theorem dX12_spread_142 : decode cX12_spread 142 = .ok (.iconst 1, 1) := dk_4 (dk_at dksX12_spread_5 23 rfl rfl)
theorem dX12_spread_143 : decode cX12_spread 143 = .ok (.goto 4, 3) := dk_167 0 4 (dk_at dksX12_spread_6 0 rfl rfl)
theorem dX12_spread_146 : decode cX12_spread 146 = .ok (.iconst 0, 1) := dk_3 (dk_at dksX12_spread_6 3 rfl rfl)
theorem dX12_spread_147 : decode cX12_spread 147 = .ok (.ior, 1) := dk_128 (dk_at dksX12_spread_6 4 rfl rfl)
theorem dX12_spread_148 : decode cX12_spread 148 = .ok (.istore 4, 2) := dk_54 4 (dk_at dksX12_spread_6 5 rfl rfl)
theorem dX12_spread_150 : decode cX12_spread 150 = .ok (.iinc 5 1, 3) := dk_132 5 1 (dk_at dksX12_spread_6 7 rfl rfl)
theorem dX12_spread_153 : decode cX12_spread 153 = .ok (.goto (-136), 3) := dk_167 255 120 (dk_at dksX12_spread_6 10 rfl rfl)
theorem dX12_spread_156 : decode cX12_spread 156 = .ok (.iload 4, 2) := dk_21 4 (dk_at dksX12_spread_6 13 rfl rfl)
theorem dX12_spread_158 : decode cX12_spread 158 = .ok (.ireturn, 1) := dk_172 (dk_at dksX12_spread_6 15 rfl rfl)
abbrev cX12_remove : ByteArray := prog_4_method_10_code
def yX12_remove : MethodName := ⟨RX12, "remove", "(LPolygonBoard$Cells;)V"⟩
def dkwX12_remove_1 : List UInt8 := [79, 132, 2, 1, 167, 255, 230, 177]
abbrev dktX12_remove_1 : List UInt8 := dkwX12_remove_1 ++ []
def dkwX12_remove_0 : List UInt8 := [3, 61, 28, 16, 24, 162, 0, 26, 42, 180, 0, 9, 28, 92, 46, 43, 180, 0, 9, 28, 46, 2, 130, 126]
abbrev dktX12_remove_0 : List UInt8 := dkwX12_remove_0 ++ dktX12_remove_1
theorem dksX12_remove_0 : cX12_remove.data.toList.drop 0 = dktX12_remove_0 := by decide +kernel
theorem dksX12_remove_1 : cX12_remove.data.toList.drop 24 = dktX12_remove_1 := dk_seg dksX12_remove_0 24 rfl rfl
theorem dX12_remove_0 : decode cX12_remove 0 = .ok (.iconst 0, 1) := dk_3 (dk_at dksX12_remove_0 0 rfl rfl)
theorem dX12_remove_1 : decode cX12_remove 1 = .ok (.istore_n 2, 1) := dk_61 (dk_at dksX12_remove_0 1 rfl rfl)
theorem dX12_remove_2 : decode cX12_remove 2 = .ok (.iload_n 2, 1) := dk_28 (dk_at dksX12_remove_0 2 rfl rfl)
theorem dX12_remove_3 : decode cX12_remove 3 = .ok (.bipush 24, 2) := dk_16 24 (dk_at dksX12_remove_0 3 rfl rfl)
theorem dX12_remove_5 : decode cX12_remove 5 = .ok (.if_icmp .ge 26, 3) := dk_162 0 26 (dk_at dksX12_remove_0 5 rfl rfl)
theorem dX12_remove_8 : decode cX12_remove 8 = .ok (.aload_n 0, 1) := dk_42 (dk_at dksX12_remove_0 8 rfl rfl)
theorem dX12_remove_9 : decode cX12_remove 9 = .ok (.getfield 9, 3) := dk_180 0 9 (dk_at dksX12_remove_0 9 rfl rfl)
theorem dX12_remove_12 : decode cX12_remove 12 = .ok (.iload_n 2, 1) := dk_28 (dk_at dksX12_remove_0 12 rfl rfl)
theorem dX12_remove_13 : decode cX12_remove 13 = .ok (.dup2, 1) := dk_92 (dk_at dksX12_remove_0 13 rfl rfl)
theorem dX12_remove_14 : decode cX12_remove 14 = .ok (.iaload, 1) := dk_46 (dk_at dksX12_remove_0 14 rfl rfl)
theorem dX12_remove_15 : decode cX12_remove 15 = .ok (.aload_n 1, 1) := dk_43 (dk_at dksX12_remove_0 15 rfl rfl)
theorem dX12_remove_16 : decode cX12_remove 16 = .ok (.getfield 9, 3) := dk_180 0 9 (dk_at dksX12_remove_0 16 rfl rfl)
theorem dX12_remove_19 : decode cX12_remove 19 = .ok (.iload_n 2, 1) := dk_28 (dk_at dksX12_remove_0 19 rfl rfl)
theorem dX12_remove_20 : decode cX12_remove 20 = .ok (.iaload, 1) := dk_46 (dk_at dksX12_remove_0 20 rfl rfl)
theorem dX12_remove_21 : decode cX12_remove 21 = .ok (.iconst (-1), 1) := dk_2 (dk_at dksX12_remove_0 21 rfl rfl)
theorem dX12_remove_22 : decode cX12_remove 22 = .ok (.ixor, 1) := dk_130 (dk_at dksX12_remove_0 22 rfl rfl)
theorem dX12_remove_23 : decode cX12_remove 23 = .ok (.iand, 1) := dk_126 (dk_at dksX12_remove_0 23 rfl rfl)
theorem dX12_remove_24 : decode cX12_remove 24 = .ok (.iastore, 1) := dk_79 (dk_at dksX12_remove_1 0 rfl rfl)
theorem dX12_remove_25 : decode cX12_remove 25 = .ok (.iinc 2 1, 3) := dk_132 2 1 (dk_at dksX12_remove_1 1 rfl rfl)
theorem dX12_remove_28 : decode cX12_remove 28 = .ok (.goto (-26), 3) := dk_167 255 230 (dk_at dksX12_remove_1 4 rfl rfl)
theorem dX12_remove_31 : decode cX12_remove 31 = .ok (.return_, 1) := dk_177 (dk_at dksX12_remove_1 7 rfl rfl)
abbrev cX12_isAtRim : ByteArray := prog_4_method_12_code
def yX12_isAtRim : MethodName := ⟨RX12, "isAtRim", "()Z"⟩
def dkwX12_isAtRim_3 : List UInt8 := [132, 4, 1, 167, 255, 218, 27, 172]
abbrev dktX12_isAtRim_3 : List UInt8 := dkwX12_isAtRim_3 ++ []
def dkwX12_isAtRim_2 : List UInt8 := [27, 21, 5, 4, 126, 154, 0, 11, 21, 5, 16, 23, 122, 153, 0, 7, 4, 167, 0, 4, 3, 128, 60]
abbrev dktX12_isAtRim_2 : List UInt8 := dkwX12_isAtRim_2 ++ dktX12_isAtRim_3
def dkwX12_isAtRim_1 : List UInt8 := [60, 42, 180, 0, 9, 77, 44, 190, 62, 3, 54, 4, 21, 4, 29, 162, 0, 38, 44, 21, 4, 46, 54, 5]
abbrev dktX12_isAtRim_1 : List UInt8 := dkwX12_isAtRim_1 ++ dktX12_isAtRim_2
def dkwX12_isAtRim_0 : List UInt8 := [42, 180, 0, 9, 3, 46, 154, 0, 13, 42, 180, 0, 9, 16, 23, 46, 153, 0, 7, 4, 167, 0, 4, 3]
abbrev dktX12_isAtRim_0 : List UInt8 := dkwX12_isAtRim_0 ++ dktX12_isAtRim_1
theorem dksX12_isAtRim_0 : cX12_isAtRim.data.toList.drop 0 = dktX12_isAtRim_0 := by decide +kernel
theorem dksX12_isAtRim_1 : cX12_isAtRim.data.toList.drop 24 = dktX12_isAtRim_1 := dk_seg dksX12_isAtRim_0 24 rfl rfl
theorem dksX12_isAtRim_2 : cX12_isAtRim.data.toList.drop 48 = dktX12_isAtRim_2 := dk_seg dksX12_isAtRim_1 24 rfl rfl
theorem dksX12_isAtRim_3 : cX12_isAtRim.data.toList.drop 71 = dktX12_isAtRim_3 := dk_seg dksX12_isAtRim_2 23 rfl rfl
theorem dX12_isAtRim_0 : decode cX12_isAtRim 0 = .ok (.aload_n 0, 1) := dk_42 (dk_at dksX12_isAtRim_0 0 rfl rfl)
theorem dX12_isAtRim_1 : decode cX12_isAtRim 1 = .ok (.getfield 9, 3) := dk_180 0 9 (dk_at dksX12_isAtRim_0 1 rfl rfl)
theorem dX12_isAtRim_4 : decode cX12_isAtRim 4 = .ok (.iconst 0, 1) := dk_3 (dk_at dksX12_isAtRim_0 4 rfl rfl)
theorem dX12_isAtRim_5 : decode cX12_isAtRim 5 = .ok (.iaload, 1) := dk_46 (dk_at dksX12_isAtRim_0 5 rfl rfl)
theorem dX12_isAtRim_6 : decode cX12_isAtRim 6 = .ok (.ifCond .ne 13, 3) := dk_154 0 13 (dk_at dksX12_isAtRim_0 6 rfl rfl)
theorem dX12_isAtRim_9 : decode cX12_isAtRim 9 = .ok (.aload_n 0, 1) := dk_42 (dk_at dksX12_isAtRim_0 9 rfl rfl)
theorem dX12_isAtRim_10 : decode cX12_isAtRim 10 = .ok (.getfield 9, 3) := dk_180 0 9 (dk_at dksX12_isAtRim_0 10 rfl rfl)
theorem dX12_isAtRim_13 : decode cX12_isAtRim 13 = .ok (.bipush 23, 2) := dk_16 23 (dk_at dksX12_isAtRim_0 13 rfl rfl)
theorem dX12_isAtRim_15 : decode cX12_isAtRim 15 = .ok (.iaload, 1) := dk_46 (dk_at dksX12_isAtRim_0 15 rfl rfl)
theorem dX12_isAtRim_16 : decode cX12_isAtRim 16 = .ok (.ifCond .eq 7, 3) := dk_153 0 7 (dk_at dksX12_isAtRim_0 16 rfl rfl)
theorem dX12_isAtRim_19 : decode cX12_isAtRim 19 = .ok (.iconst 1, 1) := dk_4 (dk_at dksX12_isAtRim_0 19 rfl rfl)
theorem dX12_isAtRim_20 : decode cX12_isAtRim 20 = .ok (.goto 4, 3) := dk_167 0 4 (dk_at dksX12_isAtRim_0 20 rfl rfl)
theorem dX12_isAtRim_23 : decode cX12_isAtRim 23 = .ok (.iconst 0, 1) := dk_3 (dk_at dksX12_isAtRim_0 23 rfl rfl)
theorem dX12_isAtRim_24 : decode cX12_isAtRim 24 = .ok (.istore_n 1, 1) := dk_60 (dk_at dksX12_isAtRim_1 0 rfl rfl)
theorem dX12_isAtRim_25 : decode cX12_isAtRim 25 = .ok (.aload_n 0, 1) := dk_42 (dk_at dksX12_isAtRim_1 1 rfl rfl)
theorem dX12_isAtRim_26 : decode cX12_isAtRim 26 = .ok (.getfield 9, 3) := dk_180 0 9 (dk_at dksX12_isAtRim_1 2 rfl rfl)
theorem dX12_isAtRim_29 : decode cX12_isAtRim 29 = .ok (.astore_n 2, 1) := dk_77 (dk_at dksX12_isAtRim_1 5 rfl rfl)
theorem dX12_isAtRim_30 : decode cX12_isAtRim 30 = .ok (.aload_n 2, 1) := dk_44 (dk_at dksX12_isAtRim_1 6 rfl rfl)
theorem dX12_isAtRim_31 : decode cX12_isAtRim 31 = .ok (.arraylength, 1) := dk_190 (dk_at dksX12_isAtRim_1 7 rfl rfl)
theorem dX12_isAtRim_32 : decode cX12_isAtRim 32 = .ok (.istore_n 3, 1) := dk_62 (dk_at dksX12_isAtRim_1 8 rfl rfl)
theorem dX12_isAtRim_33 : decode cX12_isAtRim 33 = .ok (.iconst 0, 1) := dk_3 (dk_at dksX12_isAtRim_1 9 rfl rfl)
theorem dX12_isAtRim_34 : decode cX12_isAtRim 34 = .ok (.istore 4, 2) := dk_54 4 (dk_at dksX12_isAtRim_1 10 rfl rfl)
theorem dX12_isAtRim_36 : decode cX12_isAtRim 36 = .ok (.iload 4, 2) := dk_21 4 (dk_at dksX12_isAtRim_1 12 rfl rfl)
theorem dX12_isAtRim_38 : decode cX12_isAtRim 38 = .ok (.iload_n 3, 1) := dk_29 (dk_at dksX12_isAtRim_1 14 rfl rfl)
theorem dX12_isAtRim_39 : decode cX12_isAtRim 39 = .ok (.if_icmp .ge 38, 3) := dk_162 0 38 (dk_at dksX12_isAtRim_1 15 rfl rfl)
theorem dX12_isAtRim_42 : decode cX12_isAtRim 42 = .ok (.aload_n 2, 1) := dk_44 (dk_at dksX12_isAtRim_1 18 rfl rfl)
theorem dX12_isAtRim_43 : decode cX12_isAtRim 43 = .ok (.iload 4, 2) := dk_21 4 (dk_at dksX12_isAtRim_1 19 rfl rfl)
theorem dX12_isAtRim_45 : decode cX12_isAtRim 45 = .ok (.iaload, 1) := dk_46 (dk_at dksX12_isAtRim_1 21 rfl rfl)
theorem dX12_isAtRim_46 : decode cX12_isAtRim 46 = .ok (.istore 5, 2) := dk_54 5 (dk_at dksX12_isAtRim_1 22 rfl rfl)
theorem dX12_isAtRim_48 : decode cX12_isAtRim 48 = .ok (.iload_n 1, 1) := dk_27 (dk_at dksX12_isAtRim_2 0 rfl rfl)
theorem dX12_isAtRim_49 : decode cX12_isAtRim 49 = .ok (.iload 5, 2) := dk_21 5 (dk_at dksX12_isAtRim_2 1 rfl rfl)
theorem dX12_isAtRim_51 : decode cX12_isAtRim 51 = .ok (.iconst 1, 1) := dk_4 (dk_at dksX12_isAtRim_2 3 rfl rfl)
theorem dX12_isAtRim_52 : decode cX12_isAtRim 52 = .ok (.iand, 1) := dk_126 (dk_at dksX12_isAtRim_2 4 rfl rfl)
theorem dX12_isAtRim_53 : decode cX12_isAtRim 53 = .ok (.ifCond .ne 11, 3) := dk_154 0 11 (dk_at dksX12_isAtRim_2 5 rfl rfl)
theorem dX12_isAtRim_56 : decode cX12_isAtRim 56 = .ok (.iload 5, 2) := dk_21 5 (dk_at dksX12_isAtRim_2 8 rfl rfl)
theorem dX12_isAtRim_58 : decode cX12_isAtRim 58 = .ok (.bipush 23, 2) := dk_16 23 (dk_at dksX12_isAtRim_2 10 rfl rfl)
theorem dX12_isAtRim_60 : decode cX12_isAtRim 60 = .ok (.ishr, 1) := dk_122 (dk_at dksX12_isAtRim_2 12 rfl rfl)
theorem dX12_isAtRim_61 : decode cX12_isAtRim 61 = .ok (.ifCond .eq 7, 3) := dk_153 0 7 (dk_at dksX12_isAtRim_2 13 rfl rfl)
theorem dX12_isAtRim_64 : decode cX12_isAtRim 64 = .ok (.iconst 1, 1) := dk_4 (dk_at dksX12_isAtRim_2 16 rfl rfl)
theorem dX12_isAtRim_65 : decode cX12_isAtRim 65 = .ok (.goto 4, 3) := dk_167 0 4 (dk_at dksX12_isAtRim_2 17 rfl rfl)
theorem dX12_isAtRim_68 : decode cX12_isAtRim 68 = .ok (.iconst 0, 1) := dk_3 (dk_at dksX12_isAtRim_2 20 rfl rfl)
theorem dX12_isAtRim_69 : decode cX12_isAtRim 69 = .ok (.ior, 1) := dk_128 (dk_at dksX12_isAtRim_2 21 rfl rfl)
theorem dX12_isAtRim_70 : decode cX12_isAtRim 70 = .ok (.istore_n 1, 1) := dk_60 (dk_at dksX12_isAtRim_2 22 rfl rfl)
theorem dX12_isAtRim_71 : decode cX12_isAtRim 71 = .ok (.iinc 4 1, 3) := dk_132 4 1 (dk_at dksX12_isAtRim_3 0 rfl rfl)
theorem dX12_isAtRim_74 : decode cX12_isAtRim 74 = .ok (.goto (-38), 3) := dk_167 255 218 (dk_at dksX12_isAtRim_3 3 rfl rfl)
theorem dX12_isAtRim_77 : decode cX12_isAtRim 77 = .ok (.iload_n 1, 1) := dk_27 (dk_at dksX12_isAtRim_3 6 rfl rfl)
theorem dX12_isAtRim_78 : decode cX12_isAtRim 78 = .ok (.ireturn, 1) := dk_172 (dk_at dksX12_isAtRim_3 7 rfl rfl)
abbrev cX12_toRegion : ByteArray := prog_4_method_15_code
def yX12_toRegion : MethodName := ⟨RX12, "toRegion", "()LPolygonBoard$Region;"⟩
def dkwX12_toRegion_3 : List UInt8 := [182, 0, 89, 132, 2, 1, 167, 255, 189, 43, 176]
abbrev dktX12_toRegion_3 : List UInt8 := dkwX12_toRegion_3 ++ []
def dkwX12_toRegion_2 : List UInt8 := [21, 4, 4, 96, 167, 0, 5, 21, 4, 182, 0, 85, 132, 4, 1, 167, 255, 221, 43, 28, 28, 4, 96, 45]
abbrev dktX12_toRegion_2 : List UInt8 := dkwX12_toRegion_2 ++ dktX12_toRegion_3
def dkwX12_toRegion_1 : List UInt8 := [3, 54, 4, 21, 4, 16, 24, 162, 0, 34, 45, 21, 4, 42, 21, 4, 28, 182, 0, 82, 153, 0, 10]
abbrev dktX12_toRegion_1 : List UInt8 := dkwX12_toRegion_1 ++ dktX12_toRegion_2
def dkwX12_toRegion_0 : List UInt8 := [187, 0, 17, 89, 183, 0, 80, 76, 3, 61, 28, 16, 24, 162, 0, 67, 187, 0, 23, 89, 183, 0, 81, 78]
abbrev dktX12_toRegion_0 : List UInt8 := dkwX12_toRegion_0 ++ dktX12_toRegion_1
theorem dksX12_toRegion_0 : cX12_toRegion.data.toList.drop 0 = dktX12_toRegion_0 := by decide +kernel
theorem dksX12_toRegion_1 : cX12_toRegion.data.toList.drop 24 = dktX12_toRegion_1 := dk_seg dksX12_toRegion_0 24 rfl rfl
theorem dksX12_toRegion_2 : cX12_toRegion.data.toList.drop 47 = dktX12_toRegion_2 := dk_seg dksX12_toRegion_1 23 rfl rfl
theorem dksX12_toRegion_3 : cX12_toRegion.data.toList.drop 71 = dktX12_toRegion_3 := dk_seg dksX12_toRegion_2 24 rfl rfl
theorem dX12_toRegion_0 : decode cX12_toRegion 0 = .ok (.new 17, 3) := dk_187 0 17 (dk_at dksX12_toRegion_0 0 rfl rfl)
theorem dX12_toRegion_3 : decode cX12_toRegion 3 = .ok (.dup, 1) := dk_89 (dk_at dksX12_toRegion_0 3 rfl rfl)
theorem dX12_toRegion_4 : decode cX12_toRegion 4 = .ok (.invokespecial 80, 3) := dk_183 0 80 (dk_at dksX12_toRegion_0 4 rfl rfl)
theorem dX12_toRegion_7 : decode cX12_toRegion 7 = .ok (.astore_n 1, 1) := dk_76 (dk_at dksX12_toRegion_0 7 rfl rfl)
theorem dX12_toRegion_8 : decode cX12_toRegion 8 = .ok (.iconst 0, 1) := dk_3 (dk_at dksX12_toRegion_0 8 rfl rfl)
theorem dX12_toRegion_9 : decode cX12_toRegion 9 = .ok (.istore_n 2, 1) := dk_61 (dk_at dksX12_toRegion_0 9 rfl rfl)
theorem dX12_toRegion_10 : decode cX12_toRegion 10 = .ok (.iload_n 2, 1) := dk_28 (dk_at dksX12_toRegion_0 10 rfl rfl)
theorem dX12_toRegion_11 : decode cX12_toRegion 11 = .ok (.bipush 24, 2) := dk_16 24 (dk_at dksX12_toRegion_0 11 rfl rfl)
theorem dX12_toRegion_13 : decode cX12_toRegion 13 = .ok (.if_icmp .ge 67, 3) := dk_162 0 67 (dk_at dksX12_toRegion_0 13 rfl rfl)
theorem dX12_toRegion_16 : decode cX12_toRegion 16 = .ok (.new 23, 3) := dk_187 0 23 (dk_at dksX12_toRegion_0 16 rfl rfl)
theorem dX12_toRegion_19 : decode cX12_toRegion 19 = .ok (.dup, 1) := dk_89 (dk_at dksX12_toRegion_0 19 rfl rfl)
theorem dX12_toRegion_20 : decode cX12_toRegion 20 = .ok (.invokespecial 81, 3) := dk_183 0 81 (dk_at dksX12_toRegion_0 20 rfl rfl)
theorem dX12_toRegion_23 : decode cX12_toRegion 23 = .ok (.astore_n 3, 1) := dk_78 (dk_at dksX12_toRegion_0 23 rfl rfl)
theorem dX12_toRegion_24 : decode cX12_toRegion 24 = .ok (.iconst 0, 1) := dk_3 (dk_at dksX12_toRegion_1 0 rfl rfl)
theorem dX12_toRegion_25 : decode cX12_toRegion 25 = .ok (.istore 4, 2) := dk_54 4 (dk_at dksX12_toRegion_1 1 rfl rfl)
theorem dX12_toRegion_27 : decode cX12_toRegion 27 = .ok (.iload 4, 2) := dk_21 4 (dk_at dksX12_toRegion_1 3 rfl rfl)
theorem dX12_toRegion_29 : decode cX12_toRegion 29 = .ok (.bipush 24, 2) := dk_16 24 (dk_at dksX12_toRegion_1 5 rfl rfl)
theorem dX12_toRegion_31 : decode cX12_toRegion 31 = .ok (.if_icmp .ge 34, 3) := dk_162 0 34 (dk_at dksX12_toRegion_1 7 rfl rfl)
theorem dX12_toRegion_34 : decode cX12_toRegion 34 = .ok (.aload_n 3, 1) := dk_45 (dk_at dksX12_toRegion_1 10 rfl rfl)
theorem dX12_toRegion_35 : decode cX12_toRegion 35 = .ok (.iload 4, 2) := dk_21 4 (dk_at dksX12_toRegion_1 11 rfl rfl)
theorem dX12_toRegion_37 : decode cX12_toRegion 37 = .ok (.aload_n 0, 1) := dk_42 (dk_at dksX12_toRegion_1 13 rfl rfl)
theorem dX12_toRegion_38 : decode cX12_toRegion 38 = .ok (.iload 4, 2) := dk_21 4 (dk_at dksX12_toRegion_1 14 rfl rfl)
theorem dX12_toRegion_40 : decode cX12_toRegion 40 = .ok (.iload_n 2, 1) := dk_28 (dk_at dksX12_toRegion_1 16 rfl rfl)
theorem dX12_toRegion_41 : decode cX12_toRegion 41 = .ok (.invokevirtual 82, 3) := dk_182 0 82 (dk_at dksX12_toRegion_1 17 rfl rfl)
theorem dX12_toRegion_44 : decode cX12_toRegion 44 = .ok (.ifCond .eq 10, 3) := dk_153 0 10 (dk_at dksX12_toRegion_1 20 rfl rfl)
theorem dX12_toRegion_47 : decode cX12_toRegion 47 = .ok (.iload 4, 2) := dk_21 4 (dk_at dksX12_toRegion_2 0 rfl rfl)
theorem dX12_toRegion_49 : decode cX12_toRegion 49 = .ok (.iconst 1, 1) := dk_4 (dk_at dksX12_toRegion_2 2 rfl rfl)
theorem dX12_toRegion_50 : decode cX12_toRegion 50 = .ok (.iadd, 1) := dk_96 (dk_at dksX12_toRegion_2 3 rfl rfl)
theorem dX12_toRegion_51 : decode cX12_toRegion 51 = .ok (.goto 5, 3) := dk_167 0 5 (dk_at dksX12_toRegion_2 4 rfl rfl)
theorem dX12_toRegion_54 : decode cX12_toRegion 54 = .ok (.iload 4, 2) := dk_21 4 (dk_at dksX12_toRegion_2 7 rfl rfl)
theorem dX12_toRegion_56 : decode cX12_toRegion 56 = .ok (.invokevirtual 85, 3) := dk_182 0 85 (dk_at dksX12_toRegion_2 9 rfl rfl)
theorem dX12_toRegion_59 : decode cX12_toRegion 59 = .ok (.iinc 4 1, 3) := dk_132 4 1 (dk_at dksX12_toRegion_2 12 rfl rfl)
theorem dX12_toRegion_62 : decode cX12_toRegion 62 = .ok (.goto (-35), 3) := dk_167 255 221 (dk_at dksX12_toRegion_2 15 rfl rfl)
theorem dX12_toRegion_65 : decode cX12_toRegion 65 = .ok (.aload_n 1, 1) := dk_43 (dk_at dksX12_toRegion_2 18 rfl rfl)
theorem dX12_toRegion_66 : decode cX12_toRegion 66 = .ok (.iload_n 2, 1) := dk_28 (dk_at dksX12_toRegion_2 19 rfl rfl)
theorem dX12_toRegion_67 : decode cX12_toRegion 67 = .ok (.iload_n 2, 1) := dk_28 (dk_at dksX12_toRegion_2 20 rfl rfl)
theorem dX12_toRegion_68 : decode cX12_toRegion 68 = .ok (.iconst 1, 1) := dk_4 (dk_at dksX12_toRegion_2 21 rfl rfl)
theorem dX12_toRegion_69 : decode cX12_toRegion 69 = .ok (.iadd, 1) := dk_96 (dk_at dksX12_toRegion_2 22 rfl rfl)
theorem dX12_toRegion_70 : decode cX12_toRegion 70 = .ok (.aload_n 3, 1) := dk_45 (dk_at dksX12_toRegion_2 23 rfl rfl)
theorem dX12_toRegion_71 : decode cX12_toRegion 71 = .ok (.invokevirtual 89, 3) := dk_182 0 89 (dk_at dksX12_toRegion_3 0 rfl rfl)
theorem dX12_toRegion_74 : decode cX12_toRegion 74 = .ok (.iinc 2 1, 3) := dk_132 2 1 (dk_at dksX12_toRegion_3 3 rfl rfl)
theorem dX12_toRegion_77 : decode cX12_toRegion 77 = .ok (.goto (-67), 3) := dk_167 255 189 (dk_at dksX12_toRegion_3 6 rfl rfl)
theorem dX12_toRegion_80 : decode cX12_toRegion 80 = .ok (.aload_n 1, 1) := dk_43 (dk_at dksX12_toRegion_3 9 rfl rfl)
theorem dX12_toRegion_81 : decode cX12_toRegion 81 = .ok (.areturn, 1) := dk_176 (dk_at dksX12_toRegion_3 10 rfl rfl)
abbrev cX12_contains : ByteArray := prog_4_method_4_code
def yX12_contains : MethodName := ⟨RX12, "contains", "(II)Z"⟩
def dkwX12_contains_1 : List UInt8 := [167, 0, 4, 3, 172]
abbrev dktX12_contains_1 : List UInt8 := dkwX12_contains_1 ++ []
def dkwX12_contains_0 : List UInt8 := [27, 28, 184, 0, 35, 153, 0, 21, 42, 180, 0, 9, 28, 46, 27, 122, 4, 126, 4, 160, 0, 7, 4]
abbrev dktX12_contains_0 : List UInt8 := dkwX12_contains_0 ++ dktX12_contains_1
theorem dksX12_contains_0 : cX12_contains.data.toList.drop 0 = dktX12_contains_0 := by decide +kernel
theorem dksX12_contains_1 : cX12_contains.data.toList.drop 23 = dktX12_contains_1 := dk_seg dksX12_contains_0 23 rfl rfl
theorem dX12_contains_0 : decode cX12_contains 0 = .ok (.iload_n 1, 1) := dk_27 (dk_at dksX12_contains_0 0 rfl rfl)
theorem dX12_contains_1 : decode cX12_contains 1 = .ok (.iload_n 2, 1) := dk_28 (dk_at dksX12_contains_0 1 rfl rfl)
theorem dX12_contains_2 : decode cX12_contains 2 = .ok (.invokestatic 35, 3) := dk_184 0 35 (dk_at dksX12_contains_0 2 rfl rfl)
theorem dX12_contains_5 : decode cX12_contains 5 = .ok (.ifCond .eq 21, 3) := dk_153 0 21 (dk_at dksX12_contains_0 5 rfl rfl)
theorem dX12_contains_8 : decode cX12_contains 8 = .ok (.aload_n 0, 1) := dk_42 (dk_at dksX12_contains_0 8 rfl rfl)
theorem dX12_contains_9 : decode cX12_contains 9 = .ok (.getfield 9, 3) := dk_180 0 9 (dk_at dksX12_contains_0 9 rfl rfl)
theorem dX12_contains_12 : decode cX12_contains 12 = .ok (.iload_n 2, 1) := dk_28 (dk_at dksX12_contains_0 12 rfl rfl)
theorem dX12_contains_13 : decode cX12_contains 13 = .ok (.iaload, 1) := dk_46 (dk_at dksX12_contains_0 13 rfl rfl)
theorem dX12_contains_14 : decode cX12_contains 14 = .ok (.iload_n 1, 1) := dk_27 (dk_at dksX12_contains_0 14 rfl rfl)
theorem dX12_contains_15 : decode cX12_contains 15 = .ok (.ishr, 1) := dk_122 (dk_at dksX12_contains_0 15 rfl rfl)
theorem dX12_contains_16 : decode cX12_contains 16 = .ok (.iconst 1, 1) := dk_4 (dk_at dksX12_contains_0 16 rfl rfl)
theorem dX12_contains_17 : decode cX12_contains 17 = .ok (.iand, 1) := dk_126 (dk_at dksX12_contains_0 17 rfl rfl)
theorem dX12_contains_18 : decode cX12_contains 18 = .ok (.iconst 1, 1) := dk_4 (dk_at dksX12_contains_0 18 rfl rfl)
theorem dX12_contains_19 : decode cX12_contains 19 = .ok (.if_icmp .ne 7, 3) := dk_160 0 7 (dk_at dksX12_contains_0 19 rfl rfl)
theorem dX12_contains_22 : decode cX12_contains 22 = .ok (.iconst 1, 1) := dk_4 (dk_at dksX12_contains_0 22 rfl rfl)
theorem dX12_contains_23 : decode cX12_contains 23 = .ok (.goto 4, 3) := dk_167 0 4 (dk_at dksX12_contains_1 0 rfl rfl)
theorem dX12_contains_26 : decode cX12_contains 26 = .ok (.iconst 0, 1) := dk_3 (dk_at dksX12_contains_1 3 rfl rfl)
theorem dX12_contains_27 : decode cX12_contains 27 = .ok (.ireturn, 1) := dk_172 (dk_at dksX12_contains_1 4 rfl rfl)
abbrev cX12_area : ByteArray := prog_4_method_6_code
def yX12_area : MethodName := ⟨RX12, "area", "()I"⟩
def dkwX12_area_1 : List UInt8 := [54, 5, 27, 21, 5, 184, 0, 43, 96, 60, 132, 4, 1, 167, 255, 233, 27, 172]
abbrev dktX12_area_1 : List UInt8 := dkwX12_area_1 ++ []
def dkwX12_area_0 : List UInt8 := [3, 60, 42, 180, 0, 9, 77, 44, 190, 62, 3, 54, 4, 21, 4, 29, 162, 0, 23, 44, 21, 4, 46]
abbrev dktX12_area_0 : List UInt8 := dkwX12_area_0 ++ dktX12_area_1
theorem dksX12_area_0 : cX12_area.data.toList.drop 0 = dktX12_area_0 := by decide +kernel
theorem dksX12_area_1 : cX12_area.data.toList.drop 23 = dktX12_area_1 := dk_seg dksX12_area_0 23 rfl rfl
theorem dX12_area_0 : decode cX12_area 0 = .ok (.iconst 0, 1) := dk_3 (dk_at dksX12_area_0 0 rfl rfl)
theorem dX12_area_1 : decode cX12_area 1 = .ok (.istore_n 1, 1) := dk_60 (dk_at dksX12_area_0 1 rfl rfl)
theorem dX12_area_2 : decode cX12_area 2 = .ok (.aload_n 0, 1) := dk_42 (dk_at dksX12_area_0 2 rfl rfl)
theorem dX12_area_3 : decode cX12_area 3 = .ok (.getfield 9, 3) := dk_180 0 9 (dk_at dksX12_area_0 3 rfl rfl)
theorem dX12_area_6 : decode cX12_area 6 = .ok (.astore_n 2, 1) := dk_77 (dk_at dksX12_area_0 6 rfl rfl)
theorem dX12_area_7 : decode cX12_area 7 = .ok (.aload_n 2, 1) := dk_44 (dk_at dksX12_area_0 7 rfl rfl)
theorem dX12_area_8 : decode cX12_area 8 = .ok (.arraylength, 1) := dk_190 (dk_at dksX12_area_0 8 rfl rfl)
theorem dX12_area_9 : decode cX12_area 9 = .ok (.istore_n 3, 1) := dk_62 (dk_at dksX12_area_0 9 rfl rfl)
theorem dX12_area_10 : decode cX12_area 10 = .ok (.iconst 0, 1) := dk_3 (dk_at dksX12_area_0 10 rfl rfl)
theorem dX12_area_11 : decode cX12_area 11 = .ok (.istore 4, 2) := dk_54 4 (dk_at dksX12_area_0 11 rfl rfl)
theorem dX12_area_13 : decode cX12_area 13 = .ok (.iload 4, 2) := dk_21 4 (dk_at dksX12_area_0 13 rfl rfl)
theorem dX12_area_15 : decode cX12_area 15 = .ok (.iload_n 3, 1) := dk_29 (dk_at dksX12_area_0 15 rfl rfl)
theorem dX12_area_16 : decode cX12_area 16 = .ok (.if_icmp .ge 23, 3) := dk_162 0 23 (dk_at dksX12_area_0 16 rfl rfl)
theorem dX12_area_19 : decode cX12_area 19 = .ok (.aload_n 2, 1) := dk_44 (dk_at dksX12_area_0 19 rfl rfl)
theorem dX12_area_20 : decode cX12_area 20 = .ok (.iload 4, 2) := dk_21 4 (dk_at dksX12_area_0 20 rfl rfl)
theorem dX12_area_22 : decode cX12_area 22 = .ok (.iaload, 1) := dk_46 (dk_at dksX12_area_0 22 rfl rfl)
theorem dX12_area_23 : decode cX12_area 23 = .ok (.istore 5, 2) := dk_54 5 (dk_at dksX12_area_1 0 rfl rfl)
theorem dX12_area_25 : decode cX12_area 25 = .ok (.iload_n 1, 1) := dk_27 (dk_at dksX12_area_1 2 rfl rfl)
theorem dX12_area_26 : decode cX12_area 26 = .ok (.iload 5, 2) := dk_21 5 (dk_at dksX12_area_1 3 rfl rfl)
theorem dX12_area_28 : decode cX12_area 28 = .ok (.invokestatic 43, 3) := dk_184 0 43 (dk_at dksX12_area_1 5 rfl rfl)
theorem dX12_area_31 : decode cX12_area 31 = .ok (.iadd, 1) := dk_96 (dk_at dksX12_area_1 8 rfl rfl)
theorem dX12_area_32 : decode cX12_area 32 = .ok (.istore_n 1, 1) := dk_60 (dk_at dksX12_area_1 9 rfl rfl)
theorem dX12_area_33 : decode cX12_area 33 = .ok (.iinc 4 1, 3) := dk_132 4 1 (dk_at dksX12_area_1 10 rfl rfl)
theorem dX12_area_36 : decode cX12_area 36 = .ok (.goto (-23), 3) := dk_167 255 233 (dk_at dksX12_area_1 13 rfl rfl)
theorem dX12_area_39 : decode cX12_area 39 = .ok (.iload_n 1, 1) := dk_27 (dk_at dksX12_area_1 16 rfl rfl)
theorem dX12_area_40 : decode cX12_area 40 = .ok (.ireturn, 1) := dk_172 (dk_at dksX12_area_1 17 rfl rfl)
abbrev cX12_perimeter : ByteArray := prog_4_method_7_code
def yX12_perimeter : MethodName := ⟨RX12, "perimeter", "()I"⟩
def dkwX12_perimeter_2 : List UInt8 := [132, 2, 1, 167, 255, 209, 27, 172]
abbrev dktX12_perimeter_2 : List UInt8 := dkwX12_perimeter_2 ++ []
def dkwX12_perimeter_1 : List UInt8 := [184, 0, 43, 96, 60, 27, 42, 28, 182, 0, 48, 42, 28, 182, 0, 48, 4, 120, 130, 184, 0, 43, 96, 60]
abbrev dktX12_perimeter_1 : List UInt8 := dkwX12_perimeter_1 ++ dktX12_perimeter_2
def dkwX12_perimeter_0 : List UInt8 := [3, 60, 3, 61, 28, 16, 24, 163, 0, 47, 27, 42, 28, 182, 0, 48, 42, 28, 4, 100, 182, 0, 48, 130]
abbrev dktX12_perimeter_0 : List UInt8 := dkwX12_perimeter_0 ++ dktX12_perimeter_1
theorem dksX12_perimeter_0 : cX12_perimeter.data.toList.drop 0 = dktX12_perimeter_0 := by decide +kernel
theorem dksX12_perimeter_1 : cX12_perimeter.data.toList.drop 24 = dktX12_perimeter_1 := dk_seg dksX12_perimeter_0 24 rfl rfl
theorem dksX12_perimeter_2 : cX12_perimeter.data.toList.drop 48 = dktX12_perimeter_2 := dk_seg dksX12_perimeter_1 24 rfl rfl
theorem dX12_perimeter_0 : decode cX12_perimeter 0 = .ok (.iconst 0, 1) := dk_3 (dk_at dksX12_perimeter_0 0 rfl rfl)
theorem dX12_perimeter_1 : decode cX12_perimeter 1 = .ok (.istore_n 1, 1) := dk_60 (dk_at dksX12_perimeter_0 1 rfl rfl)
theorem dX12_perimeter_2 : decode cX12_perimeter 2 = .ok (.iconst 0, 1) := dk_3 (dk_at dksX12_perimeter_0 2 rfl rfl)
theorem dX12_perimeter_3 : decode cX12_perimeter 3 = .ok (.istore_n 2, 1) := dk_61 (dk_at dksX12_perimeter_0 3 rfl rfl)
theorem dX12_perimeter_4 : decode cX12_perimeter 4 = .ok (.iload_n 2, 1) := dk_28 (dk_at dksX12_perimeter_0 4 rfl rfl)
theorem dX12_perimeter_5 : decode cX12_perimeter 5 = .ok (.bipush 24, 2) := dk_16 24 (dk_at dksX12_perimeter_0 5 rfl rfl)
theorem dX12_perimeter_7 : decode cX12_perimeter 7 = .ok (.if_icmp .gt 47, 3) := dk_163 0 47 (dk_at dksX12_perimeter_0 7 rfl rfl)
theorem dX12_perimeter_10 : decode cX12_perimeter 10 = .ok (.iload_n 1, 1) := dk_27 (dk_at dksX12_perimeter_0 10 rfl rfl)
theorem dX12_perimeter_11 : decode cX12_perimeter 11 = .ok (.aload_n 0, 1) := dk_42 (dk_at dksX12_perimeter_0 11 rfl rfl)
theorem dX12_perimeter_12 : decode cX12_perimeter 12 = .ok (.iload_n 2, 1) := dk_28 (dk_at dksX12_perimeter_0 12 rfl rfl)
theorem dX12_perimeter_13 : decode cX12_perimeter 13 = .ok (.invokevirtual 48, 3) := dk_182 0 48 (dk_at dksX12_perimeter_0 13 rfl rfl)
theorem dX12_perimeter_16 : decode cX12_perimeter 16 = .ok (.aload_n 0, 1) := dk_42 (dk_at dksX12_perimeter_0 16 rfl rfl)
theorem dX12_perimeter_17 : decode cX12_perimeter 17 = .ok (.iload_n 2, 1) := dk_28 (dk_at dksX12_perimeter_0 17 rfl rfl)
theorem dX12_perimeter_18 : decode cX12_perimeter 18 = .ok (.iconst 1, 1) := dk_4 (dk_at dksX12_perimeter_0 18 rfl rfl)
theorem dX12_perimeter_19 : decode cX12_perimeter 19 = .ok (.isub, 1) := dk_100 (dk_at dksX12_perimeter_0 19 rfl rfl)
theorem dX12_perimeter_20 : decode cX12_perimeter 20 = .ok (.invokevirtual 48, 3) := dk_182 0 48 (dk_at dksX12_perimeter_0 20 rfl rfl)
theorem dX12_perimeter_23 : decode cX12_perimeter 23 = .ok (.ixor, 1) := dk_130 (dk_at dksX12_perimeter_0 23 rfl rfl)
theorem dX12_perimeter_24 : decode cX12_perimeter 24 = .ok (.invokestatic 43, 3) := dk_184 0 43 (dk_at dksX12_perimeter_1 0 rfl rfl)
theorem dX12_perimeter_27 : decode cX12_perimeter 27 = .ok (.iadd, 1) := dk_96 (dk_at dksX12_perimeter_1 3 rfl rfl)
theorem dX12_perimeter_28 : decode cX12_perimeter 28 = .ok (.istore_n 1, 1) := dk_60 (dk_at dksX12_perimeter_1 4 rfl rfl)
theorem dX12_perimeter_29 : decode cX12_perimeter 29 = .ok (.iload_n 1, 1) := dk_27 (dk_at dksX12_perimeter_1 5 rfl rfl)
theorem dX12_perimeter_30 : decode cX12_perimeter 30 = .ok (.aload_n 0, 1) := dk_42 (dk_at dksX12_perimeter_1 6 rfl rfl)
theorem dX12_perimeter_31 : decode cX12_perimeter 31 = .ok (.iload_n 2, 1) := dk_28 (dk_at dksX12_perimeter_1 7 rfl rfl)
theorem dX12_perimeter_32 : decode cX12_perimeter 32 = .ok (.invokevirtual 48, 3) := dk_182 0 48 (dk_at dksX12_perimeter_1 8 rfl rfl)
theorem dX12_perimeter_35 : decode cX12_perimeter 35 = .ok (.aload_n 0, 1) := dk_42 (dk_at dksX12_perimeter_1 11 rfl rfl)
theorem dX12_perimeter_36 : decode cX12_perimeter 36 = .ok (.iload_n 2, 1) := dk_28 (dk_at dksX12_perimeter_1 12 rfl rfl)
theorem dX12_perimeter_37 : decode cX12_perimeter 37 = .ok (.invokevirtual 48, 3) := dk_182 0 48 (dk_at dksX12_perimeter_1 13 rfl rfl)
theorem dX12_perimeter_40 : decode cX12_perimeter 40 = .ok (.iconst 1, 1) := dk_4 (dk_at dksX12_perimeter_1 16 rfl rfl)
theorem dX12_perimeter_41 : decode cX12_perimeter 41 = .ok (.ishl, 1) := dk_120 (dk_at dksX12_perimeter_1 17 rfl rfl)
theorem dX12_perimeter_42 : decode cX12_perimeter 42 = .ok (.ixor, 1) := dk_130 (dk_at dksX12_perimeter_1 18 rfl rfl)
theorem dX12_perimeter_43 : decode cX12_perimeter 43 = .ok (.invokestatic 43, 3) := dk_184 0 43 (dk_at dksX12_perimeter_1 19 rfl rfl)
theorem dX12_perimeter_46 : decode cX12_perimeter 46 = .ok (.iadd, 1) := dk_96 (dk_at dksX12_perimeter_1 22 rfl rfl)
theorem dX12_perimeter_47 : decode cX12_perimeter 47 = .ok (.istore_n 1, 1) := dk_60 (dk_at dksX12_perimeter_1 23 rfl rfl)
theorem dX12_perimeter_48 : decode cX12_perimeter 48 = .ok (.iinc 2 1, 3) := dk_132 2 1 (dk_at dksX12_perimeter_2 0 rfl rfl)
theorem dX12_perimeter_51 : decode cX12_perimeter 51 = .ok (.goto (-47), 3) := dk_167 255 209 (dk_at dksX12_perimeter_2 3 rfl rfl)
theorem dX12_perimeter_54 : decode cX12_perimeter 54 = .ok (.iload_n 1, 1) := dk_27 (dk_at dksX12_perimeter_2 6 rfl rfl)
theorem dX12_perimeter_55 : decode cX12_perimeter 55 = .ok (.ireturn, 1) := dk_172 (dk_at dksX12_perimeter_2 7 rfl rfl)
abbrev cX12_row : ByteArray := prog_4_method_5_code
def yX12_row : MethodName := ⟨RX12, "row", "(I)I"⟩
def dkwX12_row_0 : List UInt8 := [27, 3, 16, 23, 184, 0, 39, 153, 0, 12, 42, 180, 0, 9, 27, 46, 167, 0, 4, 3, 172]
abbrev dktX12_row_0 : List UInt8 := dkwX12_row_0 ++ []
theorem dksX12_row_0 : cX12_row.data.toList.drop 0 = dktX12_row_0 := by decide +kernel
theorem dX12_row_0 : decode cX12_row 0 = .ok (.iload_n 1, 1) := dk_27 (dk_at dksX12_row_0 0 rfl rfl)
theorem dX12_row_1 : decode cX12_row 1 = .ok (.iconst 0, 1) := dk_3 (dk_at dksX12_row_0 1 rfl rfl)
theorem dX12_row_2 : decode cX12_row 2 = .ok (.bipush 23, 2) := dk_16 23 (dk_at dksX12_row_0 2 rfl rfl)
theorem dX12_row_4 : decode cX12_row 4 = .ok (.invokestatic 39, 3) := dk_184 0 39 (dk_at dksX12_row_0 4 rfl rfl)
theorem dX12_row_7 : decode cX12_row 7 = .ok (.ifCond .eq 12, 3) := dk_153 0 12 (dk_at dksX12_row_0 7 rfl rfl)
theorem dX12_row_10 : decode cX12_row 10 = .ok (.aload_n 0, 1) := dk_42 (dk_at dksX12_row_0 10 rfl rfl)
theorem dX12_row_11 : decode cX12_row 11 = .ok (.getfield 9, 3) := dk_180 0 9 (dk_at dksX12_row_0 11 rfl rfl)
theorem dX12_row_14 : decode cX12_row 14 = .ok (.iload_n 1, 1) := dk_27 (dk_at dksX12_row_0 14 rfl rfl)
theorem dX12_row_15 : decode cX12_row 15 = .ok (.iaload, 1) := dk_46 (dk_at dksX12_row_0 15 rfl rfl)
theorem dX12_row_16 : decode cX12_row 16 = .ok (.goto 4, 3) := dk_167 0 4 (dk_at dksX12_row_0 16 rfl rfl)
theorem dX12_row_19 : decode cX12_row 19 = .ok (.iconst 0, 1) := dk_3 (dk_at dksX12_row_0 19 rfl rfl)
theorem dX12_row_20 : decode cX12_row 20 = .ok (.ireturn, 1) := dk_172 (dk_at dksX12_row_0 20 rfl rfl)
abbrev cX12_countParts : ByteArray := prog_4_method_13_code
def yX12_countParts : MethodName := ⟨RX12, "countParts", "(Z)I"⟩
def dkwX12_countParts_2 : List UInt8 := [153, 0, 7, 3, 167, 0, 4, 4, 96, 61, 167, 255, 210, 132, 3, 1, 167, 255, 198, 28, 172]
abbrev dktX12_countParts_2 : List UInt8 := dkwX12_countParts_2 ++ []
def dkwX12_countParts_1 : List UInt8 := [29, 46, 184, 0, 69, 29, 27, 182, 0, 72, 58, 4, 28, 27, 153, 0, 15, 25, 4, 182, 0, 76]
abbrev dktX12_countParts_1 : List UInt8 := dkwX12_countParts_1 ++ dktX12_countParts_2
def dkwX12_countParts_0 : List UInt8 := [3, 61, 3, 62, 29, 16, 24, 162, 0, 58, 42, 180, 0, 9, 29, 46, 153, 0, 43, 42, 42, 180, 0, 9]
abbrev dktX12_countParts_0 : List UInt8 := dkwX12_countParts_0 ++ dktX12_countParts_1
theorem dksX12_countParts_0 : cX12_countParts.data.toList.drop 0 = dktX12_countParts_0 := by decide +kernel
theorem dksX12_countParts_1 : cX12_countParts.data.toList.drop 24 = dktX12_countParts_1 := dk_seg dksX12_countParts_0 24 rfl rfl
theorem dksX12_countParts_2 : cX12_countParts.data.toList.drop 46 = dktX12_countParts_2 := dk_seg dksX12_countParts_1 22 rfl rfl
theorem dX12_countParts_0 : decode cX12_countParts 0 = .ok (.iconst 0, 1) := dk_3 (dk_at dksX12_countParts_0 0 rfl rfl)
theorem dX12_countParts_1 : decode cX12_countParts 1 = .ok (.istore_n 2, 1) := dk_61 (dk_at dksX12_countParts_0 1 rfl rfl)
theorem dX12_countParts_2 : decode cX12_countParts 2 = .ok (.iconst 0, 1) := dk_3 (dk_at dksX12_countParts_0 2 rfl rfl)
theorem dX12_countParts_3 : decode cX12_countParts 3 = .ok (.istore_n 3, 1) := dk_62 (dk_at dksX12_countParts_0 3 rfl rfl)
theorem dX12_countParts_4 : decode cX12_countParts 4 = .ok (.iload_n 3, 1) := dk_29 (dk_at dksX12_countParts_0 4 rfl rfl)
theorem dX12_countParts_5 : decode cX12_countParts 5 = .ok (.bipush 24, 2) := dk_16 24 (dk_at dksX12_countParts_0 5 rfl rfl)
theorem dX12_countParts_7 : decode cX12_countParts 7 = .ok (.if_icmp .ge 58, 3) := dk_162 0 58 (dk_at dksX12_countParts_0 7 rfl rfl)
theorem dX12_countParts_10 : decode cX12_countParts 10 = .ok (.aload_n 0, 1) := dk_42 (dk_at dksX12_countParts_0 10 rfl rfl)
theorem dX12_countParts_11 : decode cX12_countParts 11 = .ok (.getfield 9, 3) := dk_180 0 9 (dk_at dksX12_countParts_0 11 rfl rfl)
theorem dX12_countParts_14 : decode cX12_countParts 14 = .ok (.iload_n 3, 1) := dk_29 (dk_at dksX12_countParts_0 14 rfl rfl)
theorem dX12_countParts_15 : decode cX12_countParts 15 = .ok (.iaload, 1) := dk_46 (dk_at dksX12_countParts_0 15 rfl rfl)
theorem dX12_countParts_16 : decode cX12_countParts 16 = .ok (.ifCond .eq 43, 3) := dk_153 0 43 (dk_at dksX12_countParts_0 16 rfl rfl)
theorem dX12_countParts_19 : decode cX12_countParts 19 = .ok (.aload_n 0, 1) := dk_42 (dk_at dksX12_countParts_0 19 rfl rfl)
theorem dX12_countParts_20 : decode cX12_countParts 20 = .ok (.aload_n 0, 1) := dk_42 (dk_at dksX12_countParts_0 20 rfl rfl)
theorem dX12_countParts_21 : decode cX12_countParts 21 = .ok (.getfield 9, 3) := dk_180 0 9 (dk_at dksX12_countParts_0 21 rfl rfl)
theorem dX12_countParts_24 : decode cX12_countParts 24 = .ok (.iload_n 3, 1) := dk_29 (dk_at dksX12_countParts_1 0 rfl rfl)
theorem dX12_countParts_25 : decode cX12_countParts 25 = .ok (.iaload, 1) := dk_46 (dk_at dksX12_countParts_1 1 rfl rfl)
theorem dX12_countParts_26 : decode cX12_countParts 26 = .ok (.invokestatic 69, 3) := dk_184 0 69 (dk_at dksX12_countParts_1 2 rfl rfl)
theorem dX12_countParts_29 : decode cX12_countParts 29 = .ok (.iload_n 3, 1) := dk_29 (dk_at dksX12_countParts_1 5 rfl rfl)
theorem dX12_countParts_30 : decode cX12_countParts 30 = .ok (.iload_n 1, 1) := dk_27 (dk_at dksX12_countParts_1 6 rfl rfl)
theorem dX12_countParts_31 : decode cX12_countParts 31 = .ok (.invokevirtual 72, 3) := dk_182 0 72 (dk_at dksX12_countParts_1 7 rfl rfl)
theorem dX12_countParts_34 : decode cX12_countParts 34 = .ok (.astore 4, 2) := dk_58 4 (dk_at dksX12_countParts_1 10 rfl rfl)
theorem dX12_countParts_36 : decode cX12_countParts 36 = .ok (.iload_n 2, 1) := dk_28 (dk_at dksX12_countParts_1 12 rfl rfl)
theorem dX12_countParts_37 : decode cX12_countParts 37 = .ok (.iload_n 1, 1) := dk_27 (dk_at dksX12_countParts_1 13 rfl rfl)
theorem dX12_countParts_38 : decode cX12_countParts 38 = .ok (.ifCond .eq 15, 3) := dk_153 0 15 (dk_at dksX12_countParts_1 14 rfl rfl)
theorem dX12_countParts_41 : decode cX12_countParts 41 = .ok (.aload 4, 2) := dk_25 4 (dk_at dksX12_countParts_1 17 rfl rfl)
theorem dX12_countParts_43 : decode cX12_countParts 43 = .ok (.invokevirtual 76, 3) := dk_182 0 76 (dk_at dksX12_countParts_1 19 rfl rfl)
theorem dX12_countParts_46 : decode cX12_countParts 46 = .ok (.ifCond .eq 7, 3) := dk_153 0 7 (dk_at dksX12_countParts_2 0 rfl rfl)
theorem dX12_countParts_49 : decode cX12_countParts 49 = .ok (.iconst 0, 1) := dk_3 (dk_at dksX12_countParts_2 3 rfl rfl)
theorem dX12_countParts_50 : decode cX12_countParts 50 = .ok (.goto 4, 3) := dk_167 0 4 (dk_at dksX12_countParts_2 4 rfl rfl)
theorem dX12_countParts_53 : decode cX12_countParts 53 = .ok (.iconst 1, 1) := dk_4 (dk_at dksX12_countParts_2 7 rfl rfl)
theorem dX12_countParts_54 : decode cX12_countParts 54 = .ok (.iadd, 1) := dk_96 (dk_at dksX12_countParts_2 8 rfl rfl)
theorem dX12_countParts_55 : decode cX12_countParts 55 = .ok (.istore_n 2, 1) := dk_61 (dk_at dksX12_countParts_2 9 rfl rfl)
theorem dX12_countParts_56 : decode cX12_countParts 56 = .ok (.goto (-46), 3) := dk_167 255 210 (dk_at dksX12_countParts_2 10 rfl rfl)
theorem dX12_countParts_59 : decode cX12_countParts 59 = .ok (.iinc 3 1, 3) := dk_132 3 1 (dk_at dksX12_countParts_2 13 rfl rfl)
theorem dX12_countParts_62 : decode cX12_countParts 62 = .ok (.goto (-58), 3) := dk_167 255 198 (dk_at dksX12_countParts_2 16 rfl rfl)
theorem dX12_countParts_65 : decode cX12_countParts 65 = .ok (.iload_n 2, 1) := dk_28 (dk_at dksX12_countParts_2 19 rfl rfl)
theorem dX12_countParts_66 : decode cX12_countParts 66 = .ok (.ireturn, 1) := dk_172 (dk_at dksX12_countParts_2 20 rfl rfl)
abbrev cX12_largestRectangle : ByteArray := prog_4_method_18_code
def yX12_largestRectangle : MethodName := ⟨RX12, "largestRectangle", "()I"⟩
def dkwX12_largestRectangle_3 : List UInt8 := [167, 255, 198, 28, 172]
abbrev dktX12_largestRectangle_3 : List UInt8 := dkwX12_largestRectangle_3 ++ []
def dkwX12_largestRectangle_2 : List UInt8 := [167, 0, 4, 3, 79, 132, 4, 1, 167, 255, 222, 28, 43, 184, 0, 121, 184, 0, 107, 61, 132, 3, 1]
abbrev dktX12_largestRectangle_2 : List UInt8 := dkwX12_largestRectangle_2 ++ dktX12_largestRectangle_3
def dkwX12_largestRectangle_1 : List UInt8 := [162, 0, 33, 43, 21, 4, 42, 21, 4, 29, 182, 0, 82, 153, 0, 12, 43, 21, 4, 46, 4, 96]
abbrev dktX12_largestRectangle_1 : List UInt8 := dkwX12_largestRectangle_1 ++ dktX12_largestRectangle_2
def dkwX12_largestRectangle_0 : List UInt8 := [16, 25, 188, 10, 76, 3, 61, 3, 62, 29, 16, 24, 162, 0, 58, 3, 54, 4, 21, 4, 16, 24]
abbrev dktX12_largestRectangle_0 : List UInt8 := dkwX12_largestRectangle_0 ++ dktX12_largestRectangle_1
theorem dksX12_largestRectangle_0 : cX12_largestRectangle.data.toList.drop 0 = dktX12_largestRectangle_0 := by decide +kernel
theorem dksX12_largestRectangle_1 : cX12_largestRectangle.data.toList.drop 22 = dktX12_largestRectangle_1 := dk_seg dksX12_largestRectangle_0 22 rfl rfl
theorem dksX12_largestRectangle_2 : cX12_largestRectangle.data.toList.drop 44 = dktX12_largestRectangle_2 := dk_seg dksX12_largestRectangle_1 22 rfl rfl
theorem dksX12_largestRectangle_3 : cX12_largestRectangle.data.toList.drop 67 = dktX12_largestRectangle_3 := dk_seg dksX12_largestRectangle_2 23 rfl rfl
theorem dX12_largestRectangle_0 : decode cX12_largestRectangle 0 = .ok (.bipush 25, 2) := dk_16 25 (dk_at dksX12_largestRectangle_0 0 rfl rfl)
theorem dX12_largestRectangle_2 : decode cX12_largestRectangle 2 = .ok (.newarray .int, 2) := dk_188_10 (dk_at dksX12_largestRectangle_0 2 rfl rfl)
theorem dX12_largestRectangle_4 : decode cX12_largestRectangle 4 = .ok (.astore_n 1, 1) := dk_76 (dk_at dksX12_largestRectangle_0 4 rfl rfl)
theorem dX12_largestRectangle_5 : decode cX12_largestRectangle 5 = .ok (.iconst 0, 1) := dk_3 (dk_at dksX12_largestRectangle_0 5 rfl rfl)
theorem dX12_largestRectangle_6 : decode cX12_largestRectangle 6 = .ok (.istore_n 2, 1) := dk_61 (dk_at dksX12_largestRectangle_0 6 rfl rfl)
theorem dX12_largestRectangle_7 : decode cX12_largestRectangle 7 = .ok (.iconst 0, 1) := dk_3 (dk_at dksX12_largestRectangle_0 7 rfl rfl)
theorem dX12_largestRectangle_8 : decode cX12_largestRectangle 8 = .ok (.istore_n 3, 1) := dk_62 (dk_at dksX12_largestRectangle_0 8 rfl rfl)
theorem dX12_largestRectangle_9 : decode cX12_largestRectangle 9 = .ok (.iload_n 3, 1) := dk_29 (dk_at dksX12_largestRectangle_0 9 rfl rfl)
theorem dX12_largestRectangle_10 : decode cX12_largestRectangle 10 = .ok (.bipush 24, 2) := dk_16 24 (dk_at dksX12_largestRectangle_0 10 rfl rfl)
theorem dX12_largestRectangle_12 : decode cX12_largestRectangle 12 = .ok (.if_icmp .ge 58, 3) := dk_162 0 58 (dk_at dksX12_largestRectangle_0 12 rfl rfl)
theorem dX12_largestRectangle_15 : decode cX12_largestRectangle 15 = .ok (.iconst 0, 1) := dk_3 (dk_at dksX12_largestRectangle_0 15 rfl rfl)
theorem dX12_largestRectangle_16 : decode cX12_largestRectangle 16 = .ok (.istore 4, 2) := dk_54 4 (dk_at dksX12_largestRectangle_0 16 rfl rfl)
theorem dX12_largestRectangle_18 : decode cX12_largestRectangle 18 = .ok (.iload 4, 2) := dk_21 4 (dk_at dksX12_largestRectangle_0 18 rfl rfl)
theorem dX12_largestRectangle_20 : decode cX12_largestRectangle 20 = .ok (.bipush 24, 2) := dk_16 24 (dk_at dksX12_largestRectangle_0 20 rfl rfl)
theorem dX12_largestRectangle_22 : decode cX12_largestRectangle 22 = .ok (.if_icmp .ge 33, 3) := dk_162 0 33 (dk_at dksX12_largestRectangle_1 0 rfl rfl)
theorem dX12_largestRectangle_25 : decode cX12_largestRectangle 25 = .ok (.aload_n 1, 1) := dk_43 (dk_at dksX12_largestRectangle_1 3 rfl rfl)
theorem dX12_largestRectangle_26 : decode cX12_largestRectangle 26 = .ok (.iload 4, 2) := dk_21 4 (dk_at dksX12_largestRectangle_1 4 rfl rfl)
theorem dX12_largestRectangle_28 : decode cX12_largestRectangle 28 = .ok (.aload_n 0, 1) := dk_42 (dk_at dksX12_largestRectangle_1 6 rfl rfl)
theorem dX12_largestRectangle_29 : decode cX12_largestRectangle 29 = .ok (.iload 4, 2) := dk_21 4 (dk_at dksX12_largestRectangle_1 7 rfl rfl)
theorem dX12_largestRectangle_31 : decode cX12_largestRectangle 31 = .ok (.iload_n 3, 1) := dk_29 (dk_at dksX12_largestRectangle_1 9 rfl rfl)
theorem dX12_largestRectangle_32 : decode cX12_largestRectangle 32 = .ok (.invokevirtual 82, 3) := dk_182 0 82 (dk_at dksX12_largestRectangle_1 10 rfl rfl)
theorem dX12_largestRectangle_35 : decode cX12_largestRectangle 35 = .ok (.ifCond .eq 12, 3) := dk_153 0 12 (dk_at dksX12_largestRectangle_1 13 rfl rfl)
theorem dX12_largestRectangle_38 : decode cX12_largestRectangle 38 = .ok (.aload_n 1, 1) := dk_43 (dk_at dksX12_largestRectangle_1 16 rfl rfl)
theorem dX12_largestRectangle_39 : decode cX12_largestRectangle 39 = .ok (.iload 4, 2) := dk_21 4 (dk_at dksX12_largestRectangle_1 17 rfl rfl)
theorem dX12_largestRectangle_41 : decode cX12_largestRectangle 41 = .ok (.iaload, 1) := dk_46 (dk_at dksX12_largestRectangle_1 19 rfl rfl)
theorem dX12_largestRectangle_42 : decode cX12_largestRectangle 42 = .ok (.iconst 1, 1) := dk_4 (dk_at dksX12_largestRectangle_1 20 rfl rfl)
theorem dX12_largestRectangle_43 : decode cX12_largestRectangle 43 = .ok (.iadd, 1) := dk_96 (dk_at dksX12_largestRectangle_1 21 rfl rfl)
theorem dX12_largestRectangle_44 : decode cX12_largestRectangle 44 = .ok (.goto 4, 3) := dk_167 0 4 (dk_at dksX12_largestRectangle_2 0 rfl rfl)
theorem dX12_largestRectangle_47 : decode cX12_largestRectangle 47 = .ok (.iconst 0, 1) := dk_3 (dk_at dksX12_largestRectangle_2 3 rfl rfl)
theorem dX12_largestRectangle_48 : decode cX12_largestRectangle 48 = .ok (.iastore, 1) := dk_79 (dk_at dksX12_largestRectangle_2 4 rfl rfl)
theorem dX12_largestRectangle_49 : decode cX12_largestRectangle 49 = .ok (.iinc 4 1, 3) := dk_132 4 1 (dk_at dksX12_largestRectangle_2 5 rfl rfl)
theorem dX12_largestRectangle_52 : decode cX12_largestRectangle 52 = .ok (.goto (-34), 3) := dk_167 255 222 (dk_at dksX12_largestRectangle_2 8 rfl rfl)
theorem dX12_largestRectangle_55 : decode cX12_largestRectangle 55 = .ok (.iload_n 2, 1) := dk_28 (dk_at dksX12_largestRectangle_2 11 rfl rfl)
theorem dX12_largestRectangle_56 : decode cX12_largestRectangle 56 = .ok (.aload_n 1, 1) := dk_43 (dk_at dksX12_largestRectangle_2 12 rfl rfl)
theorem dX12_largestRectangle_57 : decode cX12_largestRectangle 57 = .ok (.invokestatic 121, 3) := dk_184 0 121 (dk_at dksX12_largestRectangle_2 13 rfl rfl)
theorem dX12_largestRectangle_60 : decode cX12_largestRectangle 60 = .ok (.invokestatic 107, 3) := dk_184 0 107 (dk_at dksX12_largestRectangle_2 16 rfl rfl)
theorem dX12_largestRectangle_63 : decode cX12_largestRectangle 63 = .ok (.istore_n 2, 1) := dk_61 (dk_at dksX12_largestRectangle_2 19 rfl rfl)
theorem dX12_largestRectangle_64 : decode cX12_largestRectangle 64 = .ok (.iinc 3 1, 3) := dk_132 3 1 (dk_at dksX12_largestRectangle_2 20 rfl rfl)
theorem dX12_largestRectangle_67 : decode cX12_largestRectangle 67 = .ok (.goto (-58), 3) := dk_167 255 198 (dk_at dksX12_largestRectangle_3 0 rfl rfl)
theorem dX12_largestRectangle_70 : decode cX12_largestRectangle 70 = .ok (.iload_n 2, 1) := dk_28 (dk_at dksX12_largestRectangle_3 3 rfl rfl)
theorem dX12_largestRectangle_71 : decode cX12_largestRectangle 71 = .ok (.ireturn, 1) := dk_172 (dk_at dksX12_largestRectangle_3 4 rfl rfl)
abbrev cX12_largestBelow : ByteArray := prog_4_method_17_code
def yX12_largestBelow : MethodName := ⟨RX12, "largestBelow", "([I)I"⟩
def dkwX12_largestBelow_5 : List UInt8 := [132, 3, 1, 167, 255, 146, 28, 172]
abbrev dktX12_largestBelow_5 : List UInt8 := dkwX12_largestBelow_5 ++ []
def dkwX12_largestBelow_4 : List UInt8 := [28, 21, 5, 29, 21, 6, 100, 104, 184, 0, 107, 61, 167, 255, 181, 43, 29, 184, 0, 113, 182, 0, 117]
abbrev dktX12_largestBelow_4 : List UInt8 := dkwX12_largestBelow_4 ++ dktX12_largestBelow_5
def dkwX12_largestBelow_3 : List UInt8 := [182, 0, 95, 153, 0, 7, 3, 167, 0, 15, 43, 182, 0, 98, 192, 0, 44, 182, 0, 101, 4, 96, 54, 6]
abbrev dktX12_largestBelow_3 : List UInt8 := dkwX12_largestBelow_3 ++ dktX12_largestBelow_4
def dkwX12_largestBelow_2 : List UInt8 := [182, 0, 101, 46, 21, 4, 161, 0, 57, 42, 43, 182, 0, 104, 192, 0, 44, 182, 0, 101, 46, 54, 5, 43]
abbrev dktX12_largestBelow_2 : List UInt8 := dkwX12_largestBelow_2 ++ dktX12_largestBelow_3
def dkwX12_largestBelow_1 : List UInt8 := [3, 167, 0, 6, 42, 29, 46, 54, 4, 43, 182, 0, 95, 154, 0, 74, 42, 43, 182, 0, 98, 192, 0, 44]
abbrev dktX12_largestBelow_1 : List UInt8 := dkwX12_largestBelow_1 ++ dktX12_largestBelow_2
def dkwX12_largestBelow_0 : List UInt8 := [187, 0, 92, 89, 183, 0, 94, 76, 3, 61, 3, 62, 29, 16, 24, 163, 0, 110, 29, 16, 24, 160, 0, 7]
abbrev dktX12_largestBelow_0 : List UInt8 := dkwX12_largestBelow_0 ++ dktX12_largestBelow_1
theorem dksX12_largestBelow_0 : cX12_largestBelow.data.toList.drop 0 = dktX12_largestBelow_0 := by decide +kernel
theorem dksX12_largestBelow_1 : cX12_largestBelow.data.toList.drop 24 = dktX12_largestBelow_1 := dk_seg dksX12_largestBelow_0 24 rfl rfl
theorem dksX12_largestBelow_2 : cX12_largestBelow.data.toList.drop 48 = dktX12_largestBelow_2 := dk_seg dksX12_largestBelow_1 24 rfl rfl
theorem dksX12_largestBelow_3 : cX12_largestBelow.data.toList.drop 72 = dktX12_largestBelow_3 := dk_seg dksX12_largestBelow_2 24 rfl rfl
theorem dksX12_largestBelow_4 : cX12_largestBelow.data.toList.drop 96 = dktX12_largestBelow_4 := dk_seg dksX12_largestBelow_3 24 rfl rfl
theorem dksX12_largestBelow_5 : cX12_largestBelow.data.toList.drop 119 = dktX12_largestBelow_5 := dk_seg dksX12_largestBelow_4 23 rfl rfl
theorem dX12_largestBelow_0 : decode cX12_largestBelow 0 = .ok (.new 92, 3) := dk_187 0 92 (dk_at dksX12_largestBelow_0 0 rfl rfl)
theorem dX12_largestBelow_3 : decode cX12_largestBelow 3 = .ok (.dup, 1) := dk_89 (dk_at dksX12_largestBelow_0 3 rfl rfl)
theorem dX12_largestBelow_4 : decode cX12_largestBelow 4 = .ok (.invokespecial 94, 3) := dk_183 0 94 (dk_at dksX12_largestBelow_0 4 rfl rfl)
theorem dX12_largestBelow_7 : decode cX12_largestBelow 7 = .ok (.astore_n 1, 1) := dk_76 (dk_at dksX12_largestBelow_0 7 rfl rfl)
theorem dX12_largestBelow_8 : decode cX12_largestBelow 8 = .ok (.iconst 0, 1) := dk_3 (dk_at dksX12_largestBelow_0 8 rfl rfl)
theorem dX12_largestBelow_9 : decode cX12_largestBelow 9 = .ok (.istore_n 2, 1) := dk_61 (dk_at dksX12_largestBelow_0 9 rfl rfl)
theorem dX12_largestBelow_10 : decode cX12_largestBelow 10 = .ok (.iconst 0, 1) := dk_3 (dk_at dksX12_largestBelow_0 10 rfl rfl)
theorem dX12_largestBelow_11 : decode cX12_largestBelow 11 = .ok (.istore_n 3, 1) := dk_62 (dk_at dksX12_largestBelow_0 11 rfl rfl)
theorem dX12_largestBelow_12 : decode cX12_largestBelow 12 = .ok (.iload_n 3, 1) := dk_29 (dk_at dksX12_largestBelow_0 12 rfl rfl)
theorem dX12_largestBelow_13 : decode cX12_largestBelow 13 = .ok (.bipush 24, 2) := dk_16 24 (dk_at dksX12_largestBelow_0 13 rfl rfl)
theorem dX12_largestBelow_15 : decode cX12_largestBelow 15 = .ok (.if_icmp .gt 110, 3) := dk_163 0 110 (dk_at dksX12_largestBelow_0 15 rfl rfl)
theorem dX12_largestBelow_18 : decode cX12_largestBelow 18 = .ok (.iload_n 3, 1) := dk_29 (dk_at dksX12_largestBelow_0 18 rfl rfl)
theorem dX12_largestBelow_19 : decode cX12_largestBelow 19 = .ok (.bipush 24, 2) := dk_16 24 (dk_at dksX12_largestBelow_0 19 rfl rfl)
theorem dX12_largestBelow_21 : decode cX12_largestBelow 21 = .ok (.if_icmp .ne 7, 3) := dk_160 0 7 (dk_at dksX12_largestBelow_0 21 rfl rfl)
theorem dX12_largestBelow_24 : decode cX12_largestBelow 24 = .ok (.iconst 0, 1) := dk_3 (dk_at dksX12_largestBelow_1 0 rfl rfl)
theorem dX12_largestBelow_25 : decode cX12_largestBelow 25 = .ok (.goto 6, 3) := dk_167 0 6 (dk_at dksX12_largestBelow_1 1 rfl rfl)
theorem dX12_largestBelow_28 : decode cX12_largestBelow 28 = .ok (.aload_n 0, 1) := dk_42 (dk_at dksX12_largestBelow_1 4 rfl rfl)
theorem dX12_largestBelow_29 : decode cX12_largestBelow 29 = .ok (.iload_n 3, 1) := dk_29 (dk_at dksX12_largestBelow_1 5 rfl rfl)
theorem dX12_largestBelow_30 : decode cX12_largestBelow 30 = .ok (.iaload, 1) := dk_46 (dk_at dksX12_largestBelow_1 6 rfl rfl)
theorem dX12_largestBelow_31 : decode cX12_largestBelow 31 = .ok (.istore 4, 2) := dk_54 4 (dk_at dksX12_largestBelow_1 7 rfl rfl)
theorem dX12_largestBelow_33 : decode cX12_largestBelow 33 = .ok (.aload_n 1, 1) := dk_43 (dk_at dksX12_largestBelow_1 9 rfl rfl)
theorem dX12_largestBelow_34 : decode cX12_largestBelow 34 = .ok (.invokevirtual 95, 3) := dk_182 0 95 (dk_at dksX12_largestBelow_1 10 rfl rfl)
theorem dX12_largestBelow_37 : decode cX12_largestBelow 37 = .ok (.ifCond .ne 74, 3) := dk_154 0 74 (dk_at dksX12_largestBelow_1 13 rfl rfl)
theorem dX12_largestBelow_40 : decode cX12_largestBelow 40 = .ok (.aload_n 0, 1) := dk_42 (dk_at dksX12_largestBelow_1 16 rfl rfl)
theorem dX12_largestBelow_41 : decode cX12_largestBelow 41 = .ok (.aload_n 1, 1) := dk_43 (dk_at dksX12_largestBelow_1 17 rfl rfl)
theorem dX12_largestBelow_42 : decode cX12_largestBelow 42 = .ok (.invokevirtual 98, 3) := dk_182 0 98 (dk_at dksX12_largestBelow_1 18 rfl rfl)
theorem dX12_largestBelow_45 : decode cX12_largestBelow 45 = .ok (.checkcast 44, 3) := dk_192 0 44 (dk_at dksX12_largestBelow_1 21 rfl rfl)
theorem dX12_largestBelow_48 : decode cX12_largestBelow 48 = .ok (.invokevirtual 101, 3) := dk_182 0 101 (dk_at dksX12_largestBelow_2 0 rfl rfl)
theorem dX12_largestBelow_51 : decode cX12_largestBelow 51 = .ok (.iaload, 1) := dk_46 (dk_at dksX12_largestBelow_2 3 rfl rfl)
theorem dX12_largestBelow_52 : decode cX12_largestBelow 52 = .ok (.iload 4, 2) := dk_21 4 (dk_at dksX12_largestBelow_2 4 rfl rfl)
theorem dX12_largestBelow_54 : decode cX12_largestBelow 54 = .ok (.if_icmp .lt 57, 3) := dk_161 0 57 (dk_at dksX12_largestBelow_2 6 rfl rfl)
theorem dX12_largestBelow_57 : decode cX12_largestBelow 57 = .ok (.aload_n 0, 1) := dk_42 (dk_at dksX12_largestBelow_2 9 rfl rfl)
theorem dX12_largestBelow_58 : decode cX12_largestBelow 58 = .ok (.aload_n 1, 1) := dk_43 (dk_at dksX12_largestBelow_2 10 rfl rfl)
theorem dX12_largestBelow_59 : decode cX12_largestBelow 59 = .ok (.invokevirtual 104, 3) := dk_182 0 104 (dk_at dksX12_largestBelow_2 11 rfl rfl)
theorem dX12_largestBelow_62 : decode cX12_largestBelow 62 = .ok (.checkcast 44, 3) := dk_192 0 44 (dk_at dksX12_largestBelow_2 14 rfl rfl)
theorem dX12_largestBelow_65 : decode cX12_largestBelow 65 = .ok (.invokevirtual 101, 3) := dk_182 0 101 (dk_at dksX12_largestBelow_2 17 rfl rfl)
theorem dX12_largestBelow_68 : decode cX12_largestBelow 68 = .ok (.iaload, 1) := dk_46 (dk_at dksX12_largestBelow_2 20 rfl rfl)
theorem dX12_largestBelow_69 : decode cX12_largestBelow 69 = .ok (.istore 5, 2) := dk_54 5 (dk_at dksX12_largestBelow_2 21 rfl rfl)
theorem dX12_largestBelow_71 : decode cX12_largestBelow 71 = .ok (.aload_n 1, 1) := dk_43 (dk_at dksX12_largestBelow_2 23 rfl rfl)
theorem dX12_largestBelow_72 : decode cX12_largestBelow 72 = .ok (.invokevirtual 95, 3) := dk_182 0 95 (dk_at dksX12_largestBelow_3 0 rfl rfl)
theorem dX12_largestBelow_75 : decode cX12_largestBelow 75 = .ok (.ifCond .eq 7, 3) := dk_153 0 7 (dk_at dksX12_largestBelow_3 3 rfl rfl)
theorem dX12_largestBelow_78 : decode cX12_largestBelow 78 = .ok (.iconst 0, 1) := dk_3 (dk_at dksX12_largestBelow_3 6 rfl rfl)
theorem dX12_largestBelow_79 : decode cX12_largestBelow 79 = .ok (.goto 15, 3) := dk_167 0 15 (dk_at dksX12_largestBelow_3 7 rfl rfl)
theorem dX12_largestBelow_82 : decode cX12_largestBelow 82 = .ok (.aload_n 1, 1) := dk_43 (dk_at dksX12_largestBelow_3 10 rfl rfl)
theorem dX12_largestBelow_83 : decode cX12_largestBelow 83 = .ok (.invokevirtual 98, 3) := dk_182 0 98 (dk_at dksX12_largestBelow_3 11 rfl rfl)
theorem dX12_largestBelow_86 : decode cX12_largestBelow 86 = .ok (.checkcast 44, 3) := dk_192 0 44 (dk_at dksX12_largestBelow_3 14 rfl rfl)
theorem dX12_largestBelow_89 : decode cX12_largestBelow 89 = .ok (.invokevirtual 101, 3) := dk_182 0 101 (dk_at dksX12_largestBelow_3 17 rfl rfl)
theorem dX12_largestBelow_92 : decode cX12_largestBelow 92 = .ok (.iconst 1, 1) := dk_4 (dk_at dksX12_largestBelow_3 20 rfl rfl)
theorem dX12_largestBelow_93 : decode cX12_largestBelow 93 = .ok (.iadd, 1) := dk_96 (dk_at dksX12_largestBelow_3 21 rfl rfl)
theorem dX12_largestBelow_94 : decode cX12_largestBelow 94 = .ok (.istore 6, 2) := dk_54 6 (dk_at dksX12_largestBelow_3 22 rfl rfl)
theorem dX12_largestBelow_96 : decode cX12_largestBelow 96 = .ok (.iload_n 2, 1) := dk_28 (dk_at dksX12_largestBelow_4 0 rfl rfl)
theorem dX12_largestBelow_97 : decode cX12_largestBelow 97 = .ok (.iload 5, 2) := dk_21 5 (dk_at dksX12_largestBelow_4 1 rfl rfl)
theorem dX12_largestBelow_99 : decode cX12_largestBelow 99 = .ok (.iload_n 3, 1) := dk_29 (dk_at dksX12_largestBelow_4 3 rfl rfl)
theorem dX12_largestBelow_100 : decode cX12_largestBelow 100 = .ok (.iload 6, 2) := dk_21 6 (dk_at dksX12_largestBelow_4 4 rfl rfl)
theorem dX12_largestBelow_102 : decode cX12_largestBelow 102 = .ok (.isub, 1) := dk_100 (dk_at dksX12_largestBelow_4 6 rfl rfl)
theorem dX12_largestBelow_103 : decode cX12_largestBelow 103 = .ok (.imul, 1) := dk_104 (dk_at dksX12_largestBelow_4 7 rfl rfl)
theorem dX12_largestBelow_104 : decode cX12_largestBelow 104 = .ok (.invokestatic 107, 3) := dk_184 0 107 (dk_at dksX12_largestBelow_4 8 rfl rfl)
theorem dX12_largestBelow_107 : decode cX12_largestBelow 107 = .ok (.istore_n 2, 1) := dk_61 (dk_at dksX12_largestBelow_4 11 rfl rfl)
theorem dX12_largestBelow_108 : decode cX12_largestBelow 108 = .ok (.goto (-75), 3) := dk_167 255 181 (dk_at dksX12_largestBelow_4 12 rfl rfl)
theorem dX12_largestBelow_111 : decode cX12_largestBelow 111 = .ok (.aload_n 1, 1) := dk_43 (dk_at dksX12_largestBelow_4 15 rfl rfl)
theorem dX12_largestBelow_112 : decode cX12_largestBelow 112 = .ok (.iload_n 3, 1) := dk_29 (dk_at dksX12_largestBelow_4 16 rfl rfl)
theorem dX12_largestBelow_113 : decode cX12_largestBelow 113 = .ok (.invokestatic 113, 3) := dk_184 0 113 (dk_at dksX12_largestBelow_4 17 rfl rfl)
theorem dX12_largestBelow_116 : decode cX12_largestBelow 116 = .ok (.invokevirtual 117, 3) := dk_182 0 117 (dk_at dksX12_largestBelow_4 20 rfl rfl)
theorem dX12_largestBelow_119 : decode cX12_largestBelow 119 = .ok (.iinc 3 1, 3) := dk_132 3 1 (dk_at dksX12_largestBelow_5 0 rfl rfl)
theorem dX12_largestBelow_122 : decode cX12_largestBelow 122 = .ok (.goto (-110), 3) := dk_167 255 146 (dk_at dksX12_largestBelow_5 3 rfl rfl)
theorem dX12_largestBelow_125 : decode cX12_largestBelow 125 = .ok (.iload_n 2, 1) := dk_28 (dk_at dksX12_largestBelow_5 6 rfl rfl)
theorem dX12_largestBelow_126 : decode cX12_largestBelow 126 = .ok (.ireturn, 1) := dk_172 (dk_at dksX12_largestBelow_5 7 rfl rfl)
abbrev cX12_largestSquare : ByteArray := prog_4_method_19_code
def yX12_largestSquare : MethodName := ⟨RX12, "largestSquare", "()I"⟩
def dkwX12_largestSquare_4 : List UInt8 := [132, 3, 1, 167, 255, 167, 28, 172]
abbrev dktX12_largestSquare_4 : List UInt8 := dkwX12_largestSquare_4 ++ []
def dkwX12_largestSquare_3 : List UInt8 := [167, 0, 4, 3, 79, 28, 43, 21, 5, 46, 184, 0, 107, 61, 21, 6, 54, 4, 132, 5, 1, 167, 255, 185]
abbrev dktX12_largestSquare_3 : List UInt8 := dkwX12_largestSquare_3 ++ dktX12_largestSquare_4
def dkwX12_largestSquare_2 : List UInt8 := [184, 0, 125, 4, 96, 54, 7, 43, 21, 5, 42, 21, 5, 4, 100, 29, 182, 0, 82, 153, 0, 8, 21, 7]
abbrev dktX12_largestSquare_2 : List UInt8 := dkwX12_largestSquare_2 ++ dktX12_largestSquare_3
def dkwX12_largestSquare_1 : List UInt8 := [16, 24, 163, 0, 70, 43, 21, 5, 46, 54, 6, 21, 4, 21, 6, 43, 21, 5, 4, 100, 46, 184, 0, 125]
abbrev dktX12_largestSquare_1 : List UInt8 := dkwX12_largestSquare_1 ++ dktX12_largestSquare_2
def dkwX12_largestSquare_0 : List UInt8 := [16, 25, 188, 10, 76, 3, 61, 3, 62, 29, 16, 24, 162, 0, 89, 3, 54, 4, 4, 54, 5, 21, 5]
abbrev dktX12_largestSquare_0 : List UInt8 := dkwX12_largestSquare_0 ++ dktX12_largestSquare_1
theorem dksX12_largestSquare_0 : cX12_largestSquare.data.toList.drop 0 = dktX12_largestSquare_0 := by decide +kernel
theorem dksX12_largestSquare_1 : cX12_largestSquare.data.toList.drop 23 = dktX12_largestSquare_1 := dk_seg dksX12_largestSquare_0 23 rfl rfl
theorem dksX12_largestSquare_2 : cX12_largestSquare.data.toList.drop 47 = dktX12_largestSquare_2 := dk_seg dksX12_largestSquare_1 24 rfl rfl
theorem dksX12_largestSquare_3 : cX12_largestSquare.data.toList.drop 71 = dktX12_largestSquare_3 := dk_seg dksX12_largestSquare_2 24 rfl rfl
theorem dksX12_largestSquare_4 : cX12_largestSquare.data.toList.drop 95 = dktX12_largestSquare_4 := dk_seg dksX12_largestSquare_3 24 rfl rfl
theorem dX12_largestSquare_0 : decode cX12_largestSquare 0 = .ok (.bipush 25, 2) := dk_16 25 (dk_at dksX12_largestSquare_0 0 rfl rfl)
theorem dX12_largestSquare_2 : decode cX12_largestSquare 2 = .ok (.newarray .int, 2) := dk_188_10 (dk_at dksX12_largestSquare_0 2 rfl rfl)
theorem dX12_largestSquare_4 : decode cX12_largestSquare 4 = .ok (.astore_n 1, 1) := dk_76 (dk_at dksX12_largestSquare_0 4 rfl rfl)
theorem dX12_largestSquare_5 : decode cX12_largestSquare 5 = .ok (.iconst 0, 1) := dk_3 (dk_at dksX12_largestSquare_0 5 rfl rfl)
theorem dX12_largestSquare_6 : decode cX12_largestSquare 6 = .ok (.istore_n 2, 1) := dk_61 (dk_at dksX12_largestSquare_0 6 rfl rfl)
theorem dX12_largestSquare_7 : decode cX12_largestSquare 7 = .ok (.iconst 0, 1) := dk_3 (dk_at dksX12_largestSquare_0 7 rfl rfl)
theorem dX12_largestSquare_8 : decode cX12_largestSquare 8 = .ok (.istore_n 3, 1) := dk_62 (dk_at dksX12_largestSquare_0 8 rfl rfl)
theorem dX12_largestSquare_9 : decode cX12_largestSquare 9 = .ok (.iload_n 3, 1) := dk_29 (dk_at dksX12_largestSquare_0 9 rfl rfl)
theorem dX12_largestSquare_10 : decode cX12_largestSquare 10 = .ok (.bipush 24, 2) := dk_16 24 (dk_at dksX12_largestSquare_0 10 rfl rfl)
theorem dX12_largestSquare_12 : decode cX12_largestSquare 12 = .ok (.if_icmp .ge 89, 3) := dk_162 0 89 (dk_at dksX12_largestSquare_0 12 rfl rfl)
theorem dX12_largestSquare_15 : decode cX12_largestSquare 15 = .ok (.iconst 0, 1) := dk_3 (dk_at dksX12_largestSquare_0 15 rfl rfl)
theorem dX12_largestSquare_16 : decode cX12_largestSquare 16 = .ok (.istore 4, 2) := dk_54 4 (dk_at dksX12_largestSquare_0 16 rfl rfl)
theorem dX12_largestSquare_18 : decode cX12_largestSquare 18 = .ok (.iconst 1, 1) := dk_4 (dk_at dksX12_largestSquare_0 18 rfl rfl)
theorem dX12_largestSquare_19 : decode cX12_largestSquare 19 = .ok (.istore 5, 2) := dk_54 5 (dk_at dksX12_largestSquare_0 19 rfl rfl)
theorem dX12_largestSquare_21 : decode cX12_largestSquare 21 = .ok (.iload 5, 2) := dk_21 5 (dk_at dksX12_largestSquare_0 21 rfl rfl)
theorem dX12_largestSquare_23 : decode cX12_largestSquare 23 = .ok (.bipush 24, 2) := dk_16 24 (dk_at dksX12_largestSquare_1 0 rfl rfl)
theorem dX12_largestSquare_25 : decode cX12_largestSquare 25 = .ok (.if_icmp .gt 70, 3) := dk_163 0 70 (dk_at dksX12_largestSquare_1 2 rfl rfl)
theorem dX12_largestSquare_28 : decode cX12_largestSquare 28 = .ok (.aload_n 1, 1) := dk_43 (dk_at dksX12_largestSquare_1 5 rfl rfl)
theorem dX12_largestSquare_29 : decode cX12_largestSquare 29 = .ok (.iload 5, 2) := dk_21 5 (dk_at dksX12_largestSquare_1 6 rfl rfl)
theorem dX12_largestSquare_31 : decode cX12_largestSquare 31 = .ok (.iaload, 1) := dk_46 (dk_at dksX12_largestSquare_1 8 rfl rfl)
theorem dX12_largestSquare_32 : decode cX12_largestSquare 32 = .ok (.istore 6, 2) := dk_54 6 (dk_at dksX12_largestSquare_1 9 rfl rfl)
theorem dX12_largestSquare_34 : decode cX12_largestSquare 34 = .ok (.iload 4, 2) := dk_21 4 (dk_at dksX12_largestSquare_1 11 rfl rfl)
theorem dX12_largestSquare_36 : decode cX12_largestSquare 36 = .ok (.iload 6, 2) := dk_21 6 (dk_at dksX12_largestSquare_1 13 rfl rfl)
theorem dX12_largestSquare_38 : decode cX12_largestSquare 38 = .ok (.aload_n 1, 1) := dk_43 (dk_at dksX12_largestSquare_1 15 rfl rfl)
theorem dX12_largestSquare_39 : decode cX12_largestSquare 39 = .ok (.iload 5, 2) := dk_21 5 (dk_at dksX12_largestSquare_1 16 rfl rfl)
theorem dX12_largestSquare_41 : decode cX12_largestSquare 41 = .ok (.iconst 1, 1) := dk_4 (dk_at dksX12_largestSquare_1 18 rfl rfl)
theorem dX12_largestSquare_42 : decode cX12_largestSquare 42 = .ok (.isub, 1) := dk_100 (dk_at dksX12_largestSquare_1 19 rfl rfl)
theorem dX12_largestSquare_43 : decode cX12_largestSquare 43 = .ok (.iaload, 1) := dk_46 (dk_at dksX12_largestSquare_1 20 rfl rfl)
theorem dX12_largestSquare_44 : decode cX12_largestSquare 44 = .ok (.invokestatic 125, 3) := dk_184 0 125 (dk_at dksX12_largestSquare_1 21 rfl rfl)
theorem dX12_largestSquare_47 : decode cX12_largestSquare 47 = .ok (.invokestatic 125, 3) := dk_184 0 125 (dk_at dksX12_largestSquare_2 0 rfl rfl)
theorem dX12_largestSquare_50 : decode cX12_largestSquare 50 = .ok (.iconst 1, 1) := dk_4 (dk_at dksX12_largestSquare_2 3 rfl rfl)
theorem dX12_largestSquare_51 : decode cX12_largestSquare 51 = .ok (.iadd, 1) := dk_96 (dk_at dksX12_largestSquare_2 4 rfl rfl)
theorem dX12_largestSquare_52 : decode cX12_largestSquare 52 = .ok (.istore 7, 2) := dk_54 7 (dk_at dksX12_largestSquare_2 5 rfl rfl)
theorem dX12_largestSquare_54 : decode cX12_largestSquare 54 = .ok (.aload_n 1, 1) := dk_43 (dk_at dksX12_largestSquare_2 7 rfl rfl)
theorem dX12_largestSquare_55 : decode cX12_largestSquare 55 = .ok (.iload 5, 2) := dk_21 5 (dk_at dksX12_largestSquare_2 8 rfl rfl)
theorem dX12_largestSquare_57 : decode cX12_largestSquare 57 = .ok (.aload_n 0, 1) := dk_42 (dk_at dksX12_largestSquare_2 10 rfl rfl)
theorem dX12_largestSquare_58 : decode cX12_largestSquare 58 = .ok (.iload 5, 2) := dk_21 5 (dk_at dksX12_largestSquare_2 11 rfl rfl)
theorem dX12_largestSquare_60 : decode cX12_largestSquare 60 = .ok (.iconst 1, 1) := dk_4 (dk_at dksX12_largestSquare_2 13 rfl rfl)
theorem dX12_largestSquare_61 : decode cX12_largestSquare 61 = .ok (.isub, 1) := dk_100 (dk_at dksX12_largestSquare_2 14 rfl rfl)
theorem dX12_largestSquare_62 : decode cX12_largestSquare 62 = .ok (.iload_n 3, 1) := dk_29 (dk_at dksX12_largestSquare_2 15 rfl rfl)
theorem dX12_largestSquare_63 : decode cX12_largestSquare 63 = .ok (.invokevirtual 82, 3) := dk_182 0 82 (dk_at dksX12_largestSquare_2 16 rfl rfl)
theorem dX12_largestSquare_66 : decode cX12_largestSquare 66 = .ok (.ifCond .eq 8, 3) := dk_153 0 8 (dk_at dksX12_largestSquare_2 19 rfl rfl)
theorem dX12_largestSquare_69 : decode cX12_largestSquare 69 = .ok (.iload 7, 2) := dk_21 7 (dk_at dksX12_largestSquare_2 22 rfl rfl)
theorem dX12_largestSquare_71 : decode cX12_largestSquare 71 = .ok (.goto 4, 3) := dk_167 0 4 (dk_at dksX12_largestSquare_3 0 rfl rfl)
theorem dX12_largestSquare_74 : decode cX12_largestSquare 74 = .ok (.iconst 0, 1) := dk_3 (dk_at dksX12_largestSquare_3 3 rfl rfl)
theorem dX12_largestSquare_75 : decode cX12_largestSquare 75 = .ok (.iastore, 1) := dk_79 (dk_at dksX12_largestSquare_3 4 rfl rfl)
theorem dX12_largestSquare_76 : decode cX12_largestSquare 76 = .ok (.iload_n 2, 1) := dk_28 (dk_at dksX12_largestSquare_3 5 rfl rfl)
theorem dX12_largestSquare_77 : decode cX12_largestSquare 77 = .ok (.aload_n 1, 1) := dk_43 (dk_at dksX12_largestSquare_3 6 rfl rfl)
theorem dX12_largestSquare_78 : decode cX12_largestSquare 78 = .ok (.iload 5, 2) := dk_21 5 (dk_at dksX12_largestSquare_3 7 rfl rfl)
theorem dX12_largestSquare_80 : decode cX12_largestSquare 80 = .ok (.iaload, 1) := dk_46 (dk_at dksX12_largestSquare_3 9 rfl rfl)
theorem dX12_largestSquare_81 : decode cX12_largestSquare 81 = .ok (.invokestatic 107, 3) := dk_184 0 107 (dk_at dksX12_largestSquare_3 10 rfl rfl)
theorem dX12_largestSquare_84 : decode cX12_largestSquare 84 = .ok (.istore_n 2, 1) := dk_61 (dk_at dksX12_largestSquare_3 13 rfl rfl)
theorem dX12_largestSquare_85 : decode cX12_largestSquare 85 = .ok (.iload 6, 2) := dk_21 6 (dk_at dksX12_largestSquare_3 14 rfl rfl)
theorem dX12_largestSquare_87 : decode cX12_largestSquare 87 = .ok (.istore 4, 2) := dk_54 4 (dk_at dksX12_largestSquare_3 16 rfl rfl)
theorem dX12_largestSquare_89 : decode cX12_largestSquare 89 = .ok (.iinc 5 1, 3) := dk_132 5 1 (dk_at dksX12_largestSquare_3 18 rfl rfl)
theorem dX12_largestSquare_92 : decode cX12_largestSquare 92 = .ok (.goto (-71), 3) := dk_167 255 185 (dk_at dksX12_largestSquare_3 21 rfl rfl)
theorem dX12_largestSquare_95 : decode cX12_largestSquare 95 = .ok (.iinc 3 1, 3) := dk_132 3 1 (dk_at dksX12_largestSquare_4 0 rfl rfl)
theorem dX12_largestSquare_98 : decode cX12_largestSquare 98 = .ok (.goto (-89), 3) := dk_167 255 167 (dk_at dksX12_largestSquare_4 3 rfl rfl)
theorem dX12_largestSquare_101 : decode cX12_largestSquare 101 = .ok (.iload_n 2, 1) := dk_28 (dk_at dksX12_largestSquare_4 6 rfl rfl)
theorem dX12_largestSquare_102 : decode cX12_largestSquare 102 = .ok (.ireturn, 1) := dk_172 (dk_at dksX12_largestSquare_4 7 rfl rfl)
abbrev cX12_moment : ByteArray := prog_4_method_16_code
def yX12_moment : MethodName := ⟨RX12, "moment", "()J"⟩
def dkwX12_moment_2 : List UInt8 := [132, 4, 1, 167, 255, 219, 132, 3, 1, 167, 255, 204, 31, 173]
abbrev dktX12_moment_2 : List UInt8 := dkwX12_moment_2 ++ []
def dkwX12_moment_1 : List UInt8 := [29, 182, 0, 82, 153, 0, 16, 21, 4, 21, 4, 104, 29, 29, 104, 96, 133, 167, 0, 4, 9, 97, 64]
abbrev dktX12_moment_1 : List UInt8 := dkwX12_moment_1 ++ dktX12_moment_2
def dkwX12_moment_0 : List UInt8 := [9, 64, 3, 62, 29, 16, 24, 162, 0, 52, 3, 54, 4, 21, 4, 16, 24, 162, 0, 36, 31, 42, 21, 4]
abbrev dktX12_moment_0 : List UInt8 := dkwX12_moment_0 ++ dktX12_moment_1
theorem dksX12_moment_0 : cX12_moment.data.toList.drop 0 = dktX12_moment_0 := by decide +kernel
theorem dksX12_moment_1 : cX12_moment.data.toList.drop 24 = dktX12_moment_1 := dk_seg dksX12_moment_0 24 rfl rfl
theorem dksX12_moment_2 : cX12_moment.data.toList.drop 47 = dktX12_moment_2 := dk_seg dksX12_moment_1 23 rfl rfl
theorem dX12_moment_0 : decode cX12_moment 0 = .ok (.lconst 0, 1) := dk_9 (dk_at dksX12_moment_0 0 rfl rfl)
theorem dX12_moment_1 : decode cX12_moment 1 = .ok (.lstore_n 1, 1) := dk_64 (dk_at dksX12_moment_0 1 rfl rfl)
theorem dX12_moment_2 : decode cX12_moment 2 = .ok (.iconst 0, 1) := dk_3 (dk_at dksX12_moment_0 2 rfl rfl)
theorem dX12_moment_3 : decode cX12_moment 3 = .ok (.istore_n 3, 1) := dk_62 (dk_at dksX12_moment_0 3 rfl rfl)
theorem dX12_moment_4 : decode cX12_moment 4 = .ok (.iload_n 3, 1) := dk_29 (dk_at dksX12_moment_0 4 rfl rfl)
theorem dX12_moment_5 : decode cX12_moment 5 = .ok (.bipush 24, 2) := dk_16 24 (dk_at dksX12_moment_0 5 rfl rfl)
theorem dX12_moment_7 : decode cX12_moment 7 = .ok (.if_icmp .ge 52, 3) := dk_162 0 52 (dk_at dksX12_moment_0 7 rfl rfl)
theorem dX12_moment_10 : decode cX12_moment 10 = .ok (.iconst 0, 1) := dk_3 (dk_at dksX12_moment_0 10 rfl rfl)
theorem dX12_moment_11 : decode cX12_moment 11 = .ok (.istore 4, 2) := dk_54 4 (dk_at dksX12_moment_0 11 rfl rfl)
theorem dX12_moment_13 : decode cX12_moment 13 = .ok (.iload 4, 2) := dk_21 4 (dk_at dksX12_moment_0 13 rfl rfl)
theorem dX12_moment_15 : decode cX12_moment 15 = .ok (.bipush 24, 2) := dk_16 24 (dk_at dksX12_moment_0 15 rfl rfl)
theorem dX12_moment_17 : decode cX12_moment 17 = .ok (.if_icmp .ge 36, 3) := dk_162 0 36 (dk_at dksX12_moment_0 17 rfl rfl)
theorem dX12_moment_20 : decode cX12_moment 20 = .ok (.lload_n 1, 1) := dk_31 (dk_at dksX12_moment_0 20 rfl rfl)
theorem dX12_moment_21 : decode cX12_moment 21 = .ok (.aload_n 0, 1) := dk_42 (dk_at dksX12_moment_0 21 rfl rfl)
theorem dX12_moment_22 : decode cX12_moment 22 = .ok (.iload 4, 2) := dk_21 4 (dk_at dksX12_moment_0 22 rfl rfl)
theorem dX12_moment_24 : decode cX12_moment 24 = .ok (.iload_n 3, 1) := dk_29 (dk_at dksX12_moment_1 0 rfl rfl)
theorem dX12_moment_25 : decode cX12_moment 25 = .ok (.invokevirtual 82, 3) := dk_182 0 82 (dk_at dksX12_moment_1 1 rfl rfl)
theorem dX12_moment_28 : decode cX12_moment 28 = .ok (.ifCond .eq 16, 3) := dk_153 0 16 (dk_at dksX12_moment_1 4 rfl rfl)
theorem dX12_moment_31 : decode cX12_moment 31 = .ok (.iload 4, 2) := dk_21 4 (dk_at dksX12_moment_1 7 rfl rfl)
theorem dX12_moment_33 : decode cX12_moment 33 = .ok (.iload 4, 2) := dk_21 4 (dk_at dksX12_moment_1 9 rfl rfl)
theorem dX12_moment_35 : decode cX12_moment 35 = .ok (.imul, 1) := dk_104 (dk_at dksX12_moment_1 11 rfl rfl)
theorem dX12_moment_36 : decode cX12_moment 36 = .ok (.iload_n 3, 1) := dk_29 (dk_at dksX12_moment_1 12 rfl rfl)
theorem dX12_moment_37 : decode cX12_moment 37 = .ok (.iload_n 3, 1) := dk_29 (dk_at dksX12_moment_1 13 rfl rfl)
theorem dX12_moment_38 : decode cX12_moment 38 = .ok (.imul, 1) := dk_104 (dk_at dksX12_moment_1 14 rfl rfl)
theorem dX12_moment_39 : decode cX12_moment 39 = .ok (.iadd, 1) := dk_96 (dk_at dksX12_moment_1 15 rfl rfl)
theorem dX12_moment_40 : decode cX12_moment 40 = .ok (.i2l, 1) := dk_133 (dk_at dksX12_moment_1 16 rfl rfl)
theorem dX12_moment_41 : decode cX12_moment 41 = .ok (.goto 4, 3) := dk_167 0 4 (dk_at dksX12_moment_1 17 rfl rfl)
theorem dX12_moment_44 : decode cX12_moment 44 = .ok (.lconst 0, 1) := dk_9 (dk_at dksX12_moment_1 20 rfl rfl)
theorem dX12_moment_45 : decode cX12_moment 45 = .ok (.ladd, 1) := dk_97 (dk_at dksX12_moment_1 21 rfl rfl)
theorem dX12_moment_46 : decode cX12_moment 46 = .ok (.lstore_n 1, 1) := dk_64 (dk_at dksX12_moment_1 22 rfl rfl)
theorem dX12_moment_47 : decode cX12_moment 47 = .ok (.iinc 4 1, 3) := dk_132 4 1 (dk_at dksX12_moment_2 0 rfl rfl)
theorem dX12_moment_50 : decode cX12_moment 50 = .ok (.goto (-37), 3) := dk_167 255 219 (dk_at dksX12_moment_2 3 rfl rfl)
theorem dX12_moment_53 : decode cX12_moment 53 = .ok (.iinc 3 1, 3) := dk_132 3 1 (dk_at dksX12_moment_2 6 rfl rfl)
theorem dX12_moment_56 : decode cX12_moment 56 = .ok (.goto (-52), 3) := dk_167 255 204 (dk_at dksX12_moment_2 9 rfl rfl)
theorem dX12_moment_59 : decode cX12_moment 59 = .ok (.lload_n 1, 1) := dk_31 (dk_at dksX12_moment_2 12 rfl rfl)
theorem dX12_moment_60 : decode cX12_moment 60 = .ok (.lreturn, 1) := dk_173 (dk_at dksX12_moment_2 13 rfl rfl)
theorem q82 : (Jvm.Cond.initialized "PolygonBoard$Cells") ∈ lw_all := lw_g (lw_at lw_m1 32 rfl) rfl
theorem q186 : (Jvm.Cond.selects "PolygonBoard$Cells" ({ cls := "java/lang/Object", name := "getClass", desc := "()Ljava/lang/Class;" } : Jvm.MethodName) ({ cls := "java/lang/Object", name := "getClass", desc := "()Ljava/lang/Class;" } : Jvm.MethodName)) ∈ lw_all := lw_g (lw_at lw_m1 136 rfl) rfl
theorem q972 : (Jvm.Cond.static ({ cls := "PolygonBoard$Cells", name := "of", desc := "(LPolygonBoard$Region;)LPolygonBoard$Cells;" } : Jvm.MethodName)) ∈ lw_all := lw_g (lw_at lw_m4 202 rfl) rfl
theorem q973 : (Jvm.Cond.code ({ cls := "PolygonBoard$Cells", name := "of", desc := "(LPolygonBoard$Region;)LPolygonBoard$Cells;" } : Jvm.MethodName) prog_4_method_2_code (5 : Nat) (Option.some (Jvm.ClassFile.FieldType.object "PolygonBoard$Cells"))) ∈ lw_all := lw_g (lw_at lw_m4 203 rfl) rfl
theorem q974 : (Jvm.Cond.classLink "PolygonBoard$Cells" (10 : Nat) "PolygonBoard$Cells") ∈ lw_all := lw_g (lw_at lw_m4 204 rfl) rfl
theorem q975 : (Jvm.Cond.instantiable "PolygonBoard$Cells" (1 : Nat)) ∈ lw_all := lw_g (lw_at lw_m4 205 rfl) rfl
theorem q976 : (Jvm.Cond.methodLink "PolygonBoard$Cells" (15 : Nat) ({ cls := "PolygonBoard$Cells", name := "<init>", desc := "()V" } : Jvm.MethodName)) ∈ lw_all := lw_g (lw_at lw_m4 206 rfl) rfl
theorem q977 : (Jvm.Cond.instanceMethod ({ cls := "PolygonBoard$Cells", name := "<init>", desc := "()V" } : Jvm.MethodName)) ∈ lw_all := lw_g (lw_at lw_m4 207 rfl) rfl
theorem q978 : (Jvm.Cond.code ({ cls := "PolygonBoard$Cells", name := "<init>", desc := "()V" } : Jvm.MethodName) prog_4_method_1_code (1 : Nat) (Option.none : Option Jvm.ClassFile.FieldType)) ∈ lw_all := lw_g (lw_at lw_m4 208 rfl) rfl
theorem q979 : (Jvm.Cond.methodLink "PolygonBoard$Cells" (3 : Nat) ({ cls := "java/lang/Object", name := "<init>", desc := "()V" } : Jvm.MethodName)) ∈ lw_all := lw_g (lw_at lw_m4 209 rfl) rfl
theorem q980 : (Jvm.Cond.fieldLink "PolygonBoard$Cells" (9 : Nat) "PolygonBoard$Cells" "rows" "[I") ∈ lw_all := lw_g (lw_at lw_m4 210 rfl) rfl
theorem q981 : (Jvm.Cond.laysFinal "PolygonBoard$Cells" "PolygonBoard$Cells" "rows" "[I") ∈ lw_all := lw_g (lw_at lw_m4 211 rfl) rfl
theorem q982 : (Jvm.Cond.soleField "PolygonBoard$Cells" "rows") ∈ lw_all := lw_g (lw_at lw_m4 212 rfl) rfl
theorem q983 : (Jvm.Cond.superclass "PolygonBoard$Cells" "java/lang/Object") ∈ lw_all := lw_g (lw_at lw_m4 213 rfl) rfl
theorem q984 : (Jvm.Cond.methodLink "PolygonBoard$Cells" (16 : Nat) ({ cls := "PolygonBoard$Region", name := "spansAt", desc := "(I)LPolygonBoard$Spans;" } : Jvm.MethodName)) ∈ lw_all := lw_g (lw_at lw_m4 214 rfl) rfl
theorem q985 : (Jvm.Cond.methodLink "PolygonBoard$Cells" (22 : Nat) ({ cls := "PolygonBoard$Spans", name := "size", desc := "()I" } : Jvm.MethodName)) ∈ lw_all := lw_g (lw_at lw_m4 215 rfl) rfl
theorem q986 : (Jvm.Cond.methodLink "PolygonBoard$Cells" (28 : Nat) ({ cls := "PolygonBoard$Spans", name := "right", desc := "(I)I" } : Jvm.MethodName)) ∈ lw_all := lw_g (lw_at lw_m4 216 rfl) rfl
theorem q987 : (Jvm.Cond.methodLink "PolygonBoard$Cells" (32 : Nat) ({ cls := "PolygonBoard$Spans", name := "left", desc := "(I)I" } : Jvm.MethodName)) ∈ lw_all := lw_g (lw_at lw_m4 217 rfl) rfl
theorem q989 : (Jvm.Cond.instanceMethod ({ cls := "PolygonBoard$Cells", name := "others", desc := "()LPolygonBoard$Cells;" } : Jvm.MethodName)) ∈ lw_all := lw_g (lw_at lw_m4 219 rfl) rfl
theorem q990 : (Jvm.Cond.selects "PolygonBoard$Cells" ({ cls := "PolygonBoard$Cells", name := "others", desc := "()LPolygonBoard$Cells;" } : Jvm.MethodName) ({ cls := "PolygonBoard$Cells", name := "others", desc := "()LPolygonBoard$Cells;" } : Jvm.MethodName)) ∈ lw_all := lw_g (lw_at lw_m4 220 rfl) rfl
theorem q991 : (Jvm.Cond.code ({ cls := "PolygonBoard$Cells", name := "others", desc := "()LPolygonBoard$Cells;" } : Jvm.MethodName) prog_4_method_8_code (3 : Nat) (Option.some (Jvm.ClassFile.FieldType.object "PolygonBoard$Cells"))) ∈ lw_all := lw_g (lw_at lw_m4 221 rfl) rfl
theorem q992 : (Jvm.Cond.constant "PolygonBoard$Cells" (51 : Nat) (16777215 : Int32)) ∈ lw_all := lw_g (lw_at lw_m4 222 rfl) rfl
theorem q994 : (Jvm.Cond.instanceMethod ({ cls := "PolygonBoard$Cells", name := "inner", desc := "()LPolygonBoard$Cells;" } : Jvm.MethodName)) ∈ lw_all := lw_g (lw_at lw_m4 224 rfl) rfl
theorem q995 : (Jvm.Cond.selects "PolygonBoard$Cells" ({ cls := "PolygonBoard$Cells", name := "inner", desc := "()LPolygonBoard$Cells;" } : Jvm.MethodName) ({ cls := "PolygonBoard$Cells", name := "inner", desc := "()LPolygonBoard$Cells;" } : Jvm.MethodName)) ∈ lw_all := lw_g (lw_at lw_m4 225 rfl) rfl
theorem q996 : (Jvm.Cond.code ({ cls := "PolygonBoard$Cells", name := "inner", desc := "()LPolygonBoard$Cells;" } : Jvm.MethodName) prog_4_method_14_code (5 : Nat) (Option.some (Jvm.ClassFile.FieldType.object "PolygonBoard$Cells"))) ∈ lw_all := lw_g (lw_at lw_m4 226 rfl) rfl
theorem q997 : (Jvm.Cond.methodLink "PolygonBoard$Cells" (69 : Nat) ({ cls := "java/lang/Integer", name := "numberOfTrailingZeros", desc := "(I)I" } : Jvm.MethodName)) ∈ lw_all := lw_g (lw_at lw_m4 227 rfl) rfl
theorem q1001 : (Jvm.Cond.methodLink "PolygonBoard$Cells" (72 : Nat) ({ cls := "PolygonBoard$Cells", name := "takePart", desc := "(IIZ)LPolygonBoard$Cells;" } : Jvm.MethodName)) ∈ lw_all := lw_g (lw_at lw_m4 231 rfl) rfl
theorem q1002 : (Jvm.Cond.instanceMethod ({ cls := "PolygonBoard$Cells", name := "takePart", desc := "(IIZ)LPolygonBoard$Cells;" } : Jvm.MethodName)) ∈ lw_all := lw_g (lw_at lw_m4 232 rfl) rfl
theorem q1003 : (Jvm.Cond.selects "PolygonBoard$Cells" ({ cls := "PolygonBoard$Cells", name := "takePart", desc := "(IIZ)LPolygonBoard$Cells;" } : Jvm.MethodName) ({ cls := "PolygonBoard$Cells", name := "takePart", desc := "(IIZ)LPolygonBoard$Cells;" } : Jvm.MethodName)) ∈ lw_all := lw_g (lw_at lw_m4 233 rfl) rfl
theorem q1004 : (Jvm.Cond.code ({ cls := "PolygonBoard$Cells", name := "takePart", desc := "(IIZ)LPolygonBoard$Cells;" } : Jvm.MethodName) prog_4_method_11_code (6 : Nat) (Option.some (Jvm.ClassFile.FieldType.object "PolygonBoard$Cells"))) ∈ lw_all := lw_g (lw_at lw_m4 234 rfl) rfl
theorem q1005 : (Jvm.Cond.methodLink "PolygonBoard$Cells" (57 : Nat) ({ cls := "PolygonBoard$Cells", name := "at", desc := "(II)LPolygonBoard$Cells;" } : Jvm.MethodName)) ∈ lw_all := lw_g (lw_at lw_m4 235 rfl) rfl
theorem q1006 : (Jvm.Cond.static ({ cls := "PolygonBoard$Cells", name := "at", desc := "(II)LPolygonBoard$Cells;" } : Jvm.MethodName)) ∈ lw_all := lw_g (lw_at lw_m4 236 rfl) rfl
theorem q1007 : (Jvm.Cond.code ({ cls := "PolygonBoard$Cells", name := "at", desc := "(II)LPolygonBoard$Cells;" } : Jvm.MethodName) prog_4_method_3_code (3 : Nat) (Option.some (Jvm.ClassFile.FieldType.object "PolygonBoard$Cells"))) ∈ lw_all := lw_g (lw_at lw_m4 237 rfl) rfl
theorem q1008 : (Jvm.Cond.methodLink "PolygonBoard$Cells" (61 : Nat) ({ cls := "PolygonBoard$Cells", name := "spread", desc := "(LPolygonBoard$Cells;Z)Z" } : Jvm.MethodName)) ∈ lw_all := lw_g (lw_at lw_m4 238 rfl) rfl
theorem q1009 : (Jvm.Cond.instanceMethod ({ cls := "PolygonBoard$Cells", name := "spread", desc := "(LPolygonBoard$Cells;Z)Z" } : Jvm.MethodName)) ∈ lw_all := lw_g (lw_at lw_m4 239 rfl) rfl
theorem q1010 : (Jvm.Cond.selects "PolygonBoard$Cells" ({ cls := "PolygonBoard$Cells", name := "spread", desc := "(LPolygonBoard$Cells;Z)Z" } : Jvm.MethodName) ({ cls := "PolygonBoard$Cells", name := "spread", desc := "(LPolygonBoard$Cells;Z)Z" } : Jvm.MethodName)) ∈ lw_all := lw_g (lw_at lw_m5 0 rfl) rfl
theorem q1011 : (Jvm.Cond.code ({ cls := "PolygonBoard$Cells", name := "spread", desc := "(LPolygonBoard$Cells;Z)Z" } : Jvm.MethodName) prog_4_method_9_code (8 : Nat) (Option.some Jvm.ClassFile.FieldType.boolean)) ∈ lw_all := lw_g (lw_at lw_m5 1 rfl) rfl
theorem q1012 : (Jvm.Cond.methodLink "PolygonBoard$Cells" (52 : Nat) ({ cls := "[I", name := "clone", desc := "()Ljava/lang/Object;" } : Jvm.MethodName)) ∈ lw_all := lw_g (lw_at lw_m5 2 rfl) rfl
theorem q1016 : (Jvm.Cond.classLink "PolygonBoard$Cells" (53 : Nat) "[I") ∈ lw_all := lw_g (lw_at lw_m5 6 rfl) rfl
theorem q1017 : (Jvm.Cond.methodLink "PolygonBoard$Cells" (65 : Nat) ({ cls := "PolygonBoard$Cells", name := "remove", desc := "(LPolygonBoard$Cells;)V" } : Jvm.MethodName)) ∈ lw_all := lw_g (lw_at lw_m5 7 rfl) rfl
theorem q1018 : (Jvm.Cond.instanceMethod ({ cls := "PolygonBoard$Cells", name := "remove", desc := "(LPolygonBoard$Cells;)V" } : Jvm.MethodName)) ∈ lw_all := lw_g (lw_at lw_m5 8 rfl) rfl
theorem q1019 : (Jvm.Cond.selects "PolygonBoard$Cells" ({ cls := "PolygonBoard$Cells", name := "remove", desc := "(LPolygonBoard$Cells;)V" } : Jvm.MethodName) ({ cls := "PolygonBoard$Cells", name := "remove", desc := "(LPolygonBoard$Cells;)V" } : Jvm.MethodName)) ∈ lw_all := lw_g (lw_at lw_m5 9 rfl) rfl
theorem q1020 : (Jvm.Cond.code ({ cls := "PolygonBoard$Cells", name := "remove", desc := "(LPolygonBoard$Cells;)V" } : Jvm.MethodName) prog_4_method_10_code (3 : Nat) (Option.none : Option Jvm.ClassFile.FieldType)) ∈ lw_all := lw_g (lw_at lw_m5 10 rfl) rfl
theorem q1021 : (Jvm.Cond.methodLink "PolygonBoard$Cells" (76 : Nat) ({ cls := "PolygonBoard$Cells", name := "isAtRim", desc := "()Z" } : Jvm.MethodName)) ∈ lw_all := lw_g (lw_at lw_m5 11 rfl) rfl
theorem q1022 : (Jvm.Cond.instanceMethod ({ cls := "PolygonBoard$Cells", name := "isAtRim", desc := "()Z" } : Jvm.MethodName)) ∈ lw_all := lw_g (lw_at lw_m5 12 rfl) rfl
theorem q1023 : (Jvm.Cond.selects "PolygonBoard$Cells" ({ cls := "PolygonBoard$Cells", name := "isAtRim", desc := "()Z" } : Jvm.MethodName) ({ cls := "PolygonBoard$Cells", name := "isAtRim", desc := "()Z" } : Jvm.MethodName)) ∈ lw_all := lw_g (lw_at lw_m5 13 rfl) rfl
theorem q1024 : (Jvm.Cond.code ({ cls := "PolygonBoard$Cells", name := "isAtRim", desc := "()Z" } : Jvm.MethodName) prog_4_method_12_code (6 : Nat) (Option.some Jvm.ClassFile.FieldType.boolean)) ∈ lw_all := lw_g (lw_at lw_m5 14 rfl) rfl
theorem q1026 : (Jvm.Cond.instanceMethod ({ cls := "PolygonBoard$Cells", name := "toRegion", desc := "()LPolygonBoard$Region;" } : Jvm.MethodName)) ∈ lw_all := lw_g (lw_at lw_m5 16 rfl) rfl
theorem q1027 : (Jvm.Cond.selects "PolygonBoard$Cells" ({ cls := "PolygonBoard$Cells", name := "toRegion", desc := "()LPolygonBoard$Region;" } : Jvm.MethodName) ({ cls := "PolygonBoard$Cells", name := "toRegion", desc := "()LPolygonBoard$Region;" } : Jvm.MethodName)) ∈ lw_all := lw_g (lw_at lw_m5 17 rfl) rfl
theorem q1028 : (Jvm.Cond.code ({ cls := "PolygonBoard$Cells", name := "toRegion", desc := "()LPolygonBoard$Region;" } : Jvm.MethodName) prog_4_method_15_code (5 : Nat) (Option.some (Jvm.ClassFile.FieldType.object "PolygonBoard$Region"))) ∈ lw_all := lw_g (lw_at lw_m5 18 rfl) rfl
theorem q1029 : (Jvm.Cond.classLink "PolygonBoard$Cells" (17 : Nat) "PolygonBoard$Region") ∈ lw_all := lw_g (lw_at lw_m5 19 rfl) rfl
theorem q1030 : (Jvm.Cond.methodLinkNest "PolygonBoard$Cells" (80 : Nat) ({ cls := "PolygonBoard$Region", name := "<init>", desc := "()V" } : Jvm.MethodName) "PolygonBoard") ∈ lw_tbl := lw_at lw_m5 20 rfl
theorem q1031 : (Jvm.Cond.classLink "PolygonBoard$Cells" (23 : Nat) "PolygonBoard$Spans") ∈ lw_all := lw_g (lw_at lw_m5 21 rfl) rfl
theorem q1032 : (Jvm.Cond.methodLinkNest "PolygonBoard$Cells" (81 : Nat) ({ cls := "PolygonBoard$Spans", name := "<init>", desc := "()V" } : Jvm.MethodName) "PolygonBoard") ∈ lw_tbl := lw_at lw_m5 22 rfl
theorem q1033 : (Jvm.Cond.methodLink "PolygonBoard$Cells" (82 : Nat) ({ cls := "PolygonBoard$Cells", name := "contains", desc := "(II)Z" } : Jvm.MethodName)) ∈ lw_all := lw_g (lw_at lw_m5 23 rfl) rfl
theorem q1034 : (Jvm.Cond.instanceMethod ({ cls := "PolygonBoard$Cells", name := "contains", desc := "(II)Z" } : Jvm.MethodName)) ∈ lw_all := lw_g (lw_at lw_m5 24 rfl) rfl
theorem q1035 : (Jvm.Cond.selects "PolygonBoard$Cells" ({ cls := "PolygonBoard$Cells", name := "contains", desc := "(II)Z" } : Jvm.MethodName) ({ cls := "PolygonBoard$Cells", name := "contains", desc := "(II)Z" } : Jvm.MethodName)) ∈ lw_all := lw_g (lw_at lw_m5 25 rfl) rfl
theorem q1036 : (Jvm.Cond.code ({ cls := "PolygonBoard$Cells", name := "contains", desc := "(II)Z" } : Jvm.MethodName) prog_4_method_4_code (3 : Nat) (Option.some Jvm.ClassFile.FieldType.boolean)) ∈ lw_all := lw_g (lw_at lw_m5 26 rfl) rfl
theorem q1037 : (Jvm.Cond.methodLinkNest "PolygonBoard$Cells" (35 : Nat) ({ cls := "PolygonBoard", name := "isCell", desc := "(II)Z" } : Jvm.MethodName) "PolygonBoard") ∈ lw_tbl := lw_at lw_m5 27 rfl
theorem q1040 : (Jvm.Cond.methodLink "PolygonBoard$Cells" (85 : Nat) ({ cls := "PolygonBoard$Spans", name := "add", desc := "(II)V" } : Jvm.MethodName)) ∈ lw_all := lw_g (lw_at lw_m5 30 rfl) rfl
theorem q1041 : (Jvm.Cond.methodLink "PolygonBoard$Cells" (89 : Nat) ({ cls := "PolygonBoard$Region", name := "add", desc := "(IILPolygonBoard$Spans;)V" } : Jvm.MethodName)) ∈ lw_all := lw_g (lw_at lw_m5 31 rfl) rfl
theorem q1127 : (Jvm.Cond.instanceMethod ({ cls := "PolygonBoard$Cells", name := "area", desc := "()I" } : Jvm.MethodName)) ∈ lw_all := lw_g (lw_at lw_m5 117 rfl) rfl
theorem q1128 : (Jvm.Cond.selects "PolygonBoard$Cells" ({ cls := "PolygonBoard$Cells", name := "area", desc := "()I" } : Jvm.MethodName) ({ cls := "PolygonBoard$Cells", name := "area", desc := "()I" } : Jvm.MethodName)) ∈ lw_all := lw_g (lw_at lw_m5 118 rfl) rfl
theorem q1129 : (Jvm.Cond.code ({ cls := "PolygonBoard$Cells", name := "area", desc := "()I" } : Jvm.MethodName) prog_4_method_6_code (6 : Nat) (Option.some Jvm.ClassFile.FieldType.int)) ∈ lw_all := lw_g (lw_at lw_m5 119 rfl) rfl
theorem q1130 : (Jvm.Cond.methodLink "PolygonBoard$Cells" (43 : Nat) ({ cls := "java/lang/Integer", name := "bitCount", desc := "(I)I" } : Jvm.MethodName)) ∈ lw_all := lw_g (lw_at lw_m5 120 rfl) rfl
theorem q1172 : (Jvm.Cond.instanceMethod ({ cls := "PolygonBoard$Cells", name := "perimeter", desc := "()I" } : Jvm.MethodName)) ∈ lw_all := lw_g (lw_at lw_m5 162 rfl) rfl
theorem q1173 : (Jvm.Cond.selects "PolygonBoard$Cells" ({ cls := "PolygonBoard$Cells", name := "perimeter", desc := "()I" } : Jvm.MethodName) ({ cls := "PolygonBoard$Cells", name := "perimeter", desc := "()I" } : Jvm.MethodName)) ∈ lw_all := lw_g (lw_at lw_m5 163 rfl) rfl
theorem q1174 : (Jvm.Cond.code ({ cls := "PolygonBoard$Cells", name := "perimeter", desc := "()I" } : Jvm.MethodName) prog_4_method_7_code (3 : Nat) (Option.some Jvm.ClassFile.FieldType.int)) ∈ lw_all := lw_g (lw_at lw_m5 164 rfl) rfl
theorem q1175 : (Jvm.Cond.methodLink "PolygonBoard$Cells" (48 : Nat) ({ cls := "PolygonBoard$Cells", name := "row", desc := "(I)I" } : Jvm.MethodName)) ∈ lw_all := lw_g (lw_at lw_m5 165 rfl) rfl
theorem q1176 : (Jvm.Cond.privateMethod ({ cls := "PolygonBoard$Cells", name := "row", desc := "(I)I" } : Jvm.MethodName)) ∈ lw_tbl := lw_at lw_m5 166 rfl
theorem q1177 : (Jvm.Cond.instanceMethod ({ cls := "PolygonBoard$Cells", name := "row", desc := "(I)I" } : Jvm.MethodName)) ∈ lw_all := lw_g (lw_at lw_m5 167 rfl) rfl
theorem q1178 : (Jvm.Cond.code ({ cls := "PolygonBoard$Cells", name := "row", desc := "(I)I" } : Jvm.MethodName) prog_4_method_5_code (2 : Nat) (Option.some Jvm.ClassFile.FieldType.int)) ∈ lw_all := lw_g (lw_at lw_m5 168 rfl) rfl
theorem q1179 : (Jvm.Cond.methodLinkNest "PolygonBoard$Cells" (39 : Nat) ({ cls := "PolygonBoard", name := "isBetween", desc := "(III)Z" } : Jvm.MethodName) "PolygonBoard") ∈ lw_tbl := lw_at lw_m5 169 rfl
theorem q1214 : (Jvm.Cond.instanceMethod ({ cls := "PolygonBoard$Cells", name := "countParts", desc := "(Z)I" } : Jvm.MethodName)) ∈ lw_all := lw_g (lw_at lw_m5 204 rfl) rfl
theorem q1215 : (Jvm.Cond.selects "PolygonBoard$Cells" ({ cls := "PolygonBoard$Cells", name := "countParts", desc := "(Z)I" } : Jvm.MethodName) ({ cls := "PolygonBoard$Cells", name := "countParts", desc := "(Z)I" } : Jvm.MethodName)) ∈ lw_all := lw_g (lw_at lw_m5 205 rfl) rfl
theorem q1216 : (Jvm.Cond.code ({ cls := "PolygonBoard$Cells", name := "countParts", desc := "(Z)I" } : Jvm.MethodName) prog_4_method_13_code (5 : Nat) (Option.some Jvm.ClassFile.FieldType.int)) ∈ lw_all := lw_g (lw_at lw_m5 206 rfl) rfl
theorem q1443 : (Jvm.Cond.instanceMethod ({ cls := "PolygonBoard$Cells", name := "largestRectangle", desc := "()I" } : Jvm.MethodName)) ∈ lw_all := lw_g (lw_at lw_m6 193 rfl) rfl
theorem q1444 : (Jvm.Cond.selects "PolygonBoard$Cells" ({ cls := "PolygonBoard$Cells", name := "largestRectangle", desc := "()I" } : Jvm.MethodName) ({ cls := "PolygonBoard$Cells", name := "largestRectangle", desc := "()I" } : Jvm.MethodName)) ∈ lw_all := lw_g (lw_at lw_m6 194 rfl) rfl
theorem q1445 : (Jvm.Cond.code ({ cls := "PolygonBoard$Cells", name := "largestRectangle", desc := "()I" } : Jvm.MethodName) prog_4_method_18_code (5 : Nat) (Option.some Jvm.ClassFile.FieldType.int)) ∈ lw_all := lw_g (lw_at lw_m6 195 rfl) rfl
theorem q1446 : (Jvm.Cond.methodLink "PolygonBoard$Cells" (121 : Nat) ({ cls := "PolygonBoard$Cells", name := "largestBelow", desc := "([I)I" } : Jvm.MethodName)) ∈ lw_all := lw_g (lw_at lw_m6 196 rfl) rfl
theorem q1447 : (Jvm.Cond.static ({ cls := "PolygonBoard$Cells", name := "largestBelow", desc := "([I)I" } : Jvm.MethodName)) ∈ lw_all := lw_g (lw_at lw_m6 197 rfl) rfl
theorem q1448 : (Jvm.Cond.code ({ cls := "PolygonBoard$Cells", name := "largestBelow", desc := "([I)I" } : Jvm.MethodName) prog_4_method_17_code (7 : Nat) (Option.some Jvm.ClassFile.FieldType.int)) ∈ lw_all := lw_g (lw_at lw_m6 198 rfl) rfl
theorem q1449 : (Jvm.Cond.classLink "PolygonBoard$Cells" (92 : Nat) "java/util/ArrayDeque") ∈ lw_all := lw_g (lw_at lw_m6 199 rfl) rfl
theorem q1451 : (Jvm.Cond.methodLink "PolygonBoard$Cells" (94 : Nat) ({ cls := "java/util/ArrayDeque", name := "<init>", desc := "()V" } : Jvm.MethodName)) ∈ lw_all := lw_g (lw_at lw_m6 201 rfl) rfl
theorem q1466 : (Jvm.Cond.methodLink "PolygonBoard$Cells" (95 : Nat) ({ cls := "java/util/ArrayDeque", name := "isEmpty", desc := "()Z" } : Jvm.MethodName)) ∈ lw_all := lw_g (lw_at lw_m6 216 rfl) rfl
theorem q1470 : (Jvm.Cond.methodLink "PolygonBoard$Cells" (98 : Nat) ({ cls := "java/util/ArrayDeque", name := "peekLast", desc := "()Ljava/lang/Object;" } : Jvm.MethodName)) ∈ lw_all := lw_g (lw_at lw_m6 220 rfl) rfl
theorem q1480 : (Jvm.Cond.classLink "PolygonBoard$Cells" (44 : Nat) "java/lang/Integer") ∈ lw_all := lw_g (lw_at lw_m6 230 rfl) rfl
theorem q1481 : (Jvm.Cond.methodLink "PolygonBoard$Cells" (101 : Nat) ({ cls := "java/lang/Integer", name := "intValue", desc := "()I" } : Jvm.MethodName)) ∈ lw_all := lw_g (lw_at lw_m6 231 rfl) rfl
theorem q1485 : (Jvm.Cond.methodLink "PolygonBoard$Cells" (104 : Nat) ({ cls := "java/util/ArrayDeque", name := "removeLast", desc := "()Ljava/lang/Object;" } : Jvm.MethodName)) ∈ lw_all := lw_g (lw_at lw_m6 235 rfl) rfl
theorem q1495 : (Jvm.Cond.methodLink "PolygonBoard$Cells" (107 : Nat) ({ cls := "java/lang/Math", name := "max", desc := "(II)I" } : Jvm.MethodName)) ∈ lw_all := lw_g (lw_at lw_m7 5 rfl) rfl
theorem q1496 : (Jvm.Cond.methodLink "PolygonBoard$Cells" (113 : Nat) ({ cls := "java/lang/Integer", name := "valueOf", desc := "(I)Ljava/lang/Integer;" } : Jvm.MethodName)) ∈ lw_all := lw_g (lw_at lw_m7 6 rfl) rfl
theorem q1497 : (Jvm.Cond.methodLink "PolygonBoard$Cells" (117 : Nat) ({ cls := "java/util/ArrayDeque", name := "addLast", desc := "(Ljava/lang/Object;)V" } : Jvm.MethodName)) ∈ lw_all := lw_g (lw_at lw_m7 7 rfl) rfl
theorem q1537 : (Jvm.Cond.instanceMethod ({ cls := "PolygonBoard$Cells", name := "largestSquare", desc := "()I" } : Jvm.MethodName)) ∈ lw_all := lw_g (lw_at lw_m7 47 rfl) rfl
theorem q1538 : (Jvm.Cond.selects "PolygonBoard$Cells" ({ cls := "PolygonBoard$Cells", name := "largestSquare", desc := "()I" } : Jvm.MethodName) ({ cls := "PolygonBoard$Cells", name := "largestSquare", desc := "()I" } : Jvm.MethodName)) ∈ lw_all := lw_g (lw_at lw_m7 48 rfl) rfl
theorem q1539 : (Jvm.Cond.code ({ cls := "PolygonBoard$Cells", name := "largestSquare", desc := "()I" } : Jvm.MethodName) prog_4_method_19_code (8 : Nat) (Option.some Jvm.ClassFile.FieldType.int)) ∈ lw_all := lw_g (lw_at lw_m7 49 rfl) rfl
theorem q1540 : (Jvm.Cond.methodLink "PolygonBoard$Cells" (125 : Nat) ({ cls := "java/lang/Math", name := "min", desc := "(II)I" } : Jvm.MethodName)) ∈ lw_all := lw_g (lw_at lw_m7 50 rfl) rfl
theorem q1657 : (Jvm.Cond.instanceMethod ({ cls := "PolygonBoard$Cells", name := "moment", desc := "()J" } : Jvm.MethodName)) ∈ lw_all := lw_g (lw_at lw_m7 167 rfl) rfl
theorem q1658 : (Jvm.Cond.selects "PolygonBoard$Cells" ({ cls := "PolygonBoard$Cells", name := "moment", desc := "()J" } : Jvm.MethodName) ({ cls := "PolygonBoard$Cells", name := "moment", desc := "()J" } : Jvm.MethodName)) ∈ lw_all := lw_g (lw_at lw_m7 168 rfl) rfl
theorem q1659 : (Jvm.Cond.code ({ cls := "PolygonBoard$Cells", name := "moment", desc := "()J" } : Jvm.MethodName) prog_4_method_16_code (5 : Nat) (Option.some Jvm.ClassFile.FieldType.long)) ∈ lw_all := lw_g (lw_at lw_m7 169 rfl) rfl
theorem q2146 : (Jvm.Cond.castable "PolygonBoard$Cells" "java/lang/Object") ∈ lw_tbl := lw_at lw_m9 176 rfl
theorem in_X12 : ∀ w ∈ wsX120, w ∈ lw_all := lw_in wsX120 [981] (by decide +kernel) (by decide +kernel)
/-! PolygonBoard$PartScan -/
set_option maxRecDepth 100000
def RX13 : String := "PolygonBoard$PartScan"
def TX13 : u_T := fun k => match k with
  | 0 => ("PolygonBoard$Scan", "rectangles", "I", false)
  | 1 => ("PolygonBoard$PartScan", "found", "Ljava/util/List;", true)
  | _ => ("PolygonBoard$PartScan", "parts", "I", false)
def tyX13 : Nat → FieldType := fun k => match k with
  | 0 => .int
  | 1 => .object "java/util/List"
  | _ => .int
abbrev wsX130 : List Cond := u_ws RX13 TX13 3
theorem nmX13 : ∀ a, a < 3 → ∀ b, b < 3 → a ≠ b → (TX13 a).2.1 ≠ (TX13 b).2.1 := by decide +kernel
theorem tyX13_ok : ∀ k, k < 3 → parseFieldDescriptor (TX13 k).2.2.1 = some (tyX13 k) := by decide +kernel
abbrev cX13_visit : ByteArray := prog_13_method_2_code
def yX13_visit : MethodName := ⟨RX13, "visit", "(IIII)V"⟩
def dkwX13_visit_5 : List UInt8 := [180, 0, 10, 25, 5, 185, 0, 56, 2, 0, 87, 177]
abbrev dktX13_visit_5 : List UInt8 := dkwX13_visit_5 ++ []
def dkwX13_visit_4 : List UInt8 := [25, 7, 182, 0, 48, 181, 0, 52, 42, 89, 180, 0, 24, 4, 100, 181, 0, 24, 167, 255, 188, 42]
abbrev dktX13_visit_4 : List UInt8 := dkwX13_visit_4 ++ dktX13_visit_5
def dkwX13_visit_3 : List UInt8 := [182, 0, 44, 153, 0, 39, 25, 7, 182, 0, 48, 25, 5, 182, 0, 48, 165, 0, 26, 25, 5, 182, 0, 48]
abbrev dktX13_visit_3 : List UInt8 := dkwX13_visit_3 ++ dktX13_visit_4
def dkwX13_visit_2 : List UInt8 := [185, 0, 34, 1, 0, 153, 0, 64, 25, 6, 185, 0, 40, 1, 0, 192, 0, 20, 58, 7, 25, 7, 25, 5]
abbrev dktX13_visit_2 : List UInt8 := dkwX13_visit_2 ++ dktX13_visit_3
def dkwX13_visit_1 : List UInt8 := [89, 180, 0, 24, 4, 96, 181, 0, 24, 42, 180, 0, 10, 185, 0, 28, 1, 0, 58, 6, 25, 6]
abbrev dktX13_visit_1 : List UInt8 := dkwX13_visit_1 ++ dktX13_visit_2
def dkwX13_visit_0 : List UInt8 := [42, 27, 28, 29, 21, 4, 183, 0, 16, 187, 0, 20, 89, 27, 28, 29, 21, 4, 183, 0, 22, 58, 5, 42]
abbrev dktX13_visit_0 : List UInt8 := dkwX13_visit_0 ++ dktX13_visit_1
theorem dksX13_visit_0 : cX13_visit.data.toList.drop 0 = dktX13_visit_0 := by decide +kernel
theorem dksX13_visit_1 : cX13_visit.data.toList.drop 24 = dktX13_visit_1 := dk_seg dksX13_visit_0 24 rfl rfl
theorem dksX13_visit_2 : cX13_visit.data.toList.drop 46 = dktX13_visit_2 := dk_seg dksX13_visit_1 22 rfl rfl
theorem dksX13_visit_3 : cX13_visit.data.toList.drop 70 = dktX13_visit_3 := dk_seg dksX13_visit_2 24 rfl rfl
theorem dksX13_visit_4 : cX13_visit.data.toList.drop 94 = dktX13_visit_4 := dk_seg dksX13_visit_3 24 rfl rfl
theorem dksX13_visit_5 : cX13_visit.data.toList.drop 116 = dktX13_visit_5 := dk_seg dksX13_visit_4 22 rfl rfl
theorem dX13_visit_0 : decode cX13_visit 0 = .ok (.aload_n 0, 1) := dk_42 (dk_at dksX13_visit_0 0 rfl rfl)
theorem dX13_visit_1 : decode cX13_visit 1 = .ok (.iload_n 1, 1) := dk_27 (dk_at dksX13_visit_0 1 rfl rfl)
theorem dX13_visit_2 : decode cX13_visit 2 = .ok (.iload_n 2, 1) := dk_28 (dk_at dksX13_visit_0 2 rfl rfl)
theorem dX13_visit_3 : decode cX13_visit 3 = .ok (.iload_n 3, 1) := dk_29 (dk_at dksX13_visit_0 3 rfl rfl)
theorem dX13_visit_4 : decode cX13_visit 4 = .ok (.iload 4, 2) := dk_21 4 (dk_at dksX13_visit_0 4 rfl rfl)
theorem dX13_visit_6 : decode cX13_visit 6 = .ok (.invokespecial 16, 3) := dk_183 0 16 (dk_at dksX13_visit_0 6 rfl rfl)
theorem dX13_visit_9 : decode cX13_visit 9 = .ok (.new 20, 3) := dk_187 0 20 (dk_at dksX13_visit_0 9 rfl rfl)
theorem dX13_visit_12 : decode cX13_visit 12 = .ok (.dup, 1) := dk_89 (dk_at dksX13_visit_0 12 rfl rfl)
theorem dX13_visit_13 : decode cX13_visit 13 = .ok (.iload_n 1, 1) := dk_27 (dk_at dksX13_visit_0 13 rfl rfl)
theorem dX13_visit_14 : decode cX13_visit 14 = .ok (.iload_n 2, 1) := dk_28 (dk_at dksX13_visit_0 14 rfl rfl)
theorem dX13_visit_15 : decode cX13_visit 15 = .ok (.iload_n 3, 1) := dk_29 (dk_at dksX13_visit_0 15 rfl rfl)
theorem dX13_visit_16 : decode cX13_visit 16 = .ok (.iload 4, 2) := dk_21 4 (dk_at dksX13_visit_0 16 rfl rfl)
theorem dX13_visit_18 : decode cX13_visit 18 = .ok (.invokespecial 22, 3) := dk_183 0 22 (dk_at dksX13_visit_0 18 rfl rfl)
theorem dX13_visit_21 : decode cX13_visit 21 = .ok (.astore 5, 2) := dk_58 5 (dk_at dksX13_visit_0 21 rfl rfl)
theorem dX13_visit_23 : decode cX13_visit 23 = .ok (.aload_n 0, 1) := dk_42 (dk_at dksX13_visit_0 23 rfl rfl)
theorem dX13_visit_24 : decode cX13_visit 24 = .ok (.dup, 1) := dk_89 (dk_at dksX13_visit_1 0 rfl rfl)
theorem dX13_visit_25 : decode cX13_visit 25 = .ok (.getfield 24, 3) := dk_180 0 24 (dk_at dksX13_visit_1 1 rfl rfl)
theorem dX13_visit_28 : decode cX13_visit 28 = .ok (.iconst 1, 1) := dk_4 (dk_at dksX13_visit_1 4 rfl rfl)
theorem dX13_visit_29 : decode cX13_visit 29 = .ok (.iadd, 1) := dk_96 (dk_at dksX13_visit_1 5 rfl rfl)
theorem dX13_visit_30 : decode cX13_visit 30 = .ok (.putfield 24, 3) := dk_181 0 24 (dk_at dksX13_visit_1 6 rfl rfl)
theorem dX13_visit_33 : decode cX13_visit 33 = .ok (.aload_n 0, 1) := dk_42 (dk_at dksX13_visit_1 9 rfl rfl)
theorem dX13_visit_34 : decode cX13_visit 34 = .ok (.getfield 10, 3) := dk_180 0 10 (dk_at dksX13_visit_1 10 rfl rfl)
theorem dX13_visit_37 : decode cX13_visit 37 = .ok (.invokeinterface 28 1, 5) := by decide +kernel
theorem dX13_visit_42 : decode cX13_visit 42 = .ok (.astore 6, 2) := dk_58 6 (dk_at dksX13_visit_1 18 rfl rfl)
theorem dX13_visit_44 : decode cX13_visit 44 = .ok (.aload 6, 2) := dk_25 6 (dk_at dksX13_visit_1 20 rfl rfl)
theorem dX13_visit_46 : decode cX13_visit 46 = .ok (.invokeinterface 34 1, 5) := by decide +kernel
theorem dX13_visit_51 : decode cX13_visit 51 = .ok (.ifCond .eq 64, 3) := dk_153 0 64 (dk_at dksX13_visit_2 5 rfl rfl)
theorem dX13_visit_54 : decode cX13_visit 54 = .ok (.aload 6, 2) := dk_25 6 (dk_at dksX13_visit_2 8 rfl rfl)
theorem dX13_visit_56 : decode cX13_visit 56 = .ok (.invokeinterface 40 1, 5) := by decide +kernel
theorem dX13_visit_61 : decode cX13_visit 61 = .ok (.checkcast 20, 3) := dk_192 0 20 (dk_at dksX13_visit_2 15 rfl rfl)
theorem dX13_visit_64 : decode cX13_visit 64 = .ok (.astore 7, 2) := dk_58 7 (dk_at dksX13_visit_2 18 rfl rfl)
theorem dX13_visit_66 : decode cX13_visit 66 = .ok (.aload 7, 2) := dk_25 7 (dk_at dksX13_visit_2 20 rfl rfl)
theorem dX13_visit_68 : decode cX13_visit 68 = .ok (.aload 5, 2) := dk_25 5 (dk_at dksX13_visit_2 22 rfl rfl)
theorem dX13_visit_70 : decode cX13_visit 70 = .ok (.invokevirtual 44, 3) := dk_182 0 44 (dk_at dksX13_visit_3 0 rfl rfl)
theorem dX13_visit_73 : decode cX13_visit 73 = .ok (.ifCond .eq 39, 3) := dk_153 0 39 (dk_at dksX13_visit_3 3 rfl rfl)
theorem dX13_visit_76 : decode cX13_visit 76 = .ok (.aload 7, 2) := dk_25 7 (dk_at dksX13_visit_3 6 rfl rfl)
theorem dX13_visit_78 : decode cX13_visit 78 = .ok (.invokevirtual 48, 3) := dk_182 0 48 (dk_at dksX13_visit_3 8 rfl rfl)
theorem dX13_visit_81 : decode cX13_visit 81 = .ok (.aload 5, 2) := dk_25 5 (dk_at dksX13_visit_3 11 rfl rfl)
theorem dX13_visit_83 : decode cX13_visit 83 = .ok (.invokevirtual 48, 3) := dk_182 0 48 (dk_at dksX13_visit_3 13 rfl rfl)
theorem dX13_visit_86 : decode cX13_visit 86 = .ok (.if_acmp .eq 26, 3) := dk_165 0 26 (dk_at dksX13_visit_3 16 rfl rfl)
theorem dX13_visit_89 : decode cX13_visit 89 = .ok (.aload 5, 2) := dk_25 5 (dk_at dksX13_visit_3 19 rfl rfl)
theorem dX13_visit_91 : decode cX13_visit 91 = .ok (.invokevirtual 48, 3) := dk_182 0 48 (dk_at dksX13_visit_3 21 rfl rfl)
theorem dX13_visit_94 : decode cX13_visit 94 = .ok (.aload 7, 2) := dk_25 7 (dk_at dksX13_visit_4 0 rfl rfl)
theorem dX13_visit_96 : decode cX13_visit 96 = .ok (.invokevirtual 48, 3) := dk_182 0 48 (dk_at dksX13_visit_4 2 rfl rfl)
theorem dX13_visit_99 : decode cX13_visit 99 = .ok (.putfield 52, 3) := dk_181 0 52 (dk_at dksX13_visit_4 5 rfl rfl)
theorem dX13_visit_102 : decode cX13_visit 102 = .ok (.aload_n 0, 1) := dk_42 (dk_at dksX13_visit_4 8 rfl rfl)
theorem dX13_visit_103 : decode cX13_visit 103 = .ok (.dup, 1) := dk_89 (dk_at dksX13_visit_4 9 rfl rfl)
theorem dX13_visit_104 : decode cX13_visit 104 = .ok (.getfield 24, 3) := dk_180 0 24 (dk_at dksX13_visit_4 10 rfl rfl)
theorem dX13_visit_107 : decode cX13_visit 107 = .ok (.iconst 1, 1) := dk_4 (dk_at dksX13_visit_4 13 rfl rfl)
theorem dX13_visit_108 : decode cX13_visit 108 = .ok (.isub, 1) := dk_100 (dk_at dksX13_visit_4 14 rfl rfl)
theorem dX13_visit_109 : decode cX13_visit 109 = .ok (.putfield 24, 3) := dk_181 0 24 (dk_at dksX13_visit_4 15 rfl rfl)
theorem dX13_visit_112 : decode cX13_visit 112 = .ok (.goto (-68), 3) := dk_167 255 188 (dk_at dksX13_visit_4 18 rfl rfl)
theorem dX13_visit_115 : decode cX13_visit 115 = .ok (.aload_n 0, 1) := dk_42 (dk_at dksX13_visit_4 21 rfl rfl)
theorem dX13_visit_116 : decode cX13_visit 116 = .ok (.getfield 10, 3) := dk_180 0 10 (dk_at dksX13_visit_5 0 rfl rfl)
theorem dX13_visit_119 : decode cX13_visit 119 = .ok (.aload 5, 2) := dk_25 5 (dk_at dksX13_visit_5 3 rfl rfl)
theorem dX13_visit_121 : decode cX13_visit 121 = .ok (.invokeinterface 56 2, 5) := by decide +kernel
theorem dX13_visit_126 : decode cX13_visit 126 = .ok (.pop, 1) := dk_87 (dk_at dksX13_visit_5 10 rfl rfl)
theorem dX13_visit_127 : decode cX13_visit 127 = .ok (.return_, 1) := dk_177 (dk_at dksX13_visit_5 11 rfl rfl)
abbrev cX13_init : ByteArray := prog_13_method_1_code
def yX13_init : MethodName := ⟨RX13, "<init>", "()V"⟩
def dkwX13_init_0 : List UInt8 := [42, 183, 0, 1, 42, 187, 0, 7, 89, 183, 0, 9, 181, 0, 10, 177]
abbrev dktX13_init_0 : List UInt8 := dkwX13_init_0 ++ []
theorem dksX13_init_0 : cX13_init.data.toList.drop 0 = dktX13_init_0 := by decide +kernel
theorem dX13_init_0 : decode cX13_init 0 = .ok (.aload_n 0, 1) := dk_42 (dk_at dksX13_init_0 0 rfl rfl)
theorem dX13_init_1 : decode cX13_init 1 = .ok (.invokespecial 1, 3) := dk_183 0 1 (dk_at dksX13_init_0 1 rfl rfl)
theorem dX13_init_4 : decode cX13_init 4 = .ok (.aload_n 0, 1) := dk_42 (dk_at dksX13_init_0 4 rfl rfl)
theorem dX13_init_5 : decode cX13_init 5 = .ok (.new 7, 3) := dk_187 0 7 (dk_at dksX13_init_0 5 rfl rfl)
theorem dX13_init_8 : decode cX13_init 8 = .ok (.dup, 1) := dk_89 (dk_at dksX13_init_0 8 rfl rfl)
theorem dX13_init_9 : decode cX13_init 9 = .ok (.invokespecial 9, 3) := dk_183 0 9 (dk_at dksX13_init_0 9 rfl rfl)
theorem dX13_init_12 : decode cX13_init 12 = .ok (.putfield 10, 3) := dk_181 0 10 (dk_at dksX13_init_0 12 rfl rfl)
theorem dX13_init_15 : decode cX13_init 15 = .ok (.return_, 1) := dk_177 (dk_at dksX13_init_0 15 rfl rfl)
abbrev cX13_partAt : ByteArray := prog_13_method_3_code
def yX13_partAt : MethodName := ⟨RX13, "partAt", "(II)LPolygonBoard$Rectangle;"⟩
def dkwX13_partAt_2 : List UInt8 := [182, 0, 48, 167, 0, 4, 45, 78, 167, 255, 214, 45, 176]
abbrev dktX13_partAt_2 : List UInt8 := dkwX13_partAt_2 ++ []
def dkwX13_partAt_1 : List UInt8 := [25, 4, 185, 0, 40, 1, 0, 192, 0, 20, 58, 5, 25, 5, 27, 28, 182, 0, 60, 153, 0, 11, 25, 5]
abbrev dktX13_partAt_1 : List UInt8 := dkwX13_partAt_1 ++ dktX13_partAt_2
def dkwX13_partAt_0 : List UInt8 := [1, 78, 42, 180, 0, 10, 185, 0, 28, 1, 0, 58, 4, 25, 4, 185, 0, 34, 1, 0, 153, 0, 38]
abbrev dktX13_partAt_0 : List UInt8 := dkwX13_partAt_0 ++ dktX13_partAt_1
theorem dksX13_partAt_0 : cX13_partAt.data.toList.drop 0 = dktX13_partAt_0 := by decide +kernel
theorem dksX13_partAt_1 : cX13_partAt.data.toList.drop 23 = dktX13_partAt_1 := dk_seg dksX13_partAt_0 23 rfl rfl
theorem dksX13_partAt_2 : cX13_partAt.data.toList.drop 47 = dktX13_partAt_2 := dk_seg dksX13_partAt_1 24 rfl rfl
theorem dX13_partAt_0 : decode cX13_partAt 0 = .ok (.aconst_null, 1) := dk_1 (dk_at dksX13_partAt_0 0 rfl rfl)
theorem dX13_partAt_1 : decode cX13_partAt 1 = .ok (.astore_n 3, 1) := dk_78 (dk_at dksX13_partAt_0 1 rfl rfl)
theorem dX13_partAt_2 : decode cX13_partAt 2 = .ok (.aload_n 0, 1) := dk_42 (dk_at dksX13_partAt_0 2 rfl rfl)
theorem dX13_partAt_3 : decode cX13_partAt 3 = .ok (.getfield 10, 3) := dk_180 0 10 (dk_at dksX13_partAt_0 3 rfl rfl)
theorem dX13_partAt_6 : decode cX13_partAt 6 = .ok (.invokeinterface 28 1, 5) := by decide +kernel
theorem dX13_partAt_11 : decode cX13_partAt 11 = .ok (.astore 4, 2) := dk_58 4 (dk_at dksX13_partAt_0 11 rfl rfl)
theorem dX13_partAt_13 : decode cX13_partAt 13 = .ok (.aload 4, 2) := dk_25 4 (dk_at dksX13_partAt_0 13 rfl rfl)
theorem dX13_partAt_15 : decode cX13_partAt 15 = .ok (.invokeinterface 34 1, 5) := by decide +kernel
theorem dX13_partAt_20 : decode cX13_partAt 20 = .ok (.ifCond .eq 38, 3) := dk_153 0 38 (dk_at dksX13_partAt_0 20 rfl rfl)
theorem dX13_partAt_23 : decode cX13_partAt 23 = .ok (.aload 4, 2) := dk_25 4 (dk_at dksX13_partAt_1 0 rfl rfl)
theorem dX13_partAt_25 : decode cX13_partAt 25 = .ok (.invokeinterface 40 1, 5) := by decide +kernel
theorem dX13_partAt_30 : decode cX13_partAt 30 = .ok (.checkcast 20, 3) := dk_192 0 20 (dk_at dksX13_partAt_1 7 rfl rfl)
theorem dX13_partAt_33 : decode cX13_partAt 33 = .ok (.astore 5, 2) := dk_58 5 (dk_at dksX13_partAt_1 10 rfl rfl)
theorem dX13_partAt_35 : decode cX13_partAt 35 = .ok (.aload 5, 2) := dk_25 5 (dk_at dksX13_partAt_1 12 rfl rfl)
theorem dX13_partAt_37 : decode cX13_partAt 37 = .ok (.iload_n 1, 1) := dk_27 (dk_at dksX13_partAt_1 14 rfl rfl)
theorem dX13_partAt_38 : decode cX13_partAt 38 = .ok (.iload_n 2, 1) := dk_28 (dk_at dksX13_partAt_1 15 rfl rfl)
theorem dX13_partAt_39 : decode cX13_partAt 39 = .ok (.invokevirtual 60, 3) := dk_182 0 60 (dk_at dksX13_partAt_1 16 rfl rfl)
theorem dX13_partAt_42 : decode cX13_partAt 42 = .ok (.ifCond .eq 11, 3) := dk_153 0 11 (dk_at dksX13_partAt_1 19 rfl rfl)
theorem dX13_partAt_45 : decode cX13_partAt 45 = .ok (.aload 5, 2) := dk_25 5 (dk_at dksX13_partAt_1 22 rfl rfl)
theorem dX13_partAt_47 : decode cX13_partAt 47 = .ok (.invokevirtual 48, 3) := dk_182 0 48 (dk_at dksX13_partAt_2 0 rfl rfl)
theorem dX13_partAt_50 : decode cX13_partAt 50 = .ok (.goto 4, 3) := dk_167 0 4 (dk_at dksX13_partAt_2 3 rfl rfl)
theorem dX13_partAt_53 : decode cX13_partAt 53 = .ok (.aload_n 3, 1) := dk_45 (dk_at dksX13_partAt_2 6 rfl rfl)
theorem dX13_partAt_54 : decode cX13_partAt 54 = .ok (.astore_n 3, 1) := dk_78 (dk_at dksX13_partAt_2 7 rfl rfl)
theorem dX13_partAt_55 : decode cX13_partAt 55 = .ok (.goto (-42), 3) := dk_167 255 214 (dk_at dksX13_partAt_2 8 rfl rfl)
theorem dX13_partAt_58 : decode cX13_partAt 58 = .ok (.aload_n 3, 1) := dk_45 (dk_at dksX13_partAt_2 11 rfl rfl)
theorem dX13_partAt_59 : decode cX13_partAt 59 = .ok (.areturn, 1) := dk_176 (dk_at dksX13_partAt_2 12 rfl rfl)
abbrev cX13_regionOf : ByteArray := prog_13_method_4_code
def yX13_regionOf : MethodName := ⟨RX13, "regionOf", "(LPolygonBoard$Rectangle;)LPolygonBoard$Region;"⟩
def dkwX13_regionOf_6 : List UInt8 := [180, 0, 78, 25, 4, 180, 0, 90, 25, 5, 182, 0, 93, 167, 255, 113, 44, 176]
abbrev dktX13_regionOf_6 : List UInt8 := dkwX13_regionOf_6 ++ []
def dkwX13_regionOf_5 : List UInt8 := [180, 0, 84, 167, 0, 8, 25, 6, 180, 0, 81, 182, 0, 87, 132, 3, 1, 167, 255, 169, 44, 25, 4]
abbrev dktX13_regionOf_5 : List UInt8 := dkwX13_regionOf_5 ++ dktX13_regionOf_6
def dkwX13_regionOf_4 : List UInt8 := [192, 0, 20, 58, 6, 25, 5, 25, 6, 180, 0, 81, 25, 6, 182, 0, 48, 43, 166, 0, 11, 25, 6]
abbrev dktX13_regionOf_4 : List UInt8 := dkwX13_regionOf_4 ++ dktX13_regionOf_5
def dkwX13_regionOf_3 : List UInt8 := [192, 0, 20, 180, 0, 78, 25, 4, 180, 0, 78, 160, 0, 56, 42, 180, 0, 10, 29, 185, 0, 71, 2, 0]
abbrev dktX13_regionOf_3 : List UInt8 := dkwX13_regionOf_3 ++ dktX13_regionOf_4
def dkwX13_regionOf_2 : List UInt8 := [42, 180, 0, 10, 185, 0, 67, 1, 0, 162, 0, 80, 42, 180, 0, 10, 29, 185, 0, 71, 2, 0]
abbrev dktX13_regionOf_2 : List UInt8 := dkwX13_regionOf_2 ++ dktX13_regionOf_3
def dkwX13_regionOf_1 : List UInt8 := [180, 0, 10, 29, 185, 0, 71, 2, 0, 192, 0, 20, 58, 4, 187, 0, 75, 89, 183, 0, 77, 58, 5, 29]
abbrev dktX13_regionOf_1 : List UInt8 := dkwX13_regionOf_1 ++ dktX13_regionOf_2
def dkwX13_regionOf_0 : List UInt8 := [187, 0, 64, 89, 183, 0, 66, 77, 3, 62, 29, 42, 180, 0, 10, 185, 0, 67, 1, 0, 162, 0, 136, 42]
abbrev dktX13_regionOf_0 : List UInt8 := dkwX13_regionOf_0 ++ dktX13_regionOf_1
theorem dksX13_regionOf_0 : cX13_regionOf.data.toList.drop 0 = dktX13_regionOf_0 := by decide +kernel
theorem dksX13_regionOf_1 : cX13_regionOf.data.toList.drop 24 = dktX13_regionOf_1 := dk_seg dksX13_regionOf_0 24 rfl rfl
theorem dksX13_regionOf_2 : cX13_regionOf.data.toList.drop 48 = dktX13_regionOf_2 := dk_seg dksX13_regionOf_1 24 rfl rfl
theorem dksX13_regionOf_3 : cX13_regionOf.data.toList.drop 70 = dktX13_regionOf_3 := dk_seg dksX13_regionOf_2 22 rfl rfl
theorem dksX13_regionOf_4 : cX13_regionOf.data.toList.drop 94 = dktX13_regionOf_4 := dk_seg dksX13_regionOf_3 24 rfl rfl
theorem dksX13_regionOf_5 : cX13_regionOf.data.toList.drop 117 = dktX13_regionOf_5 := dk_seg dksX13_regionOf_4 23 rfl rfl
theorem dksX13_regionOf_6 : cX13_regionOf.data.toList.drop 140 = dktX13_regionOf_6 := dk_seg dksX13_regionOf_5 23 rfl rfl
theorem dX13_regionOf_0 : decode cX13_regionOf 0 = .ok (.new 64, 3) := dk_187 0 64 (dk_at dksX13_regionOf_0 0 rfl rfl)
theorem dX13_regionOf_3 : decode cX13_regionOf 3 = .ok (.dup, 1) := dk_89 (dk_at dksX13_regionOf_0 3 rfl rfl)
theorem dX13_regionOf_4 : decode cX13_regionOf 4 = .ok (.invokespecial 66, 3) := dk_183 0 66 (dk_at dksX13_regionOf_0 4 rfl rfl)
theorem dX13_regionOf_7 : decode cX13_regionOf 7 = .ok (.astore_n 2, 1) := dk_77 (dk_at dksX13_regionOf_0 7 rfl rfl)
theorem dX13_regionOf_8 : decode cX13_regionOf 8 = .ok (.iconst 0, 1) := dk_3 (dk_at dksX13_regionOf_0 8 rfl rfl)
theorem dX13_regionOf_9 : decode cX13_regionOf 9 = .ok (.istore_n 3, 1) := dk_62 (dk_at dksX13_regionOf_0 9 rfl rfl)
theorem dX13_regionOf_10 : decode cX13_regionOf 10 = .ok (.iload_n 3, 1) := dk_29 (dk_at dksX13_regionOf_0 10 rfl rfl)
theorem dX13_regionOf_11 : decode cX13_regionOf 11 = .ok (.aload_n 0, 1) := dk_42 (dk_at dksX13_regionOf_0 11 rfl rfl)
theorem dX13_regionOf_12 : decode cX13_regionOf 12 = .ok (.getfield 10, 3) := dk_180 0 10 (dk_at dksX13_regionOf_0 12 rfl rfl)
theorem dX13_regionOf_15 : decode cX13_regionOf 15 = .ok (.invokeinterface 67 1, 5) := by decide +kernel
theorem dX13_regionOf_20 : decode cX13_regionOf 20 = .ok (.if_icmp .ge 136, 3) := dk_162 0 136 (dk_at dksX13_regionOf_0 20 rfl rfl)
theorem dX13_regionOf_23 : decode cX13_regionOf 23 = .ok (.aload_n 0, 1) := dk_42 (dk_at dksX13_regionOf_0 23 rfl rfl)
theorem dX13_regionOf_24 : decode cX13_regionOf 24 = .ok (.getfield 10, 3) := dk_180 0 10 (dk_at dksX13_regionOf_1 0 rfl rfl)
theorem dX13_regionOf_27 : decode cX13_regionOf 27 = .ok (.iload_n 3, 1) := dk_29 (dk_at dksX13_regionOf_1 3 rfl rfl)
theorem dX13_regionOf_28 : decode cX13_regionOf 28 = .ok (.invokeinterface 71 2, 5) := by decide +kernel
theorem dX13_regionOf_33 : decode cX13_regionOf 33 = .ok (.checkcast 20, 3) := dk_192 0 20 (dk_at dksX13_regionOf_1 9 rfl rfl)
theorem dX13_regionOf_36 : decode cX13_regionOf 36 = .ok (.astore 4, 2) := dk_58 4 (dk_at dksX13_regionOf_1 12 rfl rfl)
theorem dX13_regionOf_38 : decode cX13_regionOf 38 = .ok (.new 75, 3) := dk_187 0 75 (dk_at dksX13_regionOf_1 14 rfl rfl)
theorem dX13_regionOf_41 : decode cX13_regionOf 41 = .ok (.dup, 1) := dk_89 (dk_at dksX13_regionOf_1 17 rfl rfl)
theorem dX13_regionOf_42 : decode cX13_regionOf 42 = .ok (.invokespecial 77, 3) := dk_183 0 77 (dk_at dksX13_regionOf_1 18 rfl rfl)
theorem dX13_regionOf_45 : decode cX13_regionOf 45 = .ok (.astore 5, 2) := dk_58 5 (dk_at dksX13_regionOf_1 21 rfl rfl)
theorem dX13_regionOf_47 : decode cX13_regionOf 47 = .ok (.iload_n 3, 1) := dk_29 (dk_at dksX13_regionOf_1 23 rfl rfl)
theorem dX13_regionOf_48 : decode cX13_regionOf 48 = .ok (.aload_n 0, 1) := dk_42 (dk_at dksX13_regionOf_2 0 rfl rfl)
theorem dX13_regionOf_49 : decode cX13_regionOf 49 = .ok (.getfield 10, 3) := dk_180 0 10 (dk_at dksX13_regionOf_2 1 rfl rfl)
theorem dX13_regionOf_52 : decode cX13_regionOf 52 = .ok (.invokeinterface 67 1, 5) := by decide +kernel
theorem dX13_regionOf_57 : decode cX13_regionOf 57 = .ok (.if_icmp .ge 80, 3) := dk_162 0 80 (dk_at dksX13_regionOf_2 9 rfl rfl)
theorem dX13_regionOf_60 : decode cX13_regionOf 60 = .ok (.aload_n 0, 1) := dk_42 (dk_at dksX13_regionOf_2 12 rfl rfl)
theorem dX13_regionOf_61 : decode cX13_regionOf 61 = .ok (.getfield 10, 3) := dk_180 0 10 (dk_at dksX13_regionOf_2 13 rfl rfl)
theorem dX13_regionOf_64 : decode cX13_regionOf 64 = .ok (.iload_n 3, 1) := dk_29 (dk_at dksX13_regionOf_2 16 rfl rfl)
theorem dX13_regionOf_65 : decode cX13_regionOf 65 = .ok (.invokeinterface 71 2, 5) := by decide +kernel
theorem dX13_regionOf_70 : decode cX13_regionOf 70 = .ok (.checkcast 20, 3) := dk_192 0 20 (dk_at dksX13_regionOf_3 0 rfl rfl)
theorem dX13_regionOf_73 : decode cX13_regionOf 73 = .ok (.getfield 78, 3) := dk_180 0 78 (dk_at dksX13_regionOf_3 3 rfl rfl)
theorem dX13_regionOf_76 : decode cX13_regionOf 76 = .ok (.aload 4, 2) := dk_25 4 (dk_at dksX13_regionOf_3 6 rfl rfl)
theorem dX13_regionOf_78 : decode cX13_regionOf 78 = .ok (.getfield 78, 3) := dk_180 0 78 (dk_at dksX13_regionOf_3 8 rfl rfl)
theorem dX13_regionOf_81 : decode cX13_regionOf 81 = .ok (.if_icmp .ne 56, 3) := dk_160 0 56 (dk_at dksX13_regionOf_3 11 rfl rfl)
theorem dX13_regionOf_84 : decode cX13_regionOf 84 = .ok (.aload_n 0, 1) := dk_42 (dk_at dksX13_regionOf_3 14 rfl rfl)
theorem dX13_regionOf_85 : decode cX13_regionOf 85 = .ok (.getfield 10, 3) := dk_180 0 10 (dk_at dksX13_regionOf_3 15 rfl rfl)
theorem dX13_regionOf_88 : decode cX13_regionOf 88 = .ok (.iload_n 3, 1) := dk_29 (dk_at dksX13_regionOf_3 18 rfl rfl)
theorem dX13_regionOf_89 : decode cX13_regionOf 89 = .ok (.invokeinterface 71 2, 5) := by decide +kernel
theorem dX13_regionOf_94 : decode cX13_regionOf 94 = .ok (.checkcast 20, 3) := dk_192 0 20 (dk_at dksX13_regionOf_4 0 rfl rfl)
theorem dX13_regionOf_97 : decode cX13_regionOf 97 = .ok (.astore 6, 2) := dk_58 6 (dk_at dksX13_regionOf_4 3 rfl rfl)
theorem dX13_regionOf_99 : decode cX13_regionOf 99 = .ok (.aload 5, 2) := dk_25 5 (dk_at dksX13_regionOf_4 5 rfl rfl)
theorem dX13_regionOf_101 : decode cX13_regionOf 101 = .ok (.aload 6, 2) := dk_25 6 (dk_at dksX13_regionOf_4 7 rfl rfl)
theorem dX13_regionOf_103 : decode cX13_regionOf 103 = .ok (.getfield 81, 3) := dk_180 0 81 (dk_at dksX13_regionOf_4 9 rfl rfl)
theorem dX13_regionOf_106 : decode cX13_regionOf 106 = .ok (.aload 6, 2) := dk_25 6 (dk_at dksX13_regionOf_4 12 rfl rfl)
theorem dX13_regionOf_108 : decode cX13_regionOf 108 = .ok (.invokevirtual 48, 3) := dk_182 0 48 (dk_at dksX13_regionOf_4 14 rfl rfl)
theorem dX13_regionOf_111 : decode cX13_regionOf 111 = .ok (.aload_n 1, 1) := dk_43 (dk_at dksX13_regionOf_4 17 rfl rfl)
theorem dX13_regionOf_112 : decode cX13_regionOf 112 = .ok (.if_acmp .ne 11, 3) := dk_166 0 11 (dk_at dksX13_regionOf_4 18 rfl rfl)
theorem dX13_regionOf_115 : decode cX13_regionOf 115 = .ok (.aload 6, 2) := dk_25 6 (dk_at dksX13_regionOf_4 21 rfl rfl)
theorem dX13_regionOf_117 : decode cX13_regionOf 117 = .ok (.getfield 84, 3) := dk_180 0 84 (dk_at dksX13_regionOf_5 0 rfl rfl)
theorem dX13_regionOf_120 : decode cX13_regionOf 120 = .ok (.goto 8, 3) := dk_167 0 8 (dk_at dksX13_regionOf_5 3 rfl rfl)
theorem dX13_regionOf_123 : decode cX13_regionOf 123 = .ok (.aload 6, 2) := dk_25 6 (dk_at dksX13_regionOf_5 6 rfl rfl)
theorem dX13_regionOf_125 : decode cX13_regionOf 125 = .ok (.getfield 81, 3) := dk_180 0 81 (dk_at dksX13_regionOf_5 8 rfl rfl)
theorem dX13_regionOf_128 : decode cX13_regionOf 128 = .ok (.invokevirtual 87, 3) := dk_182 0 87 (dk_at dksX13_regionOf_5 11 rfl rfl)
theorem dX13_regionOf_131 : decode cX13_regionOf 131 = .ok (.iinc 3 1, 3) := dk_132 3 1 (dk_at dksX13_regionOf_5 14 rfl rfl)
theorem dX13_regionOf_134 : decode cX13_regionOf 134 = .ok (.goto (-87), 3) := dk_167 255 169 (dk_at dksX13_regionOf_5 17 rfl rfl)
theorem dX13_regionOf_137 : decode cX13_regionOf 137 = .ok (.aload_n 2, 1) := dk_44 (dk_at dksX13_regionOf_5 20 rfl rfl)
theorem dX13_regionOf_138 : decode cX13_regionOf 138 = .ok (.aload 4, 2) := dk_25 4 (dk_at dksX13_regionOf_5 21 rfl rfl)
theorem dX13_regionOf_140 : decode cX13_regionOf 140 = .ok (.getfield 78, 3) := dk_180 0 78 (dk_at dksX13_regionOf_6 0 rfl rfl)
theorem dX13_regionOf_143 : decode cX13_regionOf 143 = .ok (.aload 4, 2) := dk_25 4 (dk_at dksX13_regionOf_6 3 rfl rfl)
theorem dX13_regionOf_145 : decode cX13_regionOf 145 = .ok (.getfield 90, 3) := dk_180 0 90 (dk_at dksX13_regionOf_6 5 rfl rfl)
theorem dX13_regionOf_148 : decode cX13_regionOf 148 = .ok (.aload 5, 2) := dk_25 5 (dk_at dksX13_regionOf_6 8 rfl rfl)
theorem dX13_regionOf_150 : decode cX13_regionOf 150 = .ok (.invokevirtual 93, 3) := dk_182 0 93 (dk_at dksX13_regionOf_6 10 rfl rfl)
theorem dX13_regionOf_153 : decode cX13_regionOf 153 = .ok (.goto (-143), 3) := dk_167 255 113 (dk_at dksX13_regionOf_6 13 rfl rfl)
theorem dX13_regionOf_156 : decode cX13_regionOf 156 = .ok (.aload_n 2, 1) := dk_44 (dk_at dksX13_regionOf_6 16 rfl rfl)
theorem dX13_regionOf_157 : decode cX13_regionOf 157 = .ok (.areturn, 1) := dk_176 (dk_at dksX13_regionOf_6 17 rfl rfl)
theorem q85 : (Jvm.Cond.initialized "PolygonBoard$PartScan") ∈ lw_all := lw_g (lw_at lw_m1 35 rfl) rfl
theorem q194 : (Jvm.Cond.selects "PolygonBoard$PartScan" ({ cls := "java/lang/Object", name := "getClass", desc := "()Ljava/lang/Class;" } : Jvm.MethodName) ({ cls := "java/lang/Object", name := "getClass", desc := "()Ljava/lang/Class;" } : Jvm.MethodName)) ∈ lw_all := lw_g (lw_at lw_m1 144 rfl) rfl
theorem q616 : (Jvm.Cond.selects "PolygonBoard$PartScan" ({ cls := "PolygonBoard$Scan", name := "visit", desc := "(IIII)V" } : Jvm.MethodName) ({ cls := "PolygonBoard$PartScan", name := "visit", desc := "(IIII)V" } : Jvm.MethodName)) ∈ lw_all := lw_g (lw_at lw_m3 86 rfl) rfl
theorem q617 : (Jvm.Cond.instanceMethod ({ cls := "PolygonBoard$PartScan", name := "visit", desc := "(IIII)V" } : Jvm.MethodName)) ∈ lw_all := lw_g (lw_at lw_m3 87 rfl) rfl
theorem q618 : (Jvm.Cond.code ({ cls := "PolygonBoard$PartScan", name := "visit", desc := "(IIII)V" } : Jvm.MethodName) prog_13_method_2_code (8 : Nat) (Option.none : Option Jvm.ClassFile.FieldType)) ∈ lw_all := lw_g (lw_at lw_m3 88 rfl) rfl
theorem q619 : (Jvm.Cond.methodLink "PolygonBoard$PartScan" (16 : Nat) ({ cls := "PolygonBoard$Scan", name := "visit", desc := "(IIII)V" } : Jvm.MethodName)) ∈ lw_all := lw_g (lw_at lw_m3 89 rfl) rfl
theorem q620 : (Jvm.Cond.superclass "PolygonBoard$PartScan" "PolygonBoard$Scan") ∈ lw_all := lw_g (lw_at lw_m3 90 rfl) rfl
theorem q621 : (Jvm.Cond.classLink "PolygonBoard$PartScan" (20 : Nat) "PolygonBoard$Rectangle") ∈ lw_all := lw_g (lw_at lw_m3 91 rfl) rfl
theorem q623 : (Jvm.Cond.methodLink "PolygonBoard$PartScan" (22 : Nat) ({ cls := "PolygonBoard$Rectangle", name := "<init>", desc := "(IIII)V" } : Jvm.MethodName)) ∈ lw_all := lw_g (lw_at lw_m3 93 rfl) rfl
theorem q628 : (Jvm.Cond.fieldLinkNest "PolygonBoard$PartScan" (81 : Nat) "PolygonBoard$Rectangle" "left" "I" "PolygonBoard") ∈ lw_tbl := lw_at lw_m3 98 rfl
theorem q630 : (Jvm.Cond.fieldLinkNest "PolygonBoard$PartScan" (78 : Nat) "PolygonBoard$Rectangle" "low" "I" "PolygonBoard") ∈ lw_tbl := lw_at lw_m3 100 rfl
theorem q632 : (Jvm.Cond.fieldLinkNest "PolygonBoard$PartScan" (84 : Nat) "PolygonBoard$Rectangle" "right" "I" "PolygonBoard") ∈ lw_tbl := lw_at lw_m3 102 rfl
theorem q634 : (Jvm.Cond.fieldLinkNest "PolygonBoard$PartScan" (90 : Nat) "PolygonBoard$Rectangle" "high" "I" "PolygonBoard") ∈ lw_tbl := lw_at lw_m3 104 rfl
theorem q636 : (Jvm.Cond.fieldLinkNest "PolygonBoard$PartScan" (52 : Nat) "PolygonBoard$Rectangle" "part" "LPolygonBoard$Rectangle;" "PolygonBoard") ∈ lw_tbl := lw_at lw_m3 106 rfl
theorem q648 : (Jvm.Cond.interfaceEntry "PolygonBoard$PartScan" (28 : Nat)) ∈ lw_tbl := lw_at lw_m3 118 rfl
theorem q649 : (Jvm.Cond.methodLink "PolygonBoard$PartScan" (28 : Nat) ({ cls := "java/util/List", name := "iterator", desc := "()Ljava/util/Iterator;" } : Jvm.MethodName)) ∈ lw_all := lw_g (lw_at lw_m3 119 rfl) rfl
theorem q650 : (Jvm.Cond.interfaceEntry "PolygonBoard$PartScan" (34 : Nat)) ∈ lw_tbl := lw_at lw_m3 120 rfl
theorem q651 : (Jvm.Cond.methodLink "PolygonBoard$PartScan" (34 : Nat) ({ cls := "java/util/Iterator", name := "hasNext", desc := "()Z" } : Jvm.MethodName)) ∈ lw_all := lw_g (lw_at lw_m3 121 rfl) rfl
theorem q652 : (Jvm.Cond.interfaceEntry "PolygonBoard$PartScan" (40 : Nat)) ∈ lw_tbl := lw_at lw_m3 122 rfl
theorem q653 : (Jvm.Cond.methodLink "PolygonBoard$PartScan" (40 : Nat) ({ cls := "java/util/Iterator", name := "next", desc := "()Ljava/lang/Object;" } : Jvm.MethodName)) ∈ lw_all := lw_g (lw_at lw_m3 123 rfl) rfl
theorem q654 : (Jvm.Cond.methodLink "PolygonBoard$PartScan" (44 : Nat) ({ cls := "PolygonBoard$Rectangle", name := "isUnder", desc := "(LPolygonBoard$Rectangle;)Z" } : Jvm.MethodName)) ∈ lw_all := lw_g (lw_at lw_m3 124 rfl) rfl
theorem q658 : (Jvm.Cond.methodLink "PolygonBoard$PartScan" (48 : Nat) ({ cls := "PolygonBoard$Rectangle", name := "root", desc := "()LPolygonBoard$Rectangle;" } : Jvm.MethodName)) ∈ lw_all := lw_g (lw_at lw_m3 128 rfl) rfl
theorem q662 : (Jvm.Cond.interfaceEntry "PolygonBoard$PartScan" (56 : Nat)) ∈ lw_tbl := lw_at lw_m3 132 rfl
theorem q663 : (Jvm.Cond.methodLink "PolygonBoard$PartScan" (56 : Nat) ({ cls := "java/util/List", name := "add", desc := "(Ljava/lang/Object;)Z" } : Jvm.MethodName)) ∈ lw_all := lw_g (lw_at lw_m3 133 rfl) rfl
theorem q1055 : (Jvm.Cond.instantiable "PolygonBoard$PartScan" (3 : Nat)) ∈ lw_all := lw_g (lw_at lw_m5 45 rfl) rfl
theorem q1057 : (Jvm.Cond.instanceMethod ({ cls := "PolygonBoard$PartScan", name := "<init>", desc := "()V" } : Jvm.MethodName)) ∈ lw_all := lw_g (lw_at lw_m5 47 rfl) rfl
theorem q1058 : (Jvm.Cond.code ({ cls := "PolygonBoard$PartScan", name := "<init>", desc := "()V" } : Jvm.MethodName) prog_13_method_1_code (1 : Nat) (Option.none : Option Jvm.ClassFile.FieldType)) ∈ lw_all := lw_g (lw_at lw_m5 48 rfl) rfl
theorem q1059 : (Jvm.Cond.methodLinkNest "PolygonBoard$PartScan" (1 : Nat) ({ cls := "PolygonBoard$Scan", name := "<init>", desc := "()V" } : Jvm.MethodName) "PolygonBoard") ∈ lw_tbl := lw_at lw_m5 49 rfl
theorem q1060 : (Jvm.Cond.classLink "PolygonBoard$PartScan" (7 : Nat) "java/util/ArrayList") ∈ lw_all := lw_g (lw_at lw_m5 50 rfl) rfl
theorem q1061 : (Jvm.Cond.methodLink "PolygonBoard$PartScan" (9 : Nat) ({ cls := "java/util/ArrayList", name := "<init>", desc := "()V" } : Jvm.MethodName)) ∈ lw_all := lw_g (lw_at lw_m5 51 rfl) rfl
theorem q1062 : (Jvm.Cond.fieldLink "PolygonBoard$PartScan" (10 : Nat) "PolygonBoard$PartScan" "found" "Ljava/util/List;") ∈ lw_all := lw_g (lw_at lw_m5 52 rfl) rfl
theorem q1063 : (Jvm.Cond.fieldLink "PolygonBoard$PartScan" (24 : Nat) "PolygonBoard$PartScan" "parts" "I") ∈ lw_all := lw_g (lw_at lw_m5 53 rfl) rfl
theorem q1065 : (Jvm.Cond.laysFinal "PolygonBoard$PartScan" "PolygonBoard$PartScan" "found" "Ljava/util/List;") ∈ lw_all := lw_g (lw_at lw_m5 55 rfl) rfl
theorem q1066 : (Jvm.Cond.soleField "PolygonBoard$PartScan" "found") ∈ lw_all := lw_g (lw_at lw_m5 56 rfl) rfl
theorem q1067 : (Jvm.Cond.lays "PolygonBoard$PartScan" "PolygonBoard$PartScan" "parts" "I") ∈ lw_all := lw_g (lw_at lw_m5 57 rfl) rfl
theorem q1068 : (Jvm.Cond.soleField "PolygonBoard$PartScan" "parts") ∈ lw_all := lw_g (lw_at lw_m5 58 rfl) rfl
theorem q1069 : (Jvm.Cond.lays "PolygonBoard$PartScan" "PolygonBoard$Scan" "rectangles" "I") ∈ lw_all := lw_g (lw_at lw_m5 59 rfl) rfl
theorem q1071 : (Jvm.Cond.sameMethod "PolygonBoard$PartScan" "PolygonBoard$Scan" "scan" "(LPolygonBoard$Region;)V") ∈ lw_all := lw_g (lw_at lw_m5 61 rfl) rfl
theorem q1072 : (Jvm.Cond.selects "PolygonBoard$PartScan" ({ cls := "PolygonBoard$PartScan", name := "scan", desc := "(LPolygonBoard$Region;)V" } : Jvm.MethodName) ({ cls := "PolygonBoard$Scan", name := "scan", desc := "(LPolygonBoard$Region;)V" } : Jvm.MethodName)) ∈ lw_all := lw_g (lw_at lw_m5 62 rfl) rfl
theorem q1074 : (Jvm.Cond.instanceMethod ({ cls := "PolygonBoard$PartScan", name := "partAt", desc := "(II)LPolygonBoard$Rectangle;" } : Jvm.MethodName)) ∈ lw_all := lw_g (lw_at lw_m5 64 rfl) rfl
theorem q1075 : (Jvm.Cond.selects "PolygonBoard$PartScan" ({ cls := "PolygonBoard$PartScan", name := "partAt", desc := "(II)LPolygonBoard$Rectangle;" } : Jvm.MethodName) ({ cls := "PolygonBoard$PartScan", name := "partAt", desc := "(II)LPolygonBoard$Rectangle;" } : Jvm.MethodName)) ∈ lw_all := lw_g (lw_at lw_m5 65 rfl) rfl
theorem q1076 : (Jvm.Cond.code ({ cls := "PolygonBoard$PartScan", name := "partAt", desc := "(II)LPolygonBoard$Rectangle;" } : Jvm.MethodName) prog_13_method_3_code (6 : Nat) (Option.some (Jvm.ClassFile.FieldType.object "PolygonBoard$Rectangle"))) ∈ lw_all := lw_g (lw_at lw_m5 66 rfl) rfl
theorem q1077 : (Jvm.Cond.methodLink "PolygonBoard$PartScan" (60 : Nat) ({ cls := "PolygonBoard$Rectangle", name := "contains", desc := "(II)Z" } : Jvm.MethodName)) ∈ lw_all := lw_g (lw_at lw_m5 67 rfl) rfl
theorem q1088 : (Jvm.Cond.instanceMethod ({ cls := "PolygonBoard$PartScan", name := "regionOf", desc := "(LPolygonBoard$Rectangle;)LPolygonBoard$Region;" } : Jvm.MethodName)) ∈ lw_all := lw_g (lw_at lw_m5 78 rfl) rfl
theorem q1089 : (Jvm.Cond.selects "PolygonBoard$PartScan" ({ cls := "PolygonBoard$PartScan", name := "regionOf", desc := "(LPolygonBoard$Rectangle;)LPolygonBoard$Region;" } : Jvm.MethodName) ({ cls := "PolygonBoard$PartScan", name := "regionOf", desc := "(LPolygonBoard$Rectangle;)LPolygonBoard$Region;" } : Jvm.MethodName)) ∈ lw_all := lw_g (lw_at lw_m5 79 rfl) rfl
theorem q1090 : (Jvm.Cond.code ({ cls := "PolygonBoard$PartScan", name := "regionOf", desc := "(LPolygonBoard$Rectangle;)LPolygonBoard$Region;" } : Jvm.MethodName) prog_13_method_4_code (7 : Nat) (Option.some (Jvm.ClassFile.FieldType.object "PolygonBoard$Region"))) ∈ lw_all := lw_g (lw_at lw_m5 80 rfl) rfl
theorem q1091 : (Jvm.Cond.classLink "PolygonBoard$PartScan" (64 : Nat) "PolygonBoard$Region") ∈ lw_all := lw_g (lw_at lw_m5 81 rfl) rfl
theorem q1092 : (Jvm.Cond.methodLinkNest "PolygonBoard$PartScan" (66 : Nat) ({ cls := "PolygonBoard$Region", name := "<init>", desc := "()V" } : Jvm.MethodName) "PolygonBoard") ∈ lw_tbl := lw_at lw_m5 82 rfl
theorem q1093 : (Jvm.Cond.interfaceEntry "PolygonBoard$PartScan" (67 : Nat)) ∈ lw_tbl := lw_at lw_m5 83 rfl
theorem q1094 : (Jvm.Cond.methodLink "PolygonBoard$PartScan" (67 : Nat) ({ cls := "java/util/List", name := "size", desc := "()I" } : Jvm.MethodName)) ∈ lw_all := lw_g (lw_at lw_m5 84 rfl) rfl
theorem q1095 : (Jvm.Cond.interfaceEntry "PolygonBoard$PartScan" (71 : Nat)) ∈ lw_tbl := lw_at lw_m5 85 rfl
theorem q1096 : (Jvm.Cond.methodLink "PolygonBoard$PartScan" (71 : Nat) ({ cls := "java/util/List", name := "get", desc := "(I)Ljava/lang/Object;" } : Jvm.MethodName)) ∈ lw_all := lw_g (lw_at lw_m5 86 rfl) rfl
theorem q1097 : (Jvm.Cond.classLink "PolygonBoard$PartScan" (75 : Nat) "PolygonBoard$Spans") ∈ lw_all := lw_g (lw_at lw_m5 87 rfl) rfl
theorem q1098 : (Jvm.Cond.methodLinkNest "PolygonBoard$PartScan" (77 : Nat) ({ cls := "PolygonBoard$Spans", name := "<init>", desc := "()V" } : Jvm.MethodName) "PolygonBoard") ∈ lw_tbl := lw_at lw_m5 88 rfl
theorem q1099 : (Jvm.Cond.methodLink "PolygonBoard$PartScan" (87 : Nat) ({ cls := "PolygonBoard$Spans", name := "add", desc := "(II)V" } : Jvm.MethodName)) ∈ lw_all := lw_g (lw_at lw_m5 89 rfl) rfl
theorem q1100 : (Jvm.Cond.methodLink "PolygonBoard$PartScan" (93 : Nat) ({ cls := "PolygonBoard$Region", name := "add", desc := "(IILPolygonBoard$Spans;)V" } : Jvm.MethodName)) ∈ lw_all := lw_g (lw_at lw_m5 90 rfl) rfl
theorem q2124 : (Jvm.Cond.selects "PolygonBoard$PartScan" ({ cls := "PolygonBoard$Scan", name := "scan", desc := "(LPolygonBoard$Region;)V" } : Jvm.MethodName) ({ cls := "PolygonBoard$Scan", name := "scan", desc := "(LPolygonBoard$Region;)V" } : Jvm.MethodName)) ∈ lw_all := lw_g (lw_at lw_m9 154 rfl) rfl
theorem q2147 : (Jvm.Cond.castable "PolygonBoard$PartScan" "java/lang/Object") ∈ lw_tbl := lw_at lw_m9 177 rfl
theorem in_X13 : ∀ w ∈ wsX130, w ∈ lw_all := lw_in wsX130 [1069, 1065, 1067] (by decide +kernel) (by decide +kernel)
/-! PolygonBoard$Tracer -/
set_option maxRecDepth 100000
def RX14 : String := "PolygonBoard$Tracer"
def TX14 : u_T := fun k => match k with
  | 0 => ("PolygonBoard$Tracer", "cells", "LPolygonBoard$Cells;", true)
  | 1 => ("PolygonBoard$Tracer", "isUsed", "[Z", true)
  | _ => ("PolygonBoard$Tracer", "outlines", "Ljava/util/List;", true)
def tyX14 : Nat → FieldType := fun k => match k with
  | 0 => .object "PolygonBoard$Cells"
  | 1 => .array .boolean
  | _ => .object "java/util/List"
abbrev wsX140 : List Cond := u_ws RX14 TX14 3
theorem nmX14 : ∀ a, a < 3 → ∀ b, b < 3 → a ≠ b → (TX14 a).2.1 ≠ (TX14 b).2.1 := by decide +kernel
theorem tyX14_ok : ∀ k, k < 3 → parseFieldDescriptor (TX14 k).2.2.1 = some (tyX14 k) := by decide +kernel
abbrev cX14_init : ByteArray := prog_20_method_1_code
def yX14_init : MethodName := ⟨RX14, "<init>", "(LPolygonBoard$Region;)V"⟩
def dkwX14_init_4 : List UInt8 := [185, 0, 40, 2, 0, 87, 132, 2, 1, 167, 255, 189, 177]
abbrev dktX14_init_4 : List UInt8 := dkwX14_init_4 ++ []
def dkwX14_init_3 : List UInt8 := [182, 0, 32, 153, 0, 23, 42, 180, 0, 18, 42, 29, 21, 4, 28, 7, 112, 182, 0, 36]
abbrev dktX14_init_3 : List UInt8 := dkwX14_init_3 ++ dktX14_init_4
def dkwX14_init_2 : List UInt8 := [28, 7, 108, 16, 25, 108, 54, 4, 42, 180, 0, 9, 28, 51, 154, 0, 36, 42, 29, 21, 4, 28, 7, 112]
abbrev dktX14_init_2 : List UInt8 := dkwX14_init_2 ++ dktX14_init_3
def dkwX14_init_1 : List UInt8 := [42, 43, 184, 0, 22, 181, 0, 28, 3, 61, 28, 17, 9, 196, 162, 0, 66, 28, 7, 108, 16, 25, 112, 62]
abbrev dktX14_init_1 : List UInt8 := dkwX14_init_1 ++ dktX14_init_2
def dkwX14_init_0 : List UInt8 := [42, 183, 0, 3, 42, 17, 9, 196, 188, 4, 181, 0, 9, 42, 187, 0, 15, 89, 183, 0, 17, 181, 0, 18]
abbrev dktX14_init_0 : List UInt8 := dkwX14_init_0 ++ dktX14_init_1
theorem dksX14_init_0 : cX14_init.data.toList.drop 0 = dktX14_init_0 := by decide +kernel
theorem dksX14_init_1 : cX14_init.data.toList.drop 24 = dktX14_init_1 := dk_seg dksX14_init_0 24 rfl rfl
theorem dksX14_init_2 : cX14_init.data.toList.drop 48 = dktX14_init_2 := dk_seg dksX14_init_1 24 rfl rfl
theorem dksX14_init_3 : cX14_init.data.toList.drop 72 = dktX14_init_3 := dk_seg dksX14_init_2 24 rfl rfl
theorem dksX14_init_4 : cX14_init.data.toList.drop 92 = dktX14_init_4 := dk_seg dksX14_init_3 20 rfl rfl
theorem dX14_init_0 : decode cX14_init 0 = .ok (.aload_n 0, 1) := dk_42 (dk_at dksX14_init_0 0 rfl rfl)
theorem dX14_init_1 : decode cX14_init 1 = .ok (.invokespecial 3, 3) := dk_183 0 3 (dk_at dksX14_init_0 1 rfl rfl)
theorem dX14_init_4 : decode cX14_init 4 = .ok (.aload_n 0, 1) := dk_42 (dk_at dksX14_init_0 4 rfl rfl)
theorem dX14_init_5 : decode cX14_init 5 = .ok (.sipush 2500, 3) := dk_17 9 196 (dk_at dksX14_init_0 5 rfl rfl)
theorem dX14_init_8 : decode cX14_init 8 = .ok (.newarray .boolean, 2) := dk_188_4 (dk_at dksX14_init_0 8 rfl rfl)
theorem dX14_init_10 : decode cX14_init 10 = .ok (.putfield 9, 3) := dk_181 0 9 (dk_at dksX14_init_0 10 rfl rfl)
theorem dX14_init_13 : decode cX14_init 13 = .ok (.aload_n 0, 1) := dk_42 (dk_at dksX14_init_0 13 rfl rfl)
theorem dX14_init_14 : decode cX14_init 14 = .ok (.new 15, 3) := dk_187 0 15 (dk_at dksX14_init_0 14 rfl rfl)
theorem dX14_init_17 : decode cX14_init 17 = .ok (.dup, 1) := dk_89 (dk_at dksX14_init_0 17 rfl rfl)
theorem dX14_init_18 : decode cX14_init 18 = .ok (.invokespecial 17, 3) := dk_183 0 17 (dk_at dksX14_init_0 18 rfl rfl)
theorem dX14_init_21 : decode cX14_init 21 = .ok (.putfield 18, 3) := dk_181 0 18 (dk_at dksX14_init_0 21 rfl rfl)
theorem dX14_init_24 : decode cX14_init 24 = .ok (.aload_n 0, 1) := dk_42 (dk_at dksX14_init_1 0 rfl rfl)
theorem dX14_init_25 : decode cX14_init 25 = .ok (.aload_n 1, 1) := dk_43 (dk_at dksX14_init_1 1 rfl rfl)
theorem dX14_init_26 : decode cX14_init 26 = .ok (.invokestatic 22, 3) := dk_184 0 22 (dk_at dksX14_init_1 2 rfl rfl)
theorem dX14_init_29 : decode cX14_init 29 = .ok (.putfield 28, 3) := dk_181 0 28 (dk_at dksX14_init_1 5 rfl rfl)
theorem dX14_init_32 : decode cX14_init 32 = .ok (.iconst 0, 1) := dk_3 (dk_at dksX14_init_1 8 rfl rfl)
theorem dX14_init_33 : decode cX14_init 33 = .ok (.istore_n 2, 1) := dk_61 (dk_at dksX14_init_1 9 rfl rfl)
theorem dX14_init_34 : decode cX14_init 34 = .ok (.iload_n 2, 1) := dk_28 (dk_at dksX14_init_1 10 rfl rfl)
theorem dX14_init_35 : decode cX14_init 35 = .ok (.sipush 2500, 3) := dk_17 9 196 (dk_at dksX14_init_1 11 rfl rfl)
theorem dX14_init_38 : decode cX14_init 38 = .ok (.if_icmp .ge 66, 3) := dk_162 0 66 (dk_at dksX14_init_1 14 rfl rfl)
theorem dX14_init_41 : decode cX14_init 41 = .ok (.iload_n 2, 1) := dk_28 (dk_at dksX14_init_1 17 rfl rfl)
theorem dX14_init_42 : decode cX14_init 42 = .ok (.iconst 4, 1) := dk_7 (dk_at dksX14_init_1 18 rfl rfl)
theorem dX14_init_43 : decode cX14_init 43 = .ok (.idiv, 1) := dk_108 (dk_at dksX14_init_1 19 rfl rfl)
theorem dX14_init_44 : decode cX14_init 44 = .ok (.bipush 25, 2) := dk_16 25 (dk_at dksX14_init_1 20 rfl rfl)
theorem dX14_init_46 : decode cX14_init 46 = .ok (.irem, 1) := dk_112 (dk_at dksX14_init_1 22 rfl rfl)
theorem dX14_init_47 : decode cX14_init 47 = .ok (.istore_n 3, 1) := dk_62 (dk_at dksX14_init_1 23 rfl rfl)
theorem dX14_init_48 : decode cX14_init 48 = .ok (.iload_n 2, 1) := dk_28 (dk_at dksX14_init_2 0 rfl rfl)
theorem dX14_init_49 : decode cX14_init 49 = .ok (.iconst 4, 1) := dk_7 (dk_at dksX14_init_2 1 rfl rfl)
theorem dX14_init_50 : decode cX14_init 50 = .ok (.idiv, 1) := dk_108 (dk_at dksX14_init_2 2 rfl rfl)
theorem dX14_init_51 : decode cX14_init 51 = .ok (.bipush 25, 2) := dk_16 25 (dk_at dksX14_init_2 3 rfl rfl)
theorem dX14_init_53 : decode cX14_init 53 = .ok (.idiv, 1) := dk_108 (dk_at dksX14_init_2 5 rfl rfl)
theorem dX14_init_54 : decode cX14_init 54 = .ok (.istore 4, 2) := dk_54 4 (dk_at dksX14_init_2 6 rfl rfl)
theorem dX14_init_56 : decode cX14_init 56 = .ok (.aload_n 0, 1) := dk_42 (dk_at dksX14_init_2 8 rfl rfl)
theorem dX14_init_57 : decode cX14_init 57 = .ok (.getfield 9, 3) := dk_180 0 9 (dk_at dksX14_init_2 9 rfl rfl)
theorem dX14_init_60 : decode cX14_init 60 = .ok (.iload_n 2, 1) := dk_28 (dk_at dksX14_init_2 12 rfl rfl)
theorem dX14_init_61 : decode cX14_init 61 = .ok (.baload, 1) := dk_51 (dk_at dksX14_init_2 13 rfl rfl)
theorem dX14_init_62 : decode cX14_init 62 = .ok (.ifCond .ne 36, 3) := dk_154 0 36 (dk_at dksX14_init_2 14 rfl rfl)
theorem dX14_init_65 : decode cX14_init 65 = .ok (.aload_n 0, 1) := dk_42 (dk_at dksX14_init_2 17 rfl rfl)
theorem dX14_init_66 : decode cX14_init 66 = .ok (.iload_n 3, 1) := dk_29 (dk_at dksX14_init_2 18 rfl rfl)
theorem dX14_init_67 : decode cX14_init 67 = .ok (.iload 4, 2) := dk_21 4 (dk_at dksX14_init_2 19 rfl rfl)
theorem dX14_init_69 : decode cX14_init 69 = .ok (.iload_n 2, 1) := dk_28 (dk_at dksX14_init_2 21 rfl rfl)
theorem dX14_init_70 : decode cX14_init 70 = .ok (.iconst 4, 1) := dk_7 (dk_at dksX14_init_2 22 rfl rfl)
theorem dX14_init_71 : decode cX14_init 71 = .ok (.irem, 1) := dk_112 (dk_at dksX14_init_2 23 rfl rfl)
theorem dX14_init_72 : decode cX14_init 72 = .ok (.invokevirtual 32, 3) := dk_182 0 32 (dk_at dksX14_init_3 0 rfl rfl)
theorem dX14_init_75 : decode cX14_init 75 = .ok (.ifCond .eq 23, 3) := dk_153 0 23 (dk_at dksX14_init_3 3 rfl rfl)
theorem dX14_init_78 : decode cX14_init 78 = .ok (.aload_n 0, 1) := dk_42 (dk_at dksX14_init_3 6 rfl rfl)
theorem dX14_init_79 : decode cX14_init 79 = .ok (.getfield 18, 3) := dk_180 0 18 (dk_at dksX14_init_3 7 rfl rfl)
theorem dX14_init_82 : decode cX14_init 82 = .ok (.aload_n 0, 1) := dk_42 (dk_at dksX14_init_3 10 rfl rfl)
theorem dX14_init_83 : decode cX14_init 83 = .ok (.iload_n 3, 1) := dk_29 (dk_at dksX14_init_3 11 rfl rfl)
theorem dX14_init_84 : decode cX14_init 84 = .ok (.iload 4, 2) := dk_21 4 (dk_at dksX14_init_3 12 rfl rfl)
theorem dX14_init_86 : decode cX14_init 86 = .ok (.iload_n 2, 1) := dk_28 (dk_at dksX14_init_3 14 rfl rfl)
theorem dX14_init_87 : decode cX14_init 87 = .ok (.iconst 4, 1) := dk_7 (dk_at dksX14_init_3 15 rfl rfl)
theorem dX14_init_88 : decode cX14_init 88 = .ok (.irem, 1) := dk_112 (dk_at dksX14_init_3 16 rfl rfl)
theorem dX14_init_89 : decode cX14_init 89 = .ok (.invokevirtual 36, 3) := dk_182 0 36 (dk_at dksX14_init_3 17 rfl rfl)
theorem dX14_init_92 : decode cX14_init 92 = .ok (.invokeinterface 40 2, 5) := by decide +kernel
theorem dX14_init_97 : decode cX14_init 97 = .ok (.pop, 1) := dk_87 (dk_at dksX14_init_4 5 rfl rfl)
theorem dX14_init_98 : decode cX14_init 98 = .ok (.iinc 2 1, 3) := dk_132 2 1 (dk_at dksX14_init_4 6 rfl rfl)
theorem dX14_init_101 : decode cX14_init 101 = .ok (.goto (-67), 3) := dk_167 255 189 (dk_at dksX14_init_4 9 rfl rfl)
theorem dX14_init_104 : decode cX14_init 104 = .ok (.return_, 1) := dk_177 (dk_at dksX14_init_4 12 rfl rfl)
abbrev cX14_hasLine : ByteArray := prog_20_method_3_code
def yX14_hasLine : MethodName := ⟨RX14, "hasLine", "(III)Z"⟩
def dkwX14_hasLine_6 : List UInt8 := [167, 0, 22, 3, 167, 0, 18, 21, 7, 153, 0, 12, 21, 6, 154, 0, 7, 4, 167, 0, 4, 3, 172]
abbrev dktX14_hasLine_6 : List UInt8 := dkwX14_hasLine_6 ++ []
def dkwX14_hasLine_5 : List UInt8 := [21, 4, 154, 0, 7, 4, 167, 0, 40, 3, 167, 0, 36, 21, 6, 153, 0, 12, 21, 5, 154, 0, 7, 4]
abbrev dktX14_hasLine_5 : List UInt8 := dkwX14_hasLine_5 ++ dktX14_hasLine_6
def dkwX14_hasLine_4 : List UInt8 := [21, 4, 153, 0, 12, 21, 7, 154, 0, 7, 4, 167, 0, 58, 3, 167, 0, 54, 21, 5, 153, 0, 12]
abbrev dktX14_hasLine_4 : List UInt8 := dkwX14_hasLine_4 ++ dktX14_hasLine_5
def dkwX14_hasLine_3 : List UInt8 := [170, 0, 0, 0, 0, 0, 81, 0, 0, 0, 0, 0, 0, 0, 2, 0, 0, 0, 27, 0, 0, 0, 45, 0, 0, 0, 63]
abbrev dktX14_hasLine_3 : List UInt8 := dkwX14_hasLine_3 ++ dktX14_hasLine_4
def dkwX14_hasLine_2 : List UInt8 := [182, 0, 46, 54, 7, 29]
abbrev dktX14_hasLine_2 : List UInt8 := dkwX14_hasLine_2 ++ dktX14_hasLine_3
def dkwX14_hasLine_1 : List UInt8 := [42, 180, 0, 28, 27, 4, 100, 28, 4, 100, 182, 0, 46, 54, 6, 42, 180, 0, 28, 27, 28, 4, 100]
abbrev dktX14_hasLine_1 : List UInt8 := dkwX14_hasLine_1 ++ dktX14_hasLine_2
def dkwX14_hasLine_0 : List UInt8 := [42, 180, 0, 28, 27, 28, 182, 0, 46, 54, 4, 42, 180, 0, 28, 27, 4, 100, 28, 182, 0, 46, 54, 5]
abbrev dktX14_hasLine_0 : List UInt8 := dkwX14_hasLine_0 ++ dktX14_hasLine_1
theorem dksX14_hasLine_0 : cX14_hasLine.data.toList.drop 0 = dktX14_hasLine_0 := by decide +kernel
theorem dksX14_hasLine_1 : cX14_hasLine.data.toList.drop 24 = dktX14_hasLine_1 := dk_seg dksX14_hasLine_0 24 rfl rfl
theorem dksX14_hasLine_2 : cX14_hasLine.data.toList.drop 47 = dktX14_hasLine_2 := dk_seg dksX14_hasLine_1 23 rfl rfl
theorem dksX14_hasLine_3 : cX14_hasLine.data.toList.drop 53 = dktX14_hasLine_3 := dk_seg dksX14_hasLine_2 6 rfl rfl
theorem dksX14_hasLine_4 : cX14_hasLine.data.toList.drop 80 = dktX14_hasLine_4 := dk_seg dksX14_hasLine_3 27 rfl rfl
theorem dksX14_hasLine_5 : cX14_hasLine.data.toList.drop 103 = dktX14_hasLine_5 := dk_seg dksX14_hasLine_4 23 rfl rfl
theorem dksX14_hasLine_6 : cX14_hasLine.data.toList.drop 127 = dktX14_hasLine_6 := dk_seg dksX14_hasLine_5 24 rfl rfl
theorem dX14_hasLine_0 : decode cX14_hasLine 0 = .ok (.aload_n 0, 1) := dk_42 (dk_at dksX14_hasLine_0 0 rfl rfl)
theorem dX14_hasLine_1 : decode cX14_hasLine 1 = .ok (.getfield 28, 3) := dk_180 0 28 (dk_at dksX14_hasLine_0 1 rfl rfl)
theorem dX14_hasLine_4 : decode cX14_hasLine 4 = .ok (.iload_n 1, 1) := dk_27 (dk_at dksX14_hasLine_0 4 rfl rfl)
theorem dX14_hasLine_5 : decode cX14_hasLine 5 = .ok (.iload_n 2, 1) := dk_28 (dk_at dksX14_hasLine_0 5 rfl rfl)
theorem dX14_hasLine_6 : decode cX14_hasLine 6 = .ok (.invokevirtual 46, 3) := dk_182 0 46 (dk_at dksX14_hasLine_0 6 rfl rfl)
theorem dX14_hasLine_9 : decode cX14_hasLine 9 = .ok (.istore 4, 2) := dk_54 4 (dk_at dksX14_hasLine_0 9 rfl rfl)
theorem dX14_hasLine_11 : decode cX14_hasLine 11 = .ok (.aload_n 0, 1) := dk_42 (dk_at dksX14_hasLine_0 11 rfl rfl)
theorem dX14_hasLine_12 : decode cX14_hasLine 12 = .ok (.getfield 28, 3) := dk_180 0 28 (dk_at dksX14_hasLine_0 12 rfl rfl)
theorem dX14_hasLine_15 : decode cX14_hasLine 15 = .ok (.iload_n 1, 1) := dk_27 (dk_at dksX14_hasLine_0 15 rfl rfl)
theorem dX14_hasLine_16 : decode cX14_hasLine 16 = .ok (.iconst 1, 1) := dk_4 (dk_at dksX14_hasLine_0 16 rfl rfl)
theorem dX14_hasLine_17 : decode cX14_hasLine 17 = .ok (.isub, 1) := dk_100 (dk_at dksX14_hasLine_0 17 rfl rfl)
theorem dX14_hasLine_18 : decode cX14_hasLine 18 = .ok (.iload_n 2, 1) := dk_28 (dk_at dksX14_hasLine_0 18 rfl rfl)
theorem dX14_hasLine_19 : decode cX14_hasLine 19 = .ok (.invokevirtual 46, 3) := dk_182 0 46 (dk_at dksX14_hasLine_0 19 rfl rfl)
theorem dX14_hasLine_22 : decode cX14_hasLine 22 = .ok (.istore 5, 2) := dk_54 5 (dk_at dksX14_hasLine_0 22 rfl rfl)
theorem dX14_hasLine_24 : decode cX14_hasLine 24 = .ok (.aload_n 0, 1) := dk_42 (dk_at dksX14_hasLine_1 0 rfl rfl)
theorem dX14_hasLine_25 : decode cX14_hasLine 25 = .ok (.getfield 28, 3) := dk_180 0 28 (dk_at dksX14_hasLine_1 1 rfl rfl)
theorem dX14_hasLine_28 : decode cX14_hasLine 28 = .ok (.iload_n 1, 1) := dk_27 (dk_at dksX14_hasLine_1 4 rfl rfl)
theorem dX14_hasLine_29 : decode cX14_hasLine 29 = .ok (.iconst 1, 1) := dk_4 (dk_at dksX14_hasLine_1 5 rfl rfl)
theorem dX14_hasLine_30 : decode cX14_hasLine 30 = .ok (.isub, 1) := dk_100 (dk_at dksX14_hasLine_1 6 rfl rfl)
theorem dX14_hasLine_31 : decode cX14_hasLine 31 = .ok (.iload_n 2, 1) := dk_28 (dk_at dksX14_hasLine_1 7 rfl rfl)
theorem dX14_hasLine_32 : decode cX14_hasLine 32 = .ok (.iconst 1, 1) := dk_4 (dk_at dksX14_hasLine_1 8 rfl rfl)
theorem dX14_hasLine_33 : decode cX14_hasLine 33 = .ok (.isub, 1) := dk_100 (dk_at dksX14_hasLine_1 9 rfl rfl)
theorem dX14_hasLine_34 : decode cX14_hasLine 34 = .ok (.invokevirtual 46, 3) := dk_182 0 46 (dk_at dksX14_hasLine_1 10 rfl rfl)
theorem dX14_hasLine_37 : decode cX14_hasLine 37 = .ok (.istore 6, 2) := dk_54 6 (dk_at dksX14_hasLine_1 13 rfl rfl)
theorem dX14_hasLine_39 : decode cX14_hasLine 39 = .ok (.aload_n 0, 1) := dk_42 (dk_at dksX14_hasLine_1 15 rfl rfl)
theorem dX14_hasLine_40 : decode cX14_hasLine 40 = .ok (.getfield 28, 3) := dk_180 0 28 (dk_at dksX14_hasLine_1 16 rfl rfl)
theorem dX14_hasLine_43 : decode cX14_hasLine 43 = .ok (.iload_n 1, 1) := dk_27 (dk_at dksX14_hasLine_1 19 rfl rfl)
theorem dX14_hasLine_44 : decode cX14_hasLine 44 = .ok (.iload_n 2, 1) := dk_28 (dk_at dksX14_hasLine_1 20 rfl rfl)
theorem dX14_hasLine_45 : decode cX14_hasLine 45 = .ok (.iconst 1, 1) := dk_4 (dk_at dksX14_hasLine_1 21 rfl rfl)
theorem dX14_hasLine_46 : decode cX14_hasLine 46 = .ok (.isub, 1) := dk_100 (dk_at dksX14_hasLine_1 22 rfl rfl)
theorem dX14_hasLine_47 : decode cX14_hasLine 47 = .ok (.invokevirtual 46, 3) := dk_182 0 46 (dk_at dksX14_hasLine_2 0 rfl rfl)
theorem dX14_hasLine_50 : decode cX14_hasLine 50 = .ok (.istore 7, 2) := dk_54 7 (dk_at dksX14_hasLine_2 3 rfl rfl)
theorem dX14_hasLine_52 : decode cX14_hasLine 52 = .ok (.iload_n 3, 1) := dk_29 (dk_at dksX14_hasLine_2 5 rfl rfl)
theorem dX14_hasLine_53 : decode cX14_hasLine 53 = .ok (.tableswitch 81 0 2 #[27, 45, 63], 27) := by decide +kernel
theorem dX14_hasLine_80 : decode cX14_hasLine 80 = .ok (.iload 4, 2) := dk_21 4 (dk_at dksX14_hasLine_4 0 rfl rfl)
theorem dX14_hasLine_82 : decode cX14_hasLine 82 = .ok (.ifCond .eq 12, 3) := dk_153 0 12 (dk_at dksX14_hasLine_4 2 rfl rfl)
theorem dX14_hasLine_85 : decode cX14_hasLine 85 = .ok (.iload 7, 2) := dk_21 7 (dk_at dksX14_hasLine_4 5 rfl rfl)
theorem dX14_hasLine_87 : decode cX14_hasLine 87 = .ok (.ifCond .ne 7, 3) := dk_154 0 7 (dk_at dksX14_hasLine_4 7 rfl rfl)
theorem dX14_hasLine_90 : decode cX14_hasLine 90 = .ok (.iconst 1, 1) := dk_4 (dk_at dksX14_hasLine_4 10 rfl rfl)
theorem dX14_hasLine_91 : decode cX14_hasLine 91 = .ok (.goto 58, 3) := dk_167 0 58 (dk_at dksX14_hasLine_4 11 rfl rfl)
theorem dX14_hasLine_94 : decode cX14_hasLine 94 = .ok (.iconst 0, 1) := dk_3 (dk_at dksX14_hasLine_4 14 rfl rfl)
theorem dX14_hasLine_95 : decode cX14_hasLine 95 = .ok (.goto 54, 3) := dk_167 0 54 (dk_at dksX14_hasLine_4 15 rfl rfl)
theorem dX14_hasLine_98 : decode cX14_hasLine 98 = .ok (.iload 5, 2) := dk_21 5 (dk_at dksX14_hasLine_4 18 rfl rfl)
theorem dX14_hasLine_100 : decode cX14_hasLine 100 = .ok (.ifCond .eq 12, 3) := dk_153 0 12 (dk_at dksX14_hasLine_4 20 rfl rfl)
theorem dX14_hasLine_103 : decode cX14_hasLine 103 = .ok (.iload 4, 2) := dk_21 4 (dk_at dksX14_hasLine_5 0 rfl rfl)
theorem dX14_hasLine_105 : decode cX14_hasLine 105 = .ok (.ifCond .ne 7, 3) := dk_154 0 7 (dk_at dksX14_hasLine_5 2 rfl rfl)
theorem dX14_hasLine_108 : decode cX14_hasLine 108 = .ok (.iconst 1, 1) := dk_4 (dk_at dksX14_hasLine_5 5 rfl rfl)
theorem dX14_hasLine_109 : decode cX14_hasLine 109 = .ok (.goto 40, 3) := dk_167 0 40 (dk_at dksX14_hasLine_5 6 rfl rfl)
theorem dX14_hasLine_112 : decode cX14_hasLine 112 = .ok (.iconst 0, 1) := dk_3 (dk_at dksX14_hasLine_5 9 rfl rfl)
theorem dX14_hasLine_113 : decode cX14_hasLine 113 = .ok (.goto 36, 3) := dk_167 0 36 (dk_at dksX14_hasLine_5 10 rfl rfl)
theorem dX14_hasLine_116 : decode cX14_hasLine 116 = .ok (.iload 6, 2) := dk_21 6 (dk_at dksX14_hasLine_5 13 rfl rfl)
theorem dX14_hasLine_118 : decode cX14_hasLine 118 = .ok (.ifCond .eq 12, 3) := dk_153 0 12 (dk_at dksX14_hasLine_5 15 rfl rfl)
theorem dX14_hasLine_121 : decode cX14_hasLine 121 = .ok (.iload 5, 2) := dk_21 5 (dk_at dksX14_hasLine_5 18 rfl rfl)
theorem dX14_hasLine_123 : decode cX14_hasLine 123 = .ok (.ifCond .ne 7, 3) := dk_154 0 7 (dk_at dksX14_hasLine_5 20 rfl rfl)
theorem dX14_hasLine_126 : decode cX14_hasLine 126 = .ok (.iconst 1, 1) := dk_4 (dk_at dksX14_hasLine_5 23 rfl rfl)
theorem dX14_hasLine_127 : decode cX14_hasLine 127 = .ok (.goto 22, 3) := dk_167 0 22 (dk_at dksX14_hasLine_6 0 rfl rfl)
theorem dX14_hasLine_130 : decode cX14_hasLine 130 = .ok (.iconst 0, 1) := dk_3 (dk_at dksX14_hasLine_6 3 rfl rfl)
theorem dX14_hasLine_131 : decode cX14_hasLine 131 = .ok (.goto 18, 3) := dk_167 0 18 (dk_at dksX14_hasLine_6 4 rfl rfl)
theorem dX14_hasLine_134 : decode cX14_hasLine 134 = .ok (.iload 7, 2) := dk_21 7 (dk_at dksX14_hasLine_6 7 rfl rfl)
theorem dX14_hasLine_136 : decode cX14_hasLine 136 = .ok (.ifCond .eq 12, 3) := dk_153 0 12 (dk_at dksX14_hasLine_6 9 rfl rfl)
theorem dX14_hasLine_139 : decode cX14_hasLine 139 = .ok (.iload 6, 2) := dk_21 6 (dk_at dksX14_hasLine_6 12 rfl rfl)
theorem dX14_hasLine_141 : decode cX14_hasLine 141 = .ok (.ifCond .ne 7, 3) := dk_154 0 7 (dk_at dksX14_hasLine_6 14 rfl rfl)
theorem dX14_hasLine_144 : decode cX14_hasLine 144 = .ok (.iconst 1, 1) := dk_4 (dk_at dksX14_hasLine_6 17 rfl rfl)
theorem dX14_hasLine_145 : decode cX14_hasLine 145 = .ok (.goto 4, 3) := dk_167 0 4 (dk_at dksX14_hasLine_6 18 rfl rfl)
theorem dX14_hasLine_148 : decode cX14_hasLine 148 = .ok (.iconst 0, 1) := dk_3 (dk_at dksX14_hasLine_6 21 rfl rfl)
theorem dX14_hasLine_149 : decode cX14_hasLine 149 = .ok (.ireturn, 1) := dk_172 (dk_at dksX14_hasLine_6 22 rfl rfl)
abbrev cX14_trace : ByteArray := prog_20_method_7_code
def yX14_trace : MethodName := ⟨RX14, "trace", "(III)LPolygonBoard$Outline;"⟩
def dkwX14_trace_6 : List UInt8 := [182, 0, 53, 21, 8, 54, 7, 167, 255, 137, 25, 4, 176]
abbrev dktX14_trace_6 : List UInt8 := dkwX14_trace_6 ++ []
def dkwX14_trace_5 : List UInt8 := [180, 0, 9, 21, 5, 21, 6, 21, 8, 184, 0, 57, 51, 154, 0, 12, 25, 4, 21, 5, 21, 6]
abbrev dktX14_trace_5 : List UInt8 := dkwX14_trace_5 ++ dktX14_trace_6
def dkwX14_trace_4 : List UInt8 := [54, 6, 42, 21, 5, 21, 6, 21, 7, 182, 0, 72, 54, 8, 21, 8, 21, 7, 159, 0, 29, 42]
abbrev dktX14_trace_4 : List UInt8 := dkwX14_trace_4 ++ dktX14_trace_5
def dkwX14_trace_3 : List UInt8 := [104, 96, 181, 0, 61, 21, 5, 21, 7, 184, 0, 69, 96, 54, 5, 21, 6, 21, 7, 184, 0, 65, 96]
abbrev dktX14_trace_3 : List UInt8 := dkwX14_trace_3 ++ dktX14_trace_4
def dkwX14_trace_2 : List UInt8 := [21, 5, 21, 6, 21, 7, 184, 0, 57, 4, 84, 25, 4, 89, 180, 0, 61, 21, 5, 21, 7, 184, 0, 65]
abbrev dktX14_trace_2 : List UInt8 := dkwX14_trace_2 ++ dktX14_trace_3
def dkwX14_trace_1 : List UInt8 := [182, 0, 53, 42, 180, 0, 9, 21, 5, 21, 6, 21, 7, 184, 0, 57, 51, 154, 0, 108, 42, 180, 0, 9]
abbrev dktX14_trace_1 : List UInt8 := dkwX14_trace_1 ++ dktX14_trace_2
def dkwX14_trace_0 : List UInt8 := [187, 0, 50, 89, 183, 0, 52, 58, 4, 27, 54, 5, 28, 54, 6, 29, 54, 7, 25, 4, 21, 5, 21, 6]
abbrev dktX14_trace_0 : List UInt8 := dkwX14_trace_0 ++ dktX14_trace_1
theorem dksX14_trace_0 : cX14_trace.data.toList.drop 0 = dktX14_trace_0 := by decide +kernel
theorem dksX14_trace_1 : cX14_trace.data.toList.drop 24 = dktX14_trace_1 := dk_seg dksX14_trace_0 24 rfl rfl
theorem dksX14_trace_2 : cX14_trace.data.toList.drop 48 = dktX14_trace_2 := dk_seg dksX14_trace_1 24 rfl rfl
theorem dksX14_trace_3 : cX14_trace.data.toList.drop 72 = dktX14_trace_3 := dk_seg dksX14_trace_2 24 rfl rfl
theorem dksX14_trace_4 : cX14_trace.data.toList.drop 95 = dktX14_trace_4 := dk_seg dksX14_trace_3 23 rfl rfl
theorem dksX14_trace_5 : cX14_trace.data.toList.drop 117 = dktX14_trace_5 := dk_seg dksX14_trace_4 22 rfl rfl
theorem dksX14_trace_6 : cX14_trace.data.toList.drop 139 = dktX14_trace_6 := dk_seg dksX14_trace_5 22 rfl rfl
theorem dX14_trace_0 : decode cX14_trace 0 = .ok (.new 50, 3) := dk_187 0 50 (dk_at dksX14_trace_0 0 rfl rfl)
theorem dX14_trace_3 : decode cX14_trace 3 = .ok (.dup, 1) := dk_89 (dk_at dksX14_trace_0 3 rfl rfl)
theorem dX14_trace_4 : decode cX14_trace 4 = .ok (.invokespecial 52, 3) := dk_183 0 52 (dk_at dksX14_trace_0 4 rfl rfl)
theorem dX14_trace_7 : decode cX14_trace 7 = .ok (.astore 4, 2) := dk_58 4 (dk_at dksX14_trace_0 7 rfl rfl)
theorem dX14_trace_9 : decode cX14_trace 9 = .ok (.iload_n 1, 1) := dk_27 (dk_at dksX14_trace_0 9 rfl rfl)
theorem dX14_trace_10 : decode cX14_trace 10 = .ok (.istore 5, 2) := dk_54 5 (dk_at dksX14_trace_0 10 rfl rfl)
theorem dX14_trace_12 : decode cX14_trace 12 = .ok (.iload_n 2, 1) := dk_28 (dk_at dksX14_trace_0 12 rfl rfl)
theorem dX14_trace_13 : decode cX14_trace 13 = .ok (.istore 6, 2) := dk_54 6 (dk_at dksX14_trace_0 13 rfl rfl)
theorem dX14_trace_15 : decode cX14_trace 15 = .ok (.iload_n 3, 1) := dk_29 (dk_at dksX14_trace_0 15 rfl rfl)
theorem dX14_trace_16 : decode cX14_trace 16 = .ok (.istore 7, 2) := dk_54 7 (dk_at dksX14_trace_0 16 rfl rfl)
theorem dX14_trace_18 : decode cX14_trace 18 = .ok (.aload 4, 2) := dk_25 4 (dk_at dksX14_trace_0 18 rfl rfl)
theorem dX14_trace_20 : decode cX14_trace 20 = .ok (.iload 5, 2) := dk_21 5 (dk_at dksX14_trace_0 20 rfl rfl)
theorem dX14_trace_22 : decode cX14_trace 22 = .ok (.iload 6, 2) := dk_21 6 (dk_at dksX14_trace_0 22 rfl rfl)
theorem dX14_trace_24 : decode cX14_trace 24 = .ok (.invokevirtual 53, 3) := dk_182 0 53 (dk_at dksX14_trace_1 0 rfl rfl)
theorem dX14_trace_27 : decode cX14_trace 27 = .ok (.aload_n 0, 1) := dk_42 (dk_at dksX14_trace_1 3 rfl rfl)
theorem dX14_trace_28 : decode cX14_trace 28 = .ok (.getfield 9, 3) := dk_180 0 9 (dk_at dksX14_trace_1 4 rfl rfl)
theorem dX14_trace_31 : decode cX14_trace 31 = .ok (.iload 5, 2) := dk_21 5 (dk_at dksX14_trace_1 7 rfl rfl)
theorem dX14_trace_33 : decode cX14_trace 33 = .ok (.iload 6, 2) := dk_21 6 (dk_at dksX14_trace_1 9 rfl rfl)
theorem dX14_trace_35 : decode cX14_trace 35 = .ok (.iload 7, 2) := dk_21 7 (dk_at dksX14_trace_1 11 rfl rfl)
theorem dX14_trace_37 : decode cX14_trace 37 = .ok (.invokestatic 57, 3) := dk_184 0 57 (dk_at dksX14_trace_1 13 rfl rfl)
theorem dX14_trace_40 : decode cX14_trace 40 = .ok (.baload, 1) := dk_51 (dk_at dksX14_trace_1 16 rfl rfl)
theorem dX14_trace_41 : decode cX14_trace 41 = .ok (.ifCond .ne 108, 3) := dk_154 0 108 (dk_at dksX14_trace_1 17 rfl rfl)
theorem dX14_trace_44 : decode cX14_trace 44 = .ok (.aload_n 0, 1) := dk_42 (dk_at dksX14_trace_1 20 rfl rfl)
theorem dX14_trace_45 : decode cX14_trace 45 = .ok (.getfield 9, 3) := dk_180 0 9 (dk_at dksX14_trace_1 21 rfl rfl)
theorem dX14_trace_48 : decode cX14_trace 48 = .ok (.iload 5, 2) := dk_21 5 (dk_at dksX14_trace_2 0 rfl rfl)
theorem dX14_trace_50 : decode cX14_trace 50 = .ok (.iload 6, 2) := dk_21 6 (dk_at dksX14_trace_2 2 rfl rfl)
theorem dX14_trace_52 : decode cX14_trace 52 = .ok (.iload 7, 2) := dk_21 7 (dk_at dksX14_trace_2 4 rfl rfl)
theorem dX14_trace_54 : decode cX14_trace 54 = .ok (.invokestatic 57, 3) := dk_184 0 57 (dk_at dksX14_trace_2 6 rfl rfl)
theorem dX14_trace_57 : decode cX14_trace 57 = .ok (.iconst 1, 1) := dk_4 (dk_at dksX14_trace_2 9 rfl rfl)
theorem dX14_trace_58 : decode cX14_trace 58 = .ok (.bastore, 1) := dk_84 (dk_at dksX14_trace_2 10 rfl rfl)
theorem dX14_trace_59 : decode cX14_trace 59 = .ok (.aload 4, 2) := dk_25 4 (dk_at dksX14_trace_2 11 rfl rfl)
theorem dX14_trace_61 : decode cX14_trace 61 = .ok (.dup, 1) := dk_89 (dk_at dksX14_trace_2 13 rfl rfl)
theorem dX14_trace_62 : decode cX14_trace 62 = .ok (.getfield 61, 3) := dk_180 0 61 (dk_at dksX14_trace_2 14 rfl rfl)
theorem dX14_trace_65 : decode cX14_trace 65 = .ok (.iload 5, 2) := dk_21 5 (dk_at dksX14_trace_2 17 rfl rfl)
theorem dX14_trace_67 : decode cX14_trace 67 = .ok (.iload 7, 2) := dk_21 7 (dk_at dksX14_trace_2 19 rfl rfl)
theorem dX14_trace_69 : decode cX14_trace 69 = .ok (.invokestatic 65, 3) := dk_184 0 65 (dk_at dksX14_trace_2 21 rfl rfl)
theorem dX14_trace_72 : decode cX14_trace 72 = .ok (.imul, 1) := dk_104 (dk_at dksX14_trace_3 0 rfl rfl)
theorem dX14_trace_73 : decode cX14_trace 73 = .ok (.iadd, 1) := dk_96 (dk_at dksX14_trace_3 1 rfl rfl)
theorem dX14_trace_74 : decode cX14_trace 74 = .ok (.putfield 61, 3) := dk_181 0 61 (dk_at dksX14_trace_3 2 rfl rfl)
theorem dX14_trace_77 : decode cX14_trace 77 = .ok (.iload 5, 2) := dk_21 5 (dk_at dksX14_trace_3 5 rfl rfl)
theorem dX14_trace_79 : decode cX14_trace 79 = .ok (.iload 7, 2) := dk_21 7 (dk_at dksX14_trace_3 7 rfl rfl)
theorem dX14_trace_81 : decode cX14_trace 81 = .ok (.invokestatic 69, 3) := dk_184 0 69 (dk_at dksX14_trace_3 9 rfl rfl)
theorem dX14_trace_84 : decode cX14_trace 84 = .ok (.iadd, 1) := dk_96 (dk_at dksX14_trace_3 12 rfl rfl)
theorem dX14_trace_85 : decode cX14_trace 85 = .ok (.istore 5, 2) := dk_54 5 (dk_at dksX14_trace_3 13 rfl rfl)
theorem dX14_trace_87 : decode cX14_trace 87 = .ok (.iload 6, 2) := dk_21 6 (dk_at dksX14_trace_3 15 rfl rfl)
theorem dX14_trace_89 : decode cX14_trace 89 = .ok (.iload 7, 2) := dk_21 7 (dk_at dksX14_trace_3 17 rfl rfl)
theorem dX14_trace_91 : decode cX14_trace 91 = .ok (.invokestatic 65, 3) := dk_184 0 65 (dk_at dksX14_trace_3 19 rfl rfl)
theorem dX14_trace_94 : decode cX14_trace 94 = .ok (.iadd, 1) := dk_96 (dk_at dksX14_trace_3 22 rfl rfl)
theorem dX14_trace_95 : decode cX14_trace 95 = .ok (.istore 6, 2) := dk_54 6 (dk_at dksX14_trace_4 0 rfl rfl)
theorem dX14_trace_97 : decode cX14_trace 97 = .ok (.aload_n 0, 1) := dk_42 (dk_at dksX14_trace_4 2 rfl rfl)
theorem dX14_trace_98 : decode cX14_trace 98 = .ok (.iload 5, 2) := dk_21 5 (dk_at dksX14_trace_4 3 rfl rfl)
theorem dX14_trace_100 : decode cX14_trace 100 = .ok (.iload 6, 2) := dk_21 6 (dk_at dksX14_trace_4 5 rfl rfl)
theorem dX14_trace_102 : decode cX14_trace 102 = .ok (.iload 7, 2) := dk_21 7 (dk_at dksX14_trace_4 7 rfl rfl)
theorem dX14_trace_104 : decode cX14_trace 104 = .ok (.invokevirtual 72, 3) := dk_182 0 72 (dk_at dksX14_trace_4 9 rfl rfl)
theorem dX14_trace_107 : decode cX14_trace 107 = .ok (.istore 8, 2) := dk_54 8 (dk_at dksX14_trace_4 12 rfl rfl)
theorem dX14_trace_109 : decode cX14_trace 109 = .ok (.iload 8, 2) := dk_21 8 (dk_at dksX14_trace_4 14 rfl rfl)
theorem dX14_trace_111 : decode cX14_trace 111 = .ok (.iload 7, 2) := dk_21 7 (dk_at dksX14_trace_4 16 rfl rfl)
theorem dX14_trace_113 : decode cX14_trace 113 = .ok (.if_icmp .eq 29, 3) := dk_159 0 29 (dk_at dksX14_trace_4 18 rfl rfl)
theorem dX14_trace_116 : decode cX14_trace 116 = .ok (.aload_n 0, 1) := dk_42 (dk_at dksX14_trace_4 21 rfl rfl)
theorem dX14_trace_117 : decode cX14_trace 117 = .ok (.getfield 9, 3) := dk_180 0 9 (dk_at dksX14_trace_5 0 rfl rfl)
theorem dX14_trace_120 : decode cX14_trace 120 = .ok (.iload 5, 2) := dk_21 5 (dk_at dksX14_trace_5 3 rfl rfl)
theorem dX14_trace_122 : decode cX14_trace 122 = .ok (.iload 6, 2) := dk_21 6 (dk_at dksX14_trace_5 5 rfl rfl)
theorem dX14_trace_124 : decode cX14_trace 124 = .ok (.iload 8, 2) := dk_21 8 (dk_at dksX14_trace_5 7 rfl rfl)
theorem dX14_trace_126 : decode cX14_trace 126 = .ok (.invokestatic 57, 3) := dk_184 0 57 (dk_at dksX14_trace_5 9 rfl rfl)
theorem dX14_trace_129 : decode cX14_trace 129 = .ok (.baload, 1) := dk_51 (dk_at dksX14_trace_5 12 rfl rfl)
theorem dX14_trace_130 : decode cX14_trace 130 = .ok (.ifCond .ne 12, 3) := dk_154 0 12 (dk_at dksX14_trace_5 13 rfl rfl)
theorem dX14_trace_133 : decode cX14_trace 133 = .ok (.aload 4, 2) := dk_25 4 (dk_at dksX14_trace_5 16 rfl rfl)
theorem dX14_trace_135 : decode cX14_trace 135 = .ok (.iload 5, 2) := dk_21 5 (dk_at dksX14_trace_5 18 rfl rfl)
theorem dX14_trace_137 : decode cX14_trace 137 = .ok (.iload 6, 2) := dk_21 6 (dk_at dksX14_trace_5 20 rfl rfl)
theorem dX14_trace_139 : decode cX14_trace 139 = .ok (.invokevirtual 53, 3) := dk_182 0 53 (dk_at dksX14_trace_6 0 rfl rfl)
theorem dX14_trace_142 : decode cX14_trace 142 = .ok (.iload 8, 2) := dk_21 8 (dk_at dksX14_trace_6 3 rfl rfl)
theorem dX14_trace_144 : decode cX14_trace 144 = .ok (.istore 7, 2) := dk_54 7 (dk_at dksX14_trace_6 5 rfl rfl)
theorem dX14_trace_146 : decode cX14_trace 146 = .ok (.goto (-119), 3) := dk_167 255 137 (dk_at dksX14_trace_6 7 rfl rfl)
theorem dX14_trace_149 : decode cX14_trace 149 = .ok (.aload 4, 2) := dk_25 4 (dk_at dksX14_trace_6 10 rfl rfl)
theorem dX14_trace_151 : decode cX14_trace 151 = .ok (.areturn, 1) := dk_176 (dk_at dksX14_trace_6 12 rfl rfl)
abbrev cX14_indexOf : ByteArray := prog_20_method_2_code
def yX14_indexOf : MethodName := ⟨RX14, "indexOf", "(III)I"⟩
def dkwX14_indexOf_0 : List UInt8 := [16, 25, 27, 104, 26, 96, 7, 104, 28, 96, 172]
abbrev dktX14_indexOf_0 : List UInt8 := dkwX14_indexOf_0 ++ []
theorem dksX14_indexOf_0 : cX14_indexOf.data.toList.drop 0 = dktX14_indexOf_0 := by decide +kernel
theorem dX14_indexOf_0 : decode cX14_indexOf 0 = .ok (.bipush 25, 2) := dk_16 25 (dk_at dksX14_indexOf_0 0 rfl rfl)
theorem dX14_indexOf_2 : decode cX14_indexOf 2 = .ok (.iload_n 1, 1) := dk_27 (dk_at dksX14_indexOf_0 2 rfl rfl)
theorem dX14_indexOf_3 : decode cX14_indexOf 3 = .ok (.imul, 1) := dk_104 (dk_at dksX14_indexOf_0 3 rfl rfl)
theorem dX14_indexOf_4 : decode cX14_indexOf 4 = .ok (.iload_n 0, 1) := dk_26 (dk_at dksX14_indexOf_0 4 rfl rfl)
theorem dX14_indexOf_5 : decode cX14_indexOf 5 = .ok (.iadd, 1) := dk_96 (dk_at dksX14_indexOf_0 5 rfl rfl)
theorem dX14_indexOf_6 : decode cX14_indexOf 6 = .ok (.iconst 4, 1) := dk_7 (dk_at dksX14_indexOf_0 6 rfl rfl)
theorem dX14_indexOf_7 : decode cX14_indexOf 7 = .ok (.imul, 1) := dk_104 (dk_at dksX14_indexOf_0 7 rfl rfl)
theorem dX14_indexOf_8 : decode cX14_indexOf 8 = .ok (.iload_n 2, 1) := dk_28 (dk_at dksX14_indexOf_0 8 rfl rfl)
theorem dX14_indexOf_9 : decode cX14_indexOf 9 = .ok (.iadd, 1) := dk_96 (dk_at dksX14_indexOf_0 9 rfl rfl)
theorem dX14_indexOf_10 : decode cX14_indexOf 10 = .ok (.ireturn, 1) := dk_172 (dk_at dksX14_indexOf_0 10 rfl rfl)
abbrev cX14_stepY : ByteArray := prog_20_method_5_code
def yX14_stepY : MethodName := ⟨RX14, "stepY", "(I)I"⟩
def dkwX14_stepY_0 : List UInt8 := [26, 4, 160, 0, 7, 4, 167, 0, 13, 26, 6, 160, 0, 7, 2, 167, 0, 4, 3, 172]
abbrev dktX14_stepY_0 : List UInt8 := dkwX14_stepY_0 ++ []
theorem dksX14_stepY_0 : cX14_stepY.data.toList.drop 0 = dktX14_stepY_0 := by decide +kernel
theorem dX14_stepY_0 : decode cX14_stepY 0 = .ok (.iload_n 0, 1) := dk_26 (dk_at dksX14_stepY_0 0 rfl rfl)
theorem dX14_stepY_1 : decode cX14_stepY 1 = .ok (.iconst 1, 1) := dk_4 (dk_at dksX14_stepY_0 1 rfl rfl)
theorem dX14_stepY_2 : decode cX14_stepY 2 = .ok (.if_icmp .ne 7, 3) := dk_160 0 7 (dk_at dksX14_stepY_0 2 rfl rfl)
theorem dX14_stepY_5 : decode cX14_stepY 5 = .ok (.iconst 1, 1) := dk_4 (dk_at dksX14_stepY_0 5 rfl rfl)
theorem dX14_stepY_6 : decode cX14_stepY 6 = .ok (.goto 13, 3) := dk_167 0 13 (dk_at dksX14_stepY_0 6 rfl rfl)
theorem dX14_stepY_9 : decode cX14_stepY 9 = .ok (.iload_n 0, 1) := dk_26 (dk_at dksX14_stepY_0 9 rfl rfl)
theorem dX14_stepY_10 : decode cX14_stepY 10 = .ok (.iconst 3, 1) := dk_6 (dk_at dksX14_stepY_0 10 rfl rfl)
theorem dX14_stepY_11 : decode cX14_stepY 11 = .ok (.if_icmp .ne 7, 3) := dk_160 0 7 (dk_at dksX14_stepY_0 11 rfl rfl)
theorem dX14_stepY_14 : decode cX14_stepY 14 = .ok (.iconst (-1), 1) := dk_2 (dk_at dksX14_stepY_0 14 rfl rfl)
theorem dX14_stepY_15 : decode cX14_stepY 15 = .ok (.goto 4, 3) := dk_167 0 4 (dk_at dksX14_stepY_0 15 rfl rfl)
theorem dX14_stepY_18 : decode cX14_stepY 18 = .ok (.iconst 0, 1) := dk_3 (dk_at dksX14_stepY_0 18 rfl rfl)
theorem dX14_stepY_19 : decode cX14_stepY 19 = .ok (.ireturn, 1) := dk_172 (dk_at dksX14_stepY_0 19 rfl rfl)
abbrev cX14_stepX : ByteArray := prog_20_method_4_code
def yX14_stepX : MethodName := ⟨RX14, "stepX", "(I)I"⟩
def dkwX14_stepX_0 : List UInt8 := [26, 154, 0, 7, 4, 167, 0, 13, 26, 5, 160, 0, 7, 2, 167, 0, 4, 3, 172]
abbrev dktX14_stepX_0 : List UInt8 := dkwX14_stepX_0 ++ []
theorem dksX14_stepX_0 : cX14_stepX.data.toList.drop 0 = dktX14_stepX_0 := by decide +kernel
theorem dX14_stepX_0 : decode cX14_stepX 0 = .ok (.iload_n 0, 1) := dk_26 (dk_at dksX14_stepX_0 0 rfl rfl)
theorem dX14_stepX_1 : decode cX14_stepX 1 = .ok (.ifCond .ne 7, 3) := dk_154 0 7 (dk_at dksX14_stepX_0 1 rfl rfl)
theorem dX14_stepX_4 : decode cX14_stepX 4 = .ok (.iconst 1, 1) := dk_4 (dk_at dksX14_stepX_0 4 rfl rfl)
theorem dX14_stepX_5 : decode cX14_stepX 5 = .ok (.goto 13, 3) := dk_167 0 13 (dk_at dksX14_stepX_0 5 rfl rfl)
theorem dX14_stepX_8 : decode cX14_stepX 8 = .ok (.iload_n 0, 1) := dk_26 (dk_at dksX14_stepX_0 8 rfl rfl)
theorem dX14_stepX_9 : decode cX14_stepX 9 = .ok (.iconst 2, 1) := dk_5 (dk_at dksX14_stepX_0 9 rfl rfl)
theorem dX14_stepX_10 : decode cX14_stepX 10 = .ok (.if_icmp .ne 7, 3) := dk_160 0 7 (dk_at dksX14_stepX_0 10 rfl rfl)
theorem dX14_stepX_13 : decode cX14_stepX 13 = .ok (.iconst (-1), 1) := dk_2 (dk_at dksX14_stepX_0 13 rfl rfl)
theorem dX14_stepX_14 : decode cX14_stepX 14 = .ok (.goto 4, 3) := dk_167 0 4 (dk_at dksX14_stepX_0 14 rfl rfl)
theorem dX14_stepX_17 : decode cX14_stepX 17 = .ok (.iconst 0, 1) := dk_3 (dk_at dksX14_stepX_0 17 rfl rfl)
theorem dX14_stepX_18 : decode cX14_stepX 18 = .ok (.ireturn, 1) := dk_172 (dk_at dksX14_stepX_0 18 rfl rfl)
abbrev cX14_nextDirection : ByteArray := prog_20_method_6_code
def yX14_nextDirection : MethodName := ⟨RX14, "nextDirection", "(III)I"⟩
def dkwX14_nextDirection_1 : List UInt8 := [153, 0, 6, 21, 5, 172, 132, 4, 255, 167, 255, 226, 29, 7, 96, 4, 100, 7, 112, 172]
abbrev dktX14_nextDirection_1 : List UInt8 := dkwX14_nextDirection_1 ++ []
def dkwX14_nextDirection_0 : List UInt8 := [4, 54, 4, 21, 4, 155, 0, 31, 29, 21, 4, 96, 7, 112, 54, 5, 42, 27, 28, 21, 5, 182, 0, 32]
abbrev dktX14_nextDirection_0 : List UInt8 := dkwX14_nextDirection_0 ++ dktX14_nextDirection_1
theorem dksX14_nextDirection_0 : cX14_nextDirection.data.toList.drop 0 = dktX14_nextDirection_0 := by decide +kernel
theorem dksX14_nextDirection_1 : cX14_nextDirection.data.toList.drop 24 = dktX14_nextDirection_1 := dk_seg dksX14_nextDirection_0 24 rfl rfl
theorem dX14_nextDirection_0 : decode cX14_nextDirection 0 = .ok (.iconst 1, 1) := dk_4 (dk_at dksX14_nextDirection_0 0 rfl rfl)
theorem dX14_nextDirection_1 : decode cX14_nextDirection 1 = .ok (.istore 4, 2) := dk_54 4 (dk_at dksX14_nextDirection_0 1 rfl rfl)
theorem dX14_nextDirection_3 : decode cX14_nextDirection 3 = .ok (.iload 4, 2) := dk_21 4 (dk_at dksX14_nextDirection_0 3 rfl rfl)
theorem dX14_nextDirection_5 : decode cX14_nextDirection 5 = .ok (.ifCond .lt 31, 3) := dk_155 0 31 (dk_at dksX14_nextDirection_0 5 rfl rfl)
theorem dX14_nextDirection_8 : decode cX14_nextDirection 8 = .ok (.iload_n 3, 1) := dk_29 (dk_at dksX14_nextDirection_0 8 rfl rfl)
theorem dX14_nextDirection_9 : decode cX14_nextDirection 9 = .ok (.iload 4, 2) := dk_21 4 (dk_at dksX14_nextDirection_0 9 rfl rfl)
theorem dX14_nextDirection_11 : decode cX14_nextDirection 11 = .ok (.iadd, 1) := dk_96 (dk_at dksX14_nextDirection_0 11 rfl rfl)
theorem dX14_nextDirection_12 : decode cX14_nextDirection 12 = .ok (.iconst 4, 1) := dk_7 (dk_at dksX14_nextDirection_0 12 rfl rfl)
theorem dX14_nextDirection_13 : decode cX14_nextDirection 13 = .ok (.irem, 1) := dk_112 (dk_at dksX14_nextDirection_0 13 rfl rfl)
theorem dX14_nextDirection_14 : decode cX14_nextDirection 14 = .ok (.istore 5, 2) := dk_54 5 (dk_at dksX14_nextDirection_0 14 rfl rfl)
theorem dX14_nextDirection_16 : decode cX14_nextDirection 16 = .ok (.aload_n 0, 1) := dk_42 (dk_at dksX14_nextDirection_0 16 rfl rfl)
theorem dX14_nextDirection_17 : decode cX14_nextDirection 17 = .ok (.iload_n 1, 1) := dk_27 (dk_at dksX14_nextDirection_0 17 rfl rfl)
theorem dX14_nextDirection_18 : decode cX14_nextDirection 18 = .ok (.iload_n 2, 1) := dk_28 (dk_at dksX14_nextDirection_0 18 rfl rfl)
theorem dX14_nextDirection_19 : decode cX14_nextDirection 19 = .ok (.iload 5, 2) := dk_21 5 (dk_at dksX14_nextDirection_0 19 rfl rfl)
theorem dX14_nextDirection_21 : decode cX14_nextDirection 21 = .ok (.invokevirtual 32, 3) := dk_182 0 32 (dk_at dksX14_nextDirection_0 21 rfl rfl)
theorem dX14_nextDirection_24 : decode cX14_nextDirection 24 = .ok (.ifCond .eq 6, 3) := dk_153 0 6 (dk_at dksX14_nextDirection_1 0 rfl rfl)
theorem dX14_nextDirection_27 : decode cX14_nextDirection 27 = .ok (.iload 5, 2) := dk_21 5 (dk_at dksX14_nextDirection_1 3 rfl rfl)
theorem dX14_nextDirection_29 : decode cX14_nextDirection 29 = .ok (.ireturn, 1) := dk_172 (dk_at dksX14_nextDirection_1 5 rfl rfl)
theorem dX14_nextDirection_30 : decode cX14_nextDirection 30 = .ok (.iinc 4 (-1), 3) := dk_132 4 255 (dk_at dksX14_nextDirection_1 6 rfl rfl)
theorem dX14_nextDirection_33 : decode cX14_nextDirection 33 = .ok (.goto (-30), 3) := dk_167 255 226 (dk_at dksX14_nextDirection_1 9 rfl rfl)
theorem dX14_nextDirection_36 : decode cX14_nextDirection 36 = .ok (.iload_n 3, 1) := dk_29 (dk_at dksX14_nextDirection_1 12 rfl rfl)
theorem dX14_nextDirection_37 : decode cX14_nextDirection 37 = .ok (.iconst 4, 1) := dk_7 (dk_at dksX14_nextDirection_1 13 rfl rfl)
theorem dX14_nextDirection_38 : decode cX14_nextDirection 38 = .ok (.iadd, 1) := dk_96 (dk_at dksX14_nextDirection_1 14 rfl rfl)
theorem dX14_nextDirection_39 : decode cX14_nextDirection 39 = .ok (.iconst 1, 1) := dk_4 (dk_at dksX14_nextDirection_1 15 rfl rfl)
theorem dX14_nextDirection_40 : decode cX14_nextDirection 40 = .ok (.isub, 1) := dk_100 (dk_at dksX14_nextDirection_1 16 rfl rfl)
theorem dX14_nextDirection_41 : decode cX14_nextDirection 41 = .ok (.iconst 4, 1) := dk_7 (dk_at dksX14_nextDirection_1 17 rfl rfl)
theorem dX14_nextDirection_42 : decode cX14_nextDirection 42 = .ok (.irem, 1) := dk_112 (dk_at dksX14_nextDirection_1 18 rfl rfl)
theorem dX14_nextDirection_43 : decode cX14_nextDirection 43 = .ok (.ireturn, 1) := dk_172 (dk_at dksX14_nextDirection_1 19 rfl rfl)
theorem q86 : (Jvm.Cond.initialized "PolygonBoard$Tracer") ∈ lw_all := lw_g (lw_at lw_m1 36 rfl) rfl
theorem q200 : (Jvm.Cond.selects "PolygonBoard$Tracer" ({ cls := "java/lang/Object", name := "getClass", desc := "()Ljava/lang/Class;" } : Jvm.MethodName) ({ cls := "java/lang/Object", name := "getClass", desc := "()Ljava/lang/Class;" } : Jvm.MethodName)) ∈ lw_all := lw_g (lw_at lw_m1 150 rfl) rfl
theorem q1225 : (Jvm.Cond.instantiable "PolygonBoard$Tracer" (3 : Nat)) ∈ lw_all := lw_g (lw_at lw_m5 215 rfl) rfl
theorem q1227 : (Jvm.Cond.instanceMethod ({ cls := "PolygonBoard$Tracer", name := "<init>", desc := "(LPolygonBoard$Region;)V" } : Jvm.MethodName)) ∈ lw_all := lw_g (lw_at lw_m5 217 rfl) rfl
theorem q1228 : (Jvm.Cond.code ({ cls := "PolygonBoard$Tracer", name := "<init>", desc := "(LPolygonBoard$Region;)V" } : Jvm.MethodName) prog_20_method_1_code (5 : Nat) (Option.none : Option Jvm.ClassFile.FieldType)) ∈ lw_all := lw_g (lw_at lw_m5 218 rfl) rfl
theorem q1229 : (Jvm.Cond.methodLink "PolygonBoard$Tracer" (3 : Nat) ({ cls := "java/lang/Object", name := "<init>", desc := "()V" } : Jvm.MethodName)) ∈ lw_all := lw_g (lw_at lw_m5 219 rfl) rfl
theorem q1230 : (Jvm.Cond.classLink "PolygonBoard$Tracer" (15 : Nat) "java/util/ArrayList") ∈ lw_all := lw_g (lw_at lw_m5 220 rfl) rfl
theorem q1231 : (Jvm.Cond.methodLink "PolygonBoard$Tracer" (17 : Nat) ({ cls := "java/util/ArrayList", name := "<init>", desc := "()V" } : Jvm.MethodName)) ∈ lw_all := lw_g (lw_at lw_m5 221 rfl) rfl
theorem q1232 : (Jvm.Cond.methodLink "PolygonBoard$Tracer" (22 : Nat) ({ cls := "PolygonBoard$Cells", name := "of", desc := "(LPolygonBoard$Region;)LPolygonBoard$Cells;" } : Jvm.MethodName)) ∈ lw_all := lw_g (lw_at lw_m5 222 rfl) rfl
theorem q1233 : (Jvm.Cond.methodLink "PolygonBoard$Tracer" (32 : Nat) ({ cls := "PolygonBoard$Tracer", name := "hasLine", desc := "(III)Z" } : Jvm.MethodName)) ∈ lw_all := lw_g (lw_at lw_m5 223 rfl) rfl
theorem q1234 : (Jvm.Cond.privateMethod ({ cls := "PolygonBoard$Tracer", name := "hasLine", desc := "(III)Z" } : Jvm.MethodName)) ∈ lw_tbl := lw_at lw_m5 224 rfl
theorem q1235 : (Jvm.Cond.instanceMethod ({ cls := "PolygonBoard$Tracer", name := "hasLine", desc := "(III)Z" } : Jvm.MethodName)) ∈ lw_all := lw_g (lw_at lw_m5 225 rfl) rfl
theorem q1236 : (Jvm.Cond.code ({ cls := "PolygonBoard$Tracer", name := "hasLine", desc := "(III)Z" } : Jvm.MethodName) prog_20_method_3_code (8 : Nat) (Option.some Jvm.ClassFile.FieldType.boolean)) ∈ lw_all := lw_g (lw_at lw_m5 226 rfl) rfl
theorem q1237 : (Jvm.Cond.methodLink "PolygonBoard$Tracer" (46 : Nat) ({ cls := "PolygonBoard$Cells", name := "contains", desc := "(II)Z" } : Jvm.MethodName)) ∈ lw_all := lw_g (lw_at lw_m5 227 rfl) rfl
theorem q1238 : (Jvm.Cond.methodLink "PolygonBoard$Tracer" (36 : Nat) ({ cls := "PolygonBoard$Tracer", name := "trace", desc := "(III)LPolygonBoard$Outline;" } : Jvm.MethodName)) ∈ lw_all := lw_g (lw_at lw_m5 228 rfl) rfl
theorem q1239 : (Jvm.Cond.privateMethod ({ cls := "PolygonBoard$Tracer", name := "trace", desc := "(III)LPolygonBoard$Outline;" } : Jvm.MethodName)) ∈ lw_tbl := lw_at lw_m5 229 rfl
theorem q1240 : (Jvm.Cond.instanceMethod ({ cls := "PolygonBoard$Tracer", name := "trace", desc := "(III)LPolygonBoard$Outline;" } : Jvm.MethodName)) ∈ lw_all := lw_g (lw_at lw_m5 230 rfl) rfl
theorem q1241 : (Jvm.Cond.code ({ cls := "PolygonBoard$Tracer", name := "trace", desc := "(III)LPolygonBoard$Outline;" } : Jvm.MethodName) prog_20_method_7_code (9 : Nat) (Option.some (Jvm.ClassFile.FieldType.object "PolygonBoard$Outline"))) ∈ lw_all := lw_g (lw_at lw_m5 231 rfl) rfl
theorem q1242 : (Jvm.Cond.classLink "PolygonBoard$Tracer" (50 : Nat) "PolygonBoard$Outline") ∈ lw_all := lw_g (lw_at lw_m5 232 rfl) rfl
theorem q1244 : (Jvm.Cond.methodLinkNest "PolygonBoard$Tracer" (52 : Nat) ({ cls := "PolygonBoard$Outline", name := "<init>", desc := "()V" } : Jvm.MethodName) "PolygonBoard") ∈ lw_tbl := lw_at lw_m5 234 rfl
theorem q1254 : (Jvm.Cond.fieldLinkNest "PolygonBoard$Tracer" (61 : Nat) "PolygonBoard$Outline" "area" "I" "PolygonBoard") ∈ lw_tbl := lw_at lw_m6 4 rfl
theorem q1264 : (Jvm.Cond.methodLink "PolygonBoard$Tracer" (53 : Nat) ({ cls := "PolygonBoard$Outline", name := "addCorner", desc := "(II)V" } : Jvm.MethodName)) ∈ lw_all := lw_g (lw_at lw_m6 14 rfl) rfl
theorem q1290 : (Jvm.Cond.methodLink "PolygonBoard$Tracer" (57 : Nat) ({ cls := "PolygonBoard$Tracer", name := "indexOf", desc := "(III)I" } : Jvm.MethodName)) ∈ lw_all := lw_g (lw_at lw_m6 40 rfl) rfl
theorem q1291 : (Jvm.Cond.static ({ cls := "PolygonBoard$Tracer", name := "indexOf", desc := "(III)I" } : Jvm.MethodName)) ∈ lw_all := lw_g (lw_at lw_m6 41 rfl) rfl
theorem q1292 : (Jvm.Cond.code ({ cls := "PolygonBoard$Tracer", name := "indexOf", desc := "(III)I" } : Jvm.MethodName) prog_20_method_2_code (3 : Nat) (Option.some Jvm.ClassFile.FieldType.int)) ∈ lw_all := lw_g (lw_at lw_m6 42 rfl) rfl
theorem q1293 : (Jvm.Cond.methodLink "PolygonBoard$Tracer" (65 : Nat) ({ cls := "PolygonBoard$Tracer", name := "stepY", desc := "(I)I" } : Jvm.MethodName)) ∈ lw_all := lw_g (lw_at lw_m6 43 rfl) rfl
theorem q1294 : (Jvm.Cond.static ({ cls := "PolygonBoard$Tracer", name := "stepY", desc := "(I)I" } : Jvm.MethodName)) ∈ lw_all := lw_g (lw_at lw_m6 44 rfl) rfl
theorem q1295 : (Jvm.Cond.code ({ cls := "PolygonBoard$Tracer", name := "stepY", desc := "(I)I" } : Jvm.MethodName) prog_20_method_5_code (1 : Nat) (Option.some Jvm.ClassFile.FieldType.int)) ∈ lw_all := lw_g (lw_at lw_m6 45 rfl) rfl
theorem q1296 : (Jvm.Cond.methodLink "PolygonBoard$Tracer" (69 : Nat) ({ cls := "PolygonBoard$Tracer", name := "stepX", desc := "(I)I" } : Jvm.MethodName)) ∈ lw_all := lw_g (lw_at lw_m6 46 rfl) rfl
theorem q1297 : (Jvm.Cond.static ({ cls := "PolygonBoard$Tracer", name := "stepX", desc := "(I)I" } : Jvm.MethodName)) ∈ lw_all := lw_g (lw_at lw_m6 47 rfl) rfl
theorem q1298 : (Jvm.Cond.code ({ cls := "PolygonBoard$Tracer", name := "stepX", desc := "(I)I" } : Jvm.MethodName) prog_20_method_4_code (1 : Nat) (Option.some Jvm.ClassFile.FieldType.int)) ∈ lw_all := lw_g (lw_at lw_m6 48 rfl) rfl
theorem q1299 : (Jvm.Cond.methodLink "PolygonBoard$Tracer" (72 : Nat) ({ cls := "PolygonBoard$Tracer", name := "nextDirection", desc := "(III)I" } : Jvm.MethodName)) ∈ lw_all := lw_g (lw_at lw_m6 49 rfl) rfl
theorem q1300 : (Jvm.Cond.privateMethod ({ cls := "PolygonBoard$Tracer", name := "nextDirection", desc := "(III)I" } : Jvm.MethodName)) ∈ lw_tbl := lw_at lw_m6 50 rfl
theorem q1301 : (Jvm.Cond.instanceMethod ({ cls := "PolygonBoard$Tracer", name := "nextDirection", desc := "(III)I" } : Jvm.MethodName)) ∈ lw_all := lw_g (lw_at lw_m6 51 rfl) rfl
theorem q1302 : (Jvm.Cond.code ({ cls := "PolygonBoard$Tracer", name := "nextDirection", desc := "(III)I" } : Jvm.MethodName) prog_20_method_6_code (6 : Nat) (Option.some Jvm.ClassFile.FieldType.int)) ∈ lw_all := lw_g (lw_at lw_m6 52 rfl) rfl
theorem q1303 : (Jvm.Cond.interfaceEntry "PolygonBoard$Tracer" (40 : Nat)) ∈ lw_tbl := lw_at lw_m6 53 rfl
theorem q1304 : (Jvm.Cond.methodLink "PolygonBoard$Tracer" (40 : Nat) ({ cls := "java/util/List", name := "add", desc := "(Ljava/lang/Object;)Z" } : Jvm.MethodName)) ∈ lw_all := lw_g (lw_at lw_m6 54 rfl) rfl
theorem q1305 : (Jvm.Cond.fieldLink "PolygonBoard$Tracer" (28 : Nat) "PolygonBoard$Tracer" "cells" "LPolygonBoard$Cells;") ∈ lw_all := lw_g (lw_at lw_m6 55 rfl) rfl
theorem q1306 : (Jvm.Cond.fieldLink "PolygonBoard$Tracer" (9 : Nat) "PolygonBoard$Tracer" "isUsed" "[Z") ∈ lw_all := lw_g (lw_at lw_m6 56 rfl) rfl
theorem q1307 : (Jvm.Cond.fieldLink "PolygonBoard$Tracer" (18 : Nat) "PolygonBoard$Tracer" "outlines" "Ljava/util/List;") ∈ lw_all := lw_g (lw_at lw_m6 57 rfl) rfl
theorem q1309 : (Jvm.Cond.laysFinal "PolygonBoard$Tracer" "PolygonBoard$Tracer" "cells" "LPolygonBoard$Cells;") ∈ lw_all := lw_g (lw_at lw_m6 59 rfl) rfl
theorem q1310 : (Jvm.Cond.soleField "PolygonBoard$Tracer" "cells") ∈ lw_all := lw_g (lw_at lw_m6 60 rfl) rfl
theorem q1311 : (Jvm.Cond.laysFinal "PolygonBoard$Tracer" "PolygonBoard$Tracer" "isUsed" "[Z") ∈ lw_all := lw_g (lw_at lw_m6 61 rfl) rfl
theorem q1312 : (Jvm.Cond.soleField "PolygonBoard$Tracer" "isUsed") ∈ lw_all := lw_g (lw_at lw_m6 62 rfl) rfl
theorem q1313 : (Jvm.Cond.laysFinal "PolygonBoard$Tracer" "PolygonBoard$Tracer" "outlines" "Ljava/util/List;") ∈ lw_all := lw_g (lw_at lw_m6 63 rfl) rfl
theorem q1314 : (Jvm.Cond.soleField "PolygonBoard$Tracer" "outlines") ∈ lw_all := lw_g (lw_at lw_m6 64 rfl) rfl
theorem q1315 : (Jvm.Cond.superclass "PolygonBoard$Tracer" "java/lang/Object") ∈ lw_all := lw_g (lw_at lw_m6 65 rfl) rfl
theorem q2148 : (Jvm.Cond.castable "PolygonBoard$Tracer" "java/lang/Object") ∈ lw_tbl := lw_at lw_m9 178 rfl
theorem in_X14 : ∀ w ∈ wsX140, w ∈ lw_all := lw_in wsX140 [1309, 1311, 1313] (by decide +kernel) (by decide +kernel)
/-! PolygonBoard$Outline -/
set_option maxRecDepth 100000
def RX15 : String := "PolygonBoard$Outline"
def TX15 : u_T := fun k => match k with
  | 0 => ("PolygonBoard$Outline", "xs", "Ljava/util/List;", true)
  | 1 => ("PolygonBoard$Outline", "ys", "Ljava/util/List;", true)
  | _ => ("PolygonBoard$Outline", "area", "I", false)
def tyX15 : Nat → FieldType := fun k => match k with
  | 0 => .object "java/util/List"
  | 1 => .object "java/util/List"
  | _ => .int
abbrev wsX150 : List Cond := u_ws RX15 TX15 3
theorem nmX15 : ∀ a, a < 3 → ∀ b, b < 3 → a ≠ b → (TX15 a).2.1 ≠ (TX15 b).2.1 := by decide +kernel
theorem tyX15_ok : ∀ k, k < 3 → parseFieldDescriptor (TX15 k).2.2.1 = some (tyX15 k) := by decide +kernel
abbrev cX15_init : ByteArray := prog_12_method_1_code
def yX15_init : MethodName := ⟨RX15, "<init>", "()V"⟩
def dkwX15_init_1 : List UInt8 := [181, 0, 16, 177]
abbrev dktX15_init_1 : List UInt8 := dkwX15_init_1 ++ []
def dkwX15_init_0 : List UInt8 := [42, 183, 0, 1, 42, 187, 0, 7, 89, 183, 0, 9, 181, 0, 10, 42, 187, 0, 7, 89, 183, 0, 9]
abbrev dktX15_init_0 : List UInt8 := dkwX15_init_0 ++ dktX15_init_1
theorem dksX15_init_0 : cX15_init.data.toList.drop 0 = dktX15_init_0 := by decide +kernel
theorem dksX15_init_1 : cX15_init.data.toList.drop 23 = dktX15_init_1 := dk_seg dksX15_init_0 23 rfl rfl
theorem dX15_init_0 : decode cX15_init 0 = .ok (.aload_n 0, 1) := dk_42 (dk_at dksX15_init_0 0 rfl rfl)
theorem dX15_init_1 : decode cX15_init 1 = .ok (.invokespecial 1, 3) := dk_183 0 1 (dk_at dksX15_init_0 1 rfl rfl)
theorem dX15_init_4 : decode cX15_init 4 = .ok (.aload_n 0, 1) := dk_42 (dk_at dksX15_init_0 4 rfl rfl)
theorem dX15_init_5 : decode cX15_init 5 = .ok (.new 7, 3) := dk_187 0 7 (dk_at dksX15_init_0 5 rfl rfl)
theorem dX15_init_8 : decode cX15_init 8 = .ok (.dup, 1) := dk_89 (dk_at dksX15_init_0 8 rfl rfl)
theorem dX15_init_9 : decode cX15_init 9 = .ok (.invokespecial 9, 3) := dk_183 0 9 (dk_at dksX15_init_0 9 rfl rfl)
theorem dX15_init_12 : decode cX15_init 12 = .ok (.putfield 10, 3) := dk_181 0 10 (dk_at dksX15_init_0 12 rfl rfl)
theorem dX15_init_15 : decode cX15_init 15 = .ok (.aload_n 0, 1) := dk_42 (dk_at dksX15_init_0 15 rfl rfl)
theorem dX15_init_16 : decode cX15_init 16 = .ok (.new 7, 3) := dk_187 0 7 (dk_at dksX15_init_0 16 rfl rfl)
theorem dX15_init_19 : decode cX15_init 19 = .ok (.dup, 1) := dk_89 (dk_at dksX15_init_0 19 rfl rfl)
theorem dX15_init_20 : decode cX15_init 20 = .ok (.invokespecial 9, 3) := dk_183 0 9 (dk_at dksX15_init_0 20 rfl rfl)
theorem dX15_init_23 : decode cX15_init 23 = .ok (.putfield 16, 3) := dk_181 0 16 (dk_at dksX15_init_1 0 rfl rfl)
theorem dX15_init_26 : decode cX15_init 26 = .ok (.return_, 1) := dk_177 (dk_at dksX15_init_1 3 rfl rfl)
abbrev cX15_addCorner : ByteArray := prog_12_method_2_code
def yX15_addCorner : MethodName := ⟨RX15, "addCorner", "(II)V"⟩
def dkwX15_addCorner_1 : List UInt8 := [185, 0, 25, 2, 0, 87, 177]
abbrev dktX15_addCorner_1 : List UInt8 := dkwX15_addCorner_1 ++ []
def dkwX15_addCorner_0 : List UInt8 := [42, 180, 0, 10, 27, 184, 0, 19, 185, 0, 25, 2, 0, 87, 42, 180, 0, 16, 28, 184, 0, 19]
abbrev dktX15_addCorner_0 : List UInt8 := dkwX15_addCorner_0 ++ dktX15_addCorner_1
theorem dksX15_addCorner_0 : cX15_addCorner.data.toList.drop 0 = dktX15_addCorner_0 := by decide +kernel
theorem dksX15_addCorner_1 : cX15_addCorner.data.toList.drop 22 = dktX15_addCorner_1 := dk_seg dksX15_addCorner_0 22 rfl rfl
theorem dX15_addCorner_0 : decode cX15_addCorner 0 = .ok (.aload_n 0, 1) := dk_42 (dk_at dksX15_addCorner_0 0 rfl rfl)
theorem dX15_addCorner_1 : decode cX15_addCorner 1 = .ok (.getfield 10, 3) := dk_180 0 10 (dk_at dksX15_addCorner_0 1 rfl rfl)
theorem dX15_addCorner_4 : decode cX15_addCorner 4 = .ok (.iload_n 1, 1) := dk_27 (dk_at dksX15_addCorner_0 4 rfl rfl)
theorem dX15_addCorner_5 : decode cX15_addCorner 5 = .ok (.invokestatic 19, 3) := dk_184 0 19 (dk_at dksX15_addCorner_0 5 rfl rfl)
theorem dX15_addCorner_8 : decode cX15_addCorner 8 = .ok (.invokeinterface 25 2, 5) := by decide +kernel
theorem dX15_addCorner_13 : decode cX15_addCorner 13 = .ok (.pop, 1) := dk_87 (dk_at dksX15_addCorner_0 13 rfl rfl)
theorem dX15_addCorner_14 : decode cX15_addCorner 14 = .ok (.aload_n 0, 1) := dk_42 (dk_at dksX15_addCorner_0 14 rfl rfl)
theorem dX15_addCorner_15 : decode cX15_addCorner 15 = .ok (.getfield 16, 3) := dk_180 0 16 (dk_at dksX15_addCorner_0 15 rfl rfl)
theorem dX15_addCorner_18 : decode cX15_addCorner 18 = .ok (.iload_n 2, 1) := dk_28 (dk_at dksX15_addCorner_0 18 rfl rfl)
theorem dX15_addCorner_19 : decode cX15_addCorner 19 = .ok (.invokestatic 19, 3) := dk_184 0 19 (dk_at dksX15_addCorner_0 19 rfl rfl)
theorem dX15_addCorner_22 : decode cX15_addCorner 22 = .ok (.invokeinterface 25 2, 5) := by decide +kernel
theorem dX15_addCorner_27 : decode cX15_addCorner 27 = .ok (.pop, 1) := dk_87 (dk_at dksX15_addCorner_1 5 rfl rfl)
theorem dX15_addCorner_28 : decode cX15_addCorner 28 = .ok (.return_, 1) := dk_177 (dk_at dksX15_addCorner_1 6 rfl rfl)
theorem q87 : (Jvm.Cond.initialized "PolygonBoard$Outline") ∈ lw_all := lw_g (lw_at lw_m1 37 rfl) rfl
theorem q193 : (Jvm.Cond.selects "PolygonBoard$Outline" ({ cls := "java/lang/Object", name := "getClass", desc := "()Ljava/lang/Class;" } : Jvm.MethodName) ({ cls := "java/lang/Object", name := "getClass", desc := "()Ljava/lang/Class;" } : Jvm.MethodName)) ∈ lw_all := lw_g (lw_at lw_m1 143 rfl) rfl
theorem q1243 : (Jvm.Cond.instantiable "PolygonBoard$Outline" (3 : Nat)) ∈ lw_all := lw_g (lw_at lw_m5 233 rfl) rfl
theorem q1245 : (Jvm.Cond.instanceMethod ({ cls := "PolygonBoard$Outline", name := "<init>", desc := "()V" } : Jvm.MethodName)) ∈ lw_all := lw_g (lw_at lw_m5 235 rfl) rfl
theorem q1246 : (Jvm.Cond.code ({ cls := "PolygonBoard$Outline", name := "<init>", desc := "()V" } : Jvm.MethodName) prog_12_method_1_code (1 : Nat) (Option.none : Option Jvm.ClassFile.FieldType)) ∈ lw_all := lw_g (lw_at lw_m5 236 rfl) rfl
theorem q1247 : (Jvm.Cond.methodLink "PolygonBoard$Outline" (1 : Nat) ({ cls := "java/lang/Object", name := "<init>", desc := "()V" } : Jvm.MethodName)) ∈ lw_all := lw_g (lw_at lw_m5 237 rfl) rfl
theorem q1248 : (Jvm.Cond.classLink "PolygonBoard$Outline" (7 : Nat) "java/util/ArrayList") ∈ lw_all := lw_g (lw_at lw_m5 238 rfl) rfl
theorem q1249 : (Jvm.Cond.methodLink "PolygonBoard$Outline" (9 : Nat) ({ cls := "java/util/ArrayList", name := "<init>", desc := "()V" } : Jvm.MethodName)) ∈ lw_all := lw_g (lw_at lw_m5 239 rfl) rfl
theorem q1250 : (Jvm.Cond.fieldLink "PolygonBoard$Outline" (10 : Nat) "PolygonBoard$Outline" "xs" "Ljava/util/List;") ∈ lw_all := lw_g (lw_at lw_m6 0 rfl) rfl
theorem q1252 : (Jvm.Cond.fieldLink "PolygonBoard$Outline" (16 : Nat) "PolygonBoard$Outline" "ys" "Ljava/util/List;") ∈ lw_all := lw_g (lw_at lw_m6 2 rfl) rfl
theorem q1256 : (Jvm.Cond.laysFinal "PolygonBoard$Outline" "PolygonBoard$Outline" "xs" "Ljava/util/List;") ∈ lw_all := lw_g (lw_at lw_m6 6 rfl) rfl
theorem q1257 : (Jvm.Cond.soleField "PolygonBoard$Outline" "xs") ∈ lw_all := lw_g (lw_at lw_m6 7 rfl) rfl
theorem q1258 : (Jvm.Cond.laysFinal "PolygonBoard$Outline" "PolygonBoard$Outline" "ys" "Ljava/util/List;") ∈ lw_all := lw_g (lw_at lw_m6 8 rfl) rfl
theorem q1259 : (Jvm.Cond.soleField "PolygonBoard$Outline" "ys") ∈ lw_all := lw_g (lw_at lw_m6 9 rfl) rfl
theorem q1260 : (Jvm.Cond.lays "PolygonBoard$Outline" "PolygonBoard$Outline" "area" "I") ∈ lw_all := lw_g (lw_at lw_m6 10 rfl) rfl
theorem q1261 : (Jvm.Cond.soleField "PolygonBoard$Outline" "area") ∈ lw_all := lw_g (lw_at lw_m6 11 rfl) rfl
theorem q1262 : (Jvm.Cond.superclass "PolygonBoard$Outline" "java/lang/Object") ∈ lw_all := lw_g (lw_at lw_m6 12 rfl) rfl
theorem q1265 : (Jvm.Cond.instanceMethod ({ cls := "PolygonBoard$Outline", name := "addCorner", desc := "(II)V" } : Jvm.MethodName)) ∈ lw_all := lw_g (lw_at lw_m6 15 rfl) rfl
theorem q1266 : (Jvm.Cond.selects "PolygonBoard$Outline" ({ cls := "PolygonBoard$Outline", name := "addCorner", desc := "(II)V" } : Jvm.MethodName) ({ cls := "PolygonBoard$Outline", name := "addCorner", desc := "(II)V" } : Jvm.MethodName)) ∈ lw_all := lw_g (lw_at lw_m6 16 rfl) rfl
theorem q1267 : (Jvm.Cond.code ({ cls := "PolygonBoard$Outline", name := "addCorner", desc := "(II)V" } : Jvm.MethodName) prog_12_method_2_code (3 : Nat) (Option.none : Option Jvm.ClassFile.FieldType)) ∈ lw_all := lw_g (lw_at lw_m6 17 rfl) rfl
theorem q1268 : (Jvm.Cond.methodLink "PolygonBoard$Outline" (19 : Nat) ({ cls := "java/lang/Integer", name := "valueOf", desc := "(I)Ljava/lang/Integer;" } : Jvm.MethodName)) ∈ lw_all := lw_g (lw_at lw_m6 18 rfl) rfl
theorem q1288 : (Jvm.Cond.interfaceEntry "PolygonBoard$Outline" (25 : Nat)) ∈ lw_tbl := lw_at lw_m6 38 rfl
theorem q1289 : (Jvm.Cond.methodLink "PolygonBoard$Outline" (25 : Nat) ({ cls := "java/util/List", name := "add", desc := "(Ljava/lang/Object;)Z" } : Jvm.MethodName)) ∈ lw_all := lw_g (lw_at lw_m6 39 rfl) rfl
theorem q2149 : (Jvm.Cond.castable "PolygonBoard$Outline" "java/lang/Object") ∈ lw_tbl := lw_at lw_m9 179 rfl
theorem in_X15 : ∀ w ∈ wsX150, w ∈ lw_all := lw_in wsX150 [1256, 1258, 1260] (by decide +kernel) (by decide +kernel)
/-! PolygonBoard$RangeSearch -/
set_option maxRecDepth 100000
def RX16 : String := "PolygonBoard$RangeSearch"
def TX16 : u_T := fun k => match k with
  | 0 => ("PolygonBoard$RangeSearch", "largestArea", "I", false)
  | _ => ("PolygonBoard$RangeSearch", "largestSide", "I", false)
def tyX16 : Nat → FieldType := fun k => match k with
  | 0 => .int
  | _ => .int
abbrev wsX160 : List Cond := u_ws RX16 TX16 2
theorem nmX16 : ∀ a, a < 2 → ∀ b, b < 2 → a ≠ b → (TX16 a).2.1 ≠ (TX16 b).2.1 := by decide +kernel
theorem tyX16_ok : ∀ k, k < 2 → parseFieldDescriptor (TX16 k).2.2.1 = some (tyX16 k) := by decide +kernel
abbrev cX16_init : ByteArray := prog_15_method_1_code
def yX16_init : MethodName := ⟨RX16, "<init>", "(LPolygonBoard$Region;)V"⟩
def dkwX16_init_1 : List UInt8 := [182, 0, 19, 132, 2, 1, 167, 255, 234, 177]
abbrev dktX16_init_1 : List UInt8 := dkwX16_init_1 ++ []
def dkwX16_init_0 : List UInt8 := [42, 183, 0, 1, 3, 61, 28, 43, 180, 0, 7, 185, 0, 13, 1, 0, 162, 0, 15, 42, 43, 28]
abbrev dktX16_init_0 : List UInt8 := dkwX16_init_0 ++ dktX16_init_1
theorem dksX16_init_0 : cX16_init.data.toList.drop 0 = dktX16_init_0 := by decide +kernel
theorem dksX16_init_1 : cX16_init.data.toList.drop 22 = dktX16_init_1 := dk_seg dksX16_init_0 22 rfl rfl
theorem dX16_init_0 : decode cX16_init 0 = .ok (.aload_n 0, 1) := dk_42 (dk_at dksX16_init_0 0 rfl rfl)
theorem dX16_init_1 : decode cX16_init 1 = .ok (.invokespecial 1, 3) := dk_183 0 1 (dk_at dksX16_init_0 1 rfl rfl)
theorem dX16_init_4 : decode cX16_init 4 = .ok (.iconst 0, 1) := dk_3 (dk_at dksX16_init_0 4 rfl rfl)
theorem dX16_init_5 : decode cX16_init 5 = .ok (.istore_n 2, 1) := dk_61 (dk_at dksX16_init_0 5 rfl rfl)
theorem dX16_init_6 : decode cX16_init 6 = .ok (.iload_n 2, 1) := dk_28 (dk_at dksX16_init_0 6 rfl rfl)
theorem dX16_init_7 : decode cX16_init 7 = .ok (.aload_n 1, 1) := dk_43 (dk_at dksX16_init_0 7 rfl rfl)
theorem dX16_init_8 : decode cX16_init 8 = .ok (.getfield 7, 3) := dk_180 0 7 (dk_at dksX16_init_0 8 rfl rfl)
theorem dX16_init_11 : decode cX16_init 11 = .ok (.invokeinterface 13 1, 5) := by decide +kernel
theorem dX16_init_16 : decode cX16_init 16 = .ok (.if_icmp .ge 15, 3) := dk_162 0 15 (dk_at dksX16_init_0 16 rfl rfl)
theorem dX16_init_19 : decode cX16_init 19 = .ok (.aload_n 0, 1) := dk_42 (dk_at dksX16_init_0 19 rfl rfl)
theorem dX16_init_20 : decode cX16_init 20 = .ok (.aload_n 1, 1) := dk_43 (dk_at dksX16_init_0 20 rfl rfl)
theorem dX16_init_21 : decode cX16_init 21 = .ok (.iload_n 2, 1) := dk_28 (dk_at dksX16_init_0 21 rfl rfl)
theorem dX16_init_22 : decode cX16_init 22 = .ok (.invokevirtual 19, 3) := dk_182 0 19 (dk_at dksX16_init_1 0 rfl rfl)
theorem dX16_init_25 : decode cX16_init 25 = .ok (.iinc 2 1, 3) := dk_132 2 1 (dk_at dksX16_init_1 3 rfl rfl)
theorem dX16_init_28 : decode cX16_init 28 = .ok (.goto (-22), 3) := dk_167 255 234 (dk_at dksX16_init_1 6 rfl rfl)
theorem dX16_init_31 : decode cX16_init 31 = .ok (.return_, 1) := dk_177 (dk_at dksX16_init_1 9 rfl rfl)
abbrev cX16_search : ByteArray := prog_15_method_2_code
def yX16_search : MethodName := ⟨RX16, "search", "(LPolygonBoard$Region;I)V"⟩
def dkwX16_search_4 : List UInt8 := [182, 0, 48, 58, 4, 42, 25, 4, 21, 5, 182, 0, 54, 132, 6, 1, 167, 255, 174, 177]
abbrev dktX16_search_4 : List UInt8 := dkwX16_search_4 ++ []
def dkwX16_search_3 : List UInt8 := [159, 0, 4, 177, 21, 5, 25, 7, 182, 0, 39, 96, 54, 5, 25, 4, 25, 7, 180, 0, 31, 178, 0, 42]
abbrev dktX16_search_3 : List UInt8 := dkwX16_search_3 ++ dktX16_search_4
def dkwX16_search_2 : List UInt8 := [185, 0, 25, 2, 0, 192, 0, 29, 58, 7, 25, 7, 180, 0, 35, 45, 180, 0, 35, 21, 5, 96]
abbrev dktX16_search_2 : List UInt8 := dkwX16_search_2 ++ dktX16_search_3
def dkwX16_search_1 : List UInt8 := [54, 6, 21, 6, 43, 180, 0, 7, 185, 0, 13, 1, 0, 162, 0, 74, 43, 180, 0, 7, 21, 6]
abbrev dktX16_search_1 : List UInt8 := dkwX16_search_1 ++ dktX16_search_2
def dkwX16_search_0 : List UInt8 := [43, 180, 0, 7, 28, 185, 0, 25, 2, 0, 192, 0, 29, 78, 45, 180, 0, 31, 58, 4, 3, 54, 5, 28]
abbrev dktX16_search_0 : List UInt8 := dkwX16_search_0 ++ dktX16_search_1
theorem dksX16_search_0 : cX16_search.data.toList.drop 0 = dktX16_search_0 := by decide +kernel
theorem dksX16_search_1 : cX16_search.data.toList.drop 24 = dktX16_search_1 := dk_seg dksX16_search_0 24 rfl rfl
theorem dksX16_search_2 : cX16_search.data.toList.drop 46 = dktX16_search_2 := dk_seg dksX16_search_1 22 rfl rfl
theorem dksX16_search_3 : cX16_search.data.toList.drop 68 = dktX16_search_3 := dk_seg dksX16_search_2 22 rfl rfl
theorem dksX16_search_4 : cX16_search.data.toList.drop 92 = dktX16_search_4 := dk_seg dksX16_search_3 24 rfl rfl
theorem dX16_search_0 : decode cX16_search 0 = .ok (.aload_n 1, 1) := dk_43 (dk_at dksX16_search_0 0 rfl rfl)
theorem dX16_search_1 : decode cX16_search 1 = .ok (.getfield 7, 3) := dk_180 0 7 (dk_at dksX16_search_0 1 rfl rfl)
theorem dX16_search_4 : decode cX16_search 4 = .ok (.iload_n 2, 1) := dk_28 (dk_at dksX16_search_0 4 rfl rfl)
theorem dX16_search_5 : decode cX16_search 5 = .ok (.invokeinterface 25 2, 5) := by decide +kernel
theorem dX16_search_10 : decode cX16_search 10 = .ok (.checkcast 29, 3) := dk_192 0 29 (dk_at dksX16_search_0 10 rfl rfl)
theorem dX16_search_13 : decode cX16_search 13 = .ok (.astore_n 3, 1) := dk_78 (dk_at dksX16_search_0 13 rfl rfl)
theorem dX16_search_14 : decode cX16_search 14 = .ok (.aload_n 3, 1) := dk_45 (dk_at dksX16_search_0 14 rfl rfl)
theorem dX16_search_15 : decode cX16_search 15 = .ok (.getfield 31, 3) := dk_180 0 31 (dk_at dksX16_search_0 15 rfl rfl)
theorem dX16_search_18 : decode cX16_search 18 = .ok (.astore 4, 2) := dk_58 4 (dk_at dksX16_search_0 18 rfl rfl)
theorem dX16_search_20 : decode cX16_search 20 = .ok (.iconst 0, 1) := dk_3 (dk_at dksX16_search_0 20 rfl rfl)
theorem dX16_search_21 : decode cX16_search 21 = .ok (.istore 5, 2) := dk_54 5 (dk_at dksX16_search_0 21 rfl rfl)
theorem dX16_search_23 : decode cX16_search 23 = .ok (.iload_n 2, 1) := dk_28 (dk_at dksX16_search_0 23 rfl rfl)
theorem dX16_search_24 : decode cX16_search 24 = .ok (.istore 6, 2) := dk_54 6 (dk_at dksX16_search_1 0 rfl rfl)
theorem dX16_search_26 : decode cX16_search 26 = .ok (.iload 6, 2) := dk_21 6 (dk_at dksX16_search_1 2 rfl rfl)
theorem dX16_search_28 : decode cX16_search 28 = .ok (.aload_n 1, 1) := dk_43 (dk_at dksX16_search_1 4 rfl rfl)
theorem dX16_search_29 : decode cX16_search 29 = .ok (.getfield 7, 3) := dk_180 0 7 (dk_at dksX16_search_1 5 rfl rfl)
theorem dX16_search_32 : decode cX16_search 32 = .ok (.invokeinterface 13 1, 5) := by decide +kernel
theorem dX16_search_37 : decode cX16_search 37 = .ok (.if_icmp .ge 74, 3) := dk_162 0 74 (dk_at dksX16_search_1 13 rfl rfl)
theorem dX16_search_40 : decode cX16_search 40 = .ok (.aload_n 1, 1) := dk_43 (dk_at dksX16_search_1 16 rfl rfl)
theorem dX16_search_41 : decode cX16_search 41 = .ok (.getfield 7, 3) := dk_180 0 7 (dk_at dksX16_search_1 17 rfl rfl)
theorem dX16_search_44 : decode cX16_search 44 = .ok (.iload 6, 2) := dk_21 6 (dk_at dksX16_search_1 20 rfl rfl)
theorem dX16_search_46 : decode cX16_search 46 = .ok (.invokeinterface 25 2, 5) := by decide +kernel
theorem dX16_search_51 : decode cX16_search 51 = .ok (.checkcast 29, 3) := dk_192 0 29 (dk_at dksX16_search_2 5 rfl rfl)
theorem dX16_search_54 : decode cX16_search 54 = .ok (.astore 7, 2) := dk_58 7 (dk_at dksX16_search_2 8 rfl rfl)
theorem dX16_search_56 : decode cX16_search 56 = .ok (.aload 7, 2) := dk_25 7 (dk_at dksX16_search_2 10 rfl rfl)
theorem dX16_search_58 : decode cX16_search 58 = .ok (.getfield 35, 3) := dk_180 0 35 (dk_at dksX16_search_2 12 rfl rfl)
theorem dX16_search_61 : decode cX16_search 61 = .ok (.aload_n 3, 1) := dk_45 (dk_at dksX16_search_2 15 rfl rfl)
theorem dX16_search_62 : decode cX16_search 62 = .ok (.getfield 35, 3) := dk_180 0 35 (dk_at dksX16_search_2 16 rfl rfl)
theorem dX16_search_65 : decode cX16_search 65 = .ok (.iload 5, 2) := dk_21 5 (dk_at dksX16_search_2 19 rfl rfl)
theorem dX16_search_67 : decode cX16_search 67 = .ok (.iadd, 1) := dk_96 (dk_at dksX16_search_2 21 rfl rfl)
theorem dX16_search_68 : decode cX16_search 68 = .ok (.if_icmp .eq 4, 3) := dk_159 0 4 (dk_at dksX16_search_3 0 rfl rfl)
theorem dX16_search_71 : decode cX16_search 71 = .ok (.return_, 1) := dk_177 (dk_at dksX16_search_3 3 rfl rfl)
theorem dX16_search_72 : decode cX16_search 72 = .ok (.iload 5, 2) := dk_21 5 (dk_at dksX16_search_3 4 rfl rfl)
theorem dX16_search_74 : decode cX16_search 74 = .ok (.aload 7, 2) := dk_25 7 (dk_at dksX16_search_3 6 rfl rfl)
theorem dX16_search_76 : decode cX16_search 76 = .ok (.invokevirtual 39, 3) := dk_182 0 39 (dk_at dksX16_search_3 8 rfl rfl)
theorem dX16_search_79 : decode cX16_search 79 = .ok (.iadd, 1) := dk_96 (dk_at dksX16_search_3 11 rfl rfl)
theorem dX16_search_80 : decode cX16_search 80 = .ok (.istore 5, 2) := dk_54 5 (dk_at dksX16_search_3 12 rfl rfl)
theorem dX16_search_82 : decode cX16_search 82 = .ok (.aload 4, 2) := dk_25 4 (dk_at dksX16_search_3 14 rfl rfl)
theorem dX16_search_84 : decode cX16_search 84 = .ok (.aload 7, 2) := dk_25 7 (dk_at dksX16_search_3 16 rfl rfl)
theorem dX16_search_86 : decode cX16_search 86 = .ok (.getfield 31, 3) := dk_180 0 31 (dk_at dksX16_search_3 18 rfl rfl)
theorem dX16_search_89 : decode cX16_search 89 = .ok (.getstatic 42, 3) := dk_178 0 42 (dk_at dksX16_search_3 21 rfl rfl)
theorem dX16_search_92 : decode cX16_search 92 = .ok (.invokevirtual 48, 3) := dk_182 0 48 (dk_at dksX16_search_4 0 rfl rfl)
theorem dX16_search_95 : decode cX16_search 95 = .ok (.astore 4, 2) := dk_58 4 (dk_at dksX16_search_4 3 rfl rfl)
theorem dX16_search_97 : decode cX16_search 97 = .ok (.aload_n 0, 1) := dk_42 (dk_at dksX16_search_4 5 rfl rfl)
theorem dX16_search_98 : decode cX16_search 98 = .ok (.aload 4, 2) := dk_25 4 (dk_at dksX16_search_4 6 rfl rfl)
theorem dX16_search_100 : decode cX16_search 100 = .ok (.iload 5, 2) := dk_21 5 (dk_at dksX16_search_4 8 rfl rfl)
theorem dX16_search_102 : decode cX16_search 102 = .ok (.invokevirtual 54, 3) := dk_182 0 54 (dk_at dksX16_search_4 10 rfl rfl)
theorem dX16_search_105 : decode cX16_search 105 = .ok (.iinc 6 1, 3) := dk_132 6 1 (dk_at dksX16_search_4 13 rfl rfl)
theorem dX16_search_108 : decode cX16_search 108 = .ok (.goto (-82), 3) := dk_167 255 174 (dk_at dksX16_search_4 16 rfl rfl)
theorem dX16_search_111 : decode cX16_search 111 = .ok (.return_, 1) := dk_177 (dk_at dksX16_search_4 19 rfl rfl)
abbrev cX16_measure : ByteArray := prog_15_method_3_code
def yX16_measure : MethodName := ⟨RX16, "measure", "(LPolygonBoard$Spans;I)V"⟩
def dkwX16_measure_2 : List UInt8 := [181, 0, 72, 132, 3, 1, 167, 255, 207, 177]
abbrev dktX16_measure_2 : List UInt8 := dkwX16_measure_2 ++ []
def dkwX16_measure_1 : List UInt8 := [184, 0, 66, 181, 0, 59, 42, 42, 180, 0, 72, 28, 43, 29, 182, 0, 62, 184, 0, 75, 184, 0, 66]
abbrev dktX16_measure_1 : List UInt8 := dkwX16_measure_1 ++ dktX16_measure_2
def dkwX16_measure_0 : List UInt8 := [3, 62, 29, 43, 182, 0, 58, 162, 0, 47, 42, 42, 180, 0, 59, 28, 43, 29, 182, 0, 62, 104]
abbrev dktX16_measure_0 : List UInt8 := dkwX16_measure_0 ++ dktX16_measure_1
theorem dksX16_measure_0 : cX16_measure.data.toList.drop 0 = dktX16_measure_0 := by decide +kernel
theorem dksX16_measure_1 : cX16_measure.data.toList.drop 22 = dktX16_measure_1 := dk_seg dksX16_measure_0 22 rfl rfl
theorem dksX16_measure_2 : cX16_measure.data.toList.drop 45 = dktX16_measure_2 := dk_seg dksX16_measure_1 23 rfl rfl
theorem dX16_measure_0 : decode cX16_measure 0 = .ok (.iconst 0, 1) := dk_3 (dk_at dksX16_measure_0 0 rfl rfl)
theorem dX16_measure_1 : decode cX16_measure 1 = .ok (.istore_n 3, 1) := dk_62 (dk_at dksX16_measure_0 1 rfl rfl)
theorem dX16_measure_2 : decode cX16_measure 2 = .ok (.iload_n 3, 1) := dk_29 (dk_at dksX16_measure_0 2 rfl rfl)
theorem dX16_measure_3 : decode cX16_measure 3 = .ok (.aload_n 1, 1) := dk_43 (dk_at dksX16_measure_0 3 rfl rfl)
theorem dX16_measure_4 : decode cX16_measure 4 = .ok (.invokevirtual 58, 3) := dk_182 0 58 (dk_at dksX16_measure_0 4 rfl rfl)
theorem dX16_measure_7 : decode cX16_measure 7 = .ok (.if_icmp .ge 47, 3) := dk_162 0 47 (dk_at dksX16_measure_0 7 rfl rfl)
theorem dX16_measure_10 : decode cX16_measure 10 = .ok (.aload_n 0, 1) := dk_42 (dk_at dksX16_measure_0 10 rfl rfl)
theorem dX16_measure_11 : decode cX16_measure 11 = .ok (.aload_n 0, 1) := dk_42 (dk_at dksX16_measure_0 11 rfl rfl)
theorem dX16_measure_12 : decode cX16_measure 12 = .ok (.getfield 59, 3) := dk_180 0 59 (dk_at dksX16_measure_0 12 rfl rfl)
theorem dX16_measure_15 : decode cX16_measure 15 = .ok (.iload_n 2, 1) := dk_28 (dk_at dksX16_measure_0 15 rfl rfl)
theorem dX16_measure_16 : decode cX16_measure 16 = .ok (.aload_n 1, 1) := dk_43 (dk_at dksX16_measure_0 16 rfl rfl)
theorem dX16_measure_17 : decode cX16_measure 17 = .ok (.iload_n 3, 1) := dk_29 (dk_at dksX16_measure_0 17 rfl rfl)
theorem dX16_measure_18 : decode cX16_measure 18 = .ok (.invokevirtual 62, 3) := dk_182 0 62 (dk_at dksX16_measure_0 18 rfl rfl)
theorem dX16_measure_21 : decode cX16_measure 21 = .ok (.imul, 1) := dk_104 (dk_at dksX16_measure_0 21 rfl rfl)
theorem dX16_measure_22 : decode cX16_measure 22 = .ok (.invokestatic 66, 3) := dk_184 0 66 (dk_at dksX16_measure_1 0 rfl rfl)
theorem dX16_measure_25 : decode cX16_measure 25 = .ok (.putfield 59, 3) := dk_181 0 59 (dk_at dksX16_measure_1 3 rfl rfl)
theorem dX16_measure_28 : decode cX16_measure 28 = .ok (.aload_n 0, 1) := dk_42 (dk_at dksX16_measure_1 6 rfl rfl)
theorem dX16_measure_29 : decode cX16_measure 29 = .ok (.aload_n 0, 1) := dk_42 (dk_at dksX16_measure_1 7 rfl rfl)
theorem dX16_measure_30 : decode cX16_measure 30 = .ok (.getfield 72, 3) := dk_180 0 72 (dk_at dksX16_measure_1 8 rfl rfl)
theorem dX16_measure_33 : decode cX16_measure 33 = .ok (.iload_n 2, 1) := dk_28 (dk_at dksX16_measure_1 11 rfl rfl)
theorem dX16_measure_34 : decode cX16_measure 34 = .ok (.aload_n 1, 1) := dk_43 (dk_at dksX16_measure_1 12 rfl rfl)
theorem dX16_measure_35 : decode cX16_measure 35 = .ok (.iload_n 3, 1) := dk_29 (dk_at dksX16_measure_1 13 rfl rfl)
theorem dX16_measure_36 : decode cX16_measure 36 = .ok (.invokevirtual 62, 3) := dk_182 0 62 (dk_at dksX16_measure_1 14 rfl rfl)
theorem dX16_measure_39 : decode cX16_measure 39 = .ok (.invokestatic 75, 3) := dk_184 0 75 (dk_at dksX16_measure_1 17 rfl rfl)
theorem dX16_measure_42 : decode cX16_measure 42 = .ok (.invokestatic 66, 3) := dk_184 0 66 (dk_at dksX16_measure_1 20 rfl rfl)
theorem dX16_measure_45 : decode cX16_measure 45 = .ok (.putfield 72, 3) := dk_181 0 72 (dk_at dksX16_measure_2 0 rfl rfl)
theorem dX16_measure_48 : decode cX16_measure 48 = .ok (.iinc 3 1, 3) := dk_132 3 1 (dk_at dksX16_measure_2 3 rfl rfl)
theorem dX16_measure_51 : decode cX16_measure 51 = .ok (.goto (-49), 3) := dk_167 255 207 (dk_at dksX16_measure_2 6 rfl rfl)
theorem dX16_measure_54 : decode cX16_measure 54 = .ok (.return_, 1) := dk_177 (dk_at dksX16_measure_2 9 rfl rfl)
theorem q89 : (Jvm.Cond.initialized "PolygonBoard$RangeSearch") ∈ lw_all := lw_g (lw_at lw_m1 39 rfl) rfl
theorem q138 : (Jvm.Cond.fieldLinkNest "PolygonBoard$RangeSearch" (7 : Nat) "PolygonBoard$Region" "bands" "Ljava/util/List;" "PolygonBoard") ∈ lw_tbl := lw_at lw_m1 88 rfl
theorem q196 : (Jvm.Cond.selects "PolygonBoard$RangeSearch" ({ cls := "java/lang/Object", name := "getClass", desc := "()Ljava/lang/Class;" } : Jvm.MethodName) ({ cls := "java/lang/Object", name := "getClass", desc := "()Ljava/lang/Class;" } : Jvm.MethodName)) ∈ lw_all := lw_g (lw_at lw_m1 146 rfl) rfl
theorem q463 : (Jvm.Cond.fieldLinkNest "PolygonBoard$RangeSearch" (35 : Nat) "PolygonBoard$Band" "low" "I" "PolygonBoard") ∈ lw_tbl := lw_at lw_m2 173 rfl
theorem q466 : (Jvm.Cond.fieldLinkNest "PolygonBoard$RangeSearch" (31 : Nat) "PolygonBoard$Band" "spans" "LPolygonBoard$Spans;" "PolygonBoard") ∈ lw_tbl := lw_at lw_m2 176 rfl
theorem q1401 : (Jvm.Cond.instantiable "PolygonBoard$RangeSearch" (2 : Nat)) ∈ lw_all := lw_g (lw_at lw_m6 151 rfl) rfl
theorem q1403 : (Jvm.Cond.instanceMethod ({ cls := "PolygonBoard$RangeSearch", name := "<init>", desc := "(LPolygonBoard$Region;)V" } : Jvm.MethodName)) ∈ lw_all := lw_g (lw_at lw_m6 153 rfl) rfl
theorem q1404 : (Jvm.Cond.code ({ cls := "PolygonBoard$RangeSearch", name := "<init>", desc := "(LPolygonBoard$Region;)V" } : Jvm.MethodName) prog_15_method_1_code (3 : Nat) (Option.none : Option Jvm.ClassFile.FieldType)) ∈ lw_all := lw_g (lw_at lw_m6 154 rfl) rfl
theorem q1405 : (Jvm.Cond.methodLink "PolygonBoard$RangeSearch" (1 : Nat) ({ cls := "java/lang/Object", name := "<init>", desc := "()V" } : Jvm.MethodName)) ∈ lw_all := lw_g (lw_at lw_m6 155 rfl) rfl
theorem q1406 : (Jvm.Cond.interfaceEntry "PolygonBoard$RangeSearch" (13 : Nat)) ∈ lw_tbl := lw_at lw_m6 156 rfl
theorem q1407 : (Jvm.Cond.methodLink "PolygonBoard$RangeSearch" (13 : Nat) ({ cls := "java/util/List", name := "size", desc := "()I" } : Jvm.MethodName)) ∈ lw_all := lw_g (lw_at lw_m6 157 rfl) rfl
theorem q1408 : (Jvm.Cond.methodLink "PolygonBoard$RangeSearch" (19 : Nat) ({ cls := "PolygonBoard$RangeSearch", name := "search", desc := "(LPolygonBoard$Region;I)V" } : Jvm.MethodName)) ∈ lw_all := lw_g (lw_at lw_m6 158 rfl) rfl
theorem q1409 : (Jvm.Cond.privateMethod ({ cls := "PolygonBoard$RangeSearch", name := "search", desc := "(LPolygonBoard$Region;I)V" } : Jvm.MethodName)) ∈ lw_tbl := lw_at lw_m6 159 rfl
theorem q1410 : (Jvm.Cond.instanceMethod ({ cls := "PolygonBoard$RangeSearch", name := "search", desc := "(LPolygonBoard$Region;I)V" } : Jvm.MethodName)) ∈ lw_all := lw_g (lw_at lw_m6 160 rfl) rfl
theorem q1411 : (Jvm.Cond.code ({ cls := "PolygonBoard$RangeSearch", name := "search", desc := "(LPolygonBoard$Region;I)V" } : Jvm.MethodName) prog_15_method_2_code (8 : Nat) (Option.none : Option Jvm.ClassFile.FieldType)) ∈ lw_all := lw_g (lw_at lw_m6 161 rfl) rfl
theorem q1412 : (Jvm.Cond.interfaceEntry "PolygonBoard$RangeSearch" (25 : Nat)) ∈ lw_tbl := lw_at lw_m6 162 rfl
theorem q1413 : (Jvm.Cond.methodLink "PolygonBoard$RangeSearch" (25 : Nat) ({ cls := "java/util/List", name := "get", desc := "(I)Ljava/lang/Object;" } : Jvm.MethodName)) ∈ lw_all := lw_g (lw_at lw_m6 163 rfl) rfl
theorem q1414 : (Jvm.Cond.classLink "PolygonBoard$RangeSearch" (29 : Nat) "PolygonBoard$Band") ∈ lw_all := lw_g (lw_at lw_m6 164 rfl) rfl
theorem q1415 : (Jvm.Cond.methodLink "PolygonBoard$RangeSearch" (39 : Nat) ({ cls := "PolygonBoard$Band", name := "height", desc := "()I" } : Jvm.MethodName)) ∈ lw_all := lw_g (lw_at lw_m6 165 rfl) rfl
theorem q1416 : (Jvm.Cond.fieldLink "PolygonBoard$RangeSearch" (42 : Nat) "PolygonBoard$Operation" "INTERSECTION" "LPolygonBoard$Operation;") ∈ lw_all := lw_g (lw_at lw_m6 166 rfl) rfl
theorem q1417 : (Jvm.Cond.methodLink "PolygonBoard$RangeSearch" (48 : Nat) ({ cls := "PolygonBoard$Spans", name := "combine", desc := "(LPolygonBoard$Spans;LPolygonBoard$Operation;)LPolygonBoard$Spans;" } : Jvm.MethodName)) ∈ lw_all := lw_g (lw_at lw_m6 167 rfl) rfl
theorem q1418 : (Jvm.Cond.methodLink "PolygonBoard$RangeSearch" (54 : Nat) ({ cls := "PolygonBoard$RangeSearch", name := "measure", desc := "(LPolygonBoard$Spans;I)V" } : Jvm.MethodName)) ∈ lw_all := lw_g (lw_at lw_m6 168 rfl) rfl
theorem q1419 : (Jvm.Cond.privateMethod ({ cls := "PolygonBoard$RangeSearch", name := "measure", desc := "(LPolygonBoard$Spans;I)V" } : Jvm.MethodName)) ∈ lw_tbl := lw_at lw_m6 169 rfl
theorem q1420 : (Jvm.Cond.instanceMethod ({ cls := "PolygonBoard$RangeSearch", name := "measure", desc := "(LPolygonBoard$Spans;I)V" } : Jvm.MethodName)) ∈ lw_all := lw_g (lw_at lw_m6 170 rfl) rfl
theorem q1421 : (Jvm.Cond.code ({ cls := "PolygonBoard$RangeSearch", name := "measure", desc := "(LPolygonBoard$Spans;I)V" } : Jvm.MethodName) prog_15_method_3_code (4 : Nat) (Option.none : Option Jvm.ClassFile.FieldType)) ∈ lw_all := lw_g (lw_at lw_m6 171 rfl) rfl
theorem q1422 : (Jvm.Cond.methodLink "PolygonBoard$RangeSearch" (58 : Nat) ({ cls := "PolygonBoard$Spans", name := "size", desc := "()I" } : Jvm.MethodName)) ∈ lw_all := lw_g (lw_at lw_m6 172 rfl) rfl
theorem q1423 : (Jvm.Cond.methodLink "PolygonBoard$RangeSearch" (62 : Nat) ({ cls := "PolygonBoard$Spans", name := "width", desc := "(I)I" } : Jvm.MethodName)) ∈ lw_all := lw_g (lw_at lw_m6 173 rfl) rfl
theorem q1424 : (Jvm.Cond.methodLink "PolygonBoard$RangeSearch" (66 : Nat) ({ cls := "java/lang/Math", name := "max", desc := "(II)I" } : Jvm.MethodName)) ∈ lw_all := lw_g (lw_at lw_m6 174 rfl) rfl
theorem q1425 : (Jvm.Cond.methodLink "PolygonBoard$RangeSearch" (75 : Nat) ({ cls := "java/lang/Math", name := "min", desc := "(II)I" } : Jvm.MethodName)) ∈ lw_all := lw_g (lw_at lw_m6 175 rfl) rfl
theorem q1426 : (Jvm.Cond.fieldLink "PolygonBoard$RangeSearch" (59 : Nat) "PolygonBoard$RangeSearch" "largestArea" "I") ∈ lw_all := lw_g (lw_at lw_m6 176 rfl) rfl
theorem q1428 : (Jvm.Cond.fieldLink "PolygonBoard$RangeSearch" (72 : Nat) "PolygonBoard$RangeSearch" "largestSide" "I") ∈ lw_all := lw_g (lw_at lw_m6 178 rfl) rfl
theorem q1430 : (Jvm.Cond.lays "PolygonBoard$RangeSearch" "PolygonBoard$RangeSearch" "largestArea" "I") ∈ lw_all := lw_g (lw_at lw_m6 180 rfl) rfl
theorem q1431 : (Jvm.Cond.soleField "PolygonBoard$RangeSearch" "largestArea") ∈ lw_all := lw_g (lw_at lw_m6 181 rfl) rfl
theorem q1432 : (Jvm.Cond.lays "PolygonBoard$RangeSearch" "PolygonBoard$RangeSearch" "largestSide" "I") ∈ lw_all := lw_g (lw_at lw_m6 182 rfl) rfl
theorem q1433 : (Jvm.Cond.soleField "PolygonBoard$RangeSearch" "largestSide") ∈ lw_all := lw_g (lw_at lw_m6 183 rfl) rfl
theorem q1434 : (Jvm.Cond.superclass "PolygonBoard$RangeSearch" "java/lang/Object") ∈ lw_all := lw_g (lw_at lw_m6 184 rfl) rfl
theorem q2151 : (Jvm.Cond.castable "PolygonBoard$RangeSearch" "java/lang/Object") ∈ lw_tbl := lw_at lw_m9 181 rfl
theorem in_X16 : ∀ w ∈ wsX160, w ∈ lw_all := lw_in wsX160 [1430, 1432] (by decide +kernel) (by decide +kernel)
/-! PolygonBoard$MiddleScan -/
set_option maxRecDepth 100000
def RX17 : String := "PolygonBoard$MiddleScan"
def TX17 : u_T := fun k => match k with
  | 0 => ("PolygonBoard$Scan", "rectangles", "I", false)
  | 1 => ("PolygonBoard$MiddleScan", "sumX", "I", false)
  | 2 => ("PolygonBoard$MiddleScan", "sumY", "I", false)
  | _ => ("PolygonBoard$MiddleScan", "area", "I", false)
def tyX17 : Nat → FieldType := fun k => match k with
  | 0 => .int
  | 1 => .int
  | 2 => .int
  | _ => .int
abbrev wsX170 : List Cond := u_ws RX17 TX17 4
theorem nmX17 : ∀ a, a < 4 → ∀ b, b < 4 → a ≠ b → (TX17 a).2.1 ≠ (TX17 b).2.1 := by decide +kernel
theorem tyX17_ok : ∀ k, k < 4 → parseFieldDescriptor (TX17 k).2.2.1 = some (tyX17 k) := by decide +kernel
abbrev cX17_visit : ByteArray := prog_5_method_2_code
def yX17_visit : MethodName := ⟨RX17, "visit", "(IIII)V"⟩
def dkwX17_visit_2 : List UInt8 := [96, 181, 0, 17, 42, 89, 180, 0, 20, 29, 27, 100, 21, 4, 28, 100, 104, 96, 181, 0, 20, 177]
abbrev dktX17_visit_2 : List UInt8 := dkwX17_visit_2 ++ []
def dkwX17_visit_1 : List UInt8 := [100, 104, 96, 181, 0, 11, 42, 89, 180, 0, 17, 21, 4, 21, 4, 104, 28, 28, 104, 100, 29, 27, 100, 104]
abbrev dktX17_visit_1 : List UInt8 := dkwX17_visit_1 ++ dktX17_visit_2
def dkwX17_visit_0 : List UInt8 := [42, 27, 28, 29, 21, 4, 183, 0, 7, 42, 89, 180, 0, 11, 29, 29, 104, 27, 27, 104, 100, 21, 4, 28]
abbrev dktX17_visit_0 : List UInt8 := dkwX17_visit_0 ++ dktX17_visit_1
theorem dksX17_visit_0 : cX17_visit.data.toList.drop 0 = dktX17_visit_0 := by decide +kernel
theorem dksX17_visit_1 : cX17_visit.data.toList.drop 24 = dktX17_visit_1 := dk_seg dksX17_visit_0 24 rfl rfl
theorem dksX17_visit_2 : cX17_visit.data.toList.drop 48 = dktX17_visit_2 := dk_seg dksX17_visit_1 24 rfl rfl
theorem dX17_visit_0 : decode cX17_visit 0 = .ok (.aload_n 0, 1) := dk_42 (dk_at dksX17_visit_0 0 rfl rfl)
theorem dX17_visit_1 : decode cX17_visit 1 = .ok (.iload_n 1, 1) := dk_27 (dk_at dksX17_visit_0 1 rfl rfl)
theorem dX17_visit_2 : decode cX17_visit 2 = .ok (.iload_n 2, 1) := dk_28 (dk_at dksX17_visit_0 2 rfl rfl)
theorem dX17_visit_3 : decode cX17_visit 3 = .ok (.iload_n 3, 1) := dk_29 (dk_at dksX17_visit_0 3 rfl rfl)
theorem dX17_visit_4 : decode cX17_visit 4 = .ok (.iload 4, 2) := dk_21 4 (dk_at dksX17_visit_0 4 rfl rfl)
theorem dX17_visit_6 : decode cX17_visit 6 = .ok (.invokespecial 7, 3) := dk_183 0 7 (dk_at dksX17_visit_0 6 rfl rfl)
theorem dX17_visit_9 : decode cX17_visit 9 = .ok (.aload_n 0, 1) := dk_42 (dk_at dksX17_visit_0 9 rfl rfl)
theorem dX17_visit_10 : decode cX17_visit 10 = .ok (.dup, 1) := dk_89 (dk_at dksX17_visit_0 10 rfl rfl)
theorem dX17_visit_11 : decode cX17_visit 11 = .ok (.getfield 11, 3) := dk_180 0 11 (dk_at dksX17_visit_0 11 rfl rfl)
theorem dX17_visit_14 : decode cX17_visit 14 = .ok (.iload_n 3, 1) := dk_29 (dk_at dksX17_visit_0 14 rfl rfl)
theorem dX17_visit_15 : decode cX17_visit 15 = .ok (.iload_n 3, 1) := dk_29 (dk_at dksX17_visit_0 15 rfl rfl)
theorem dX17_visit_16 : decode cX17_visit 16 = .ok (.imul, 1) := dk_104 (dk_at dksX17_visit_0 16 rfl rfl)
theorem dX17_visit_17 : decode cX17_visit 17 = .ok (.iload_n 1, 1) := dk_27 (dk_at dksX17_visit_0 17 rfl rfl)
theorem dX17_visit_18 : decode cX17_visit 18 = .ok (.iload_n 1, 1) := dk_27 (dk_at dksX17_visit_0 18 rfl rfl)
theorem dX17_visit_19 : decode cX17_visit 19 = .ok (.imul, 1) := dk_104 (dk_at dksX17_visit_0 19 rfl rfl)
theorem dX17_visit_20 : decode cX17_visit 20 = .ok (.isub, 1) := dk_100 (dk_at dksX17_visit_0 20 rfl rfl)
theorem dX17_visit_21 : decode cX17_visit 21 = .ok (.iload 4, 2) := dk_21 4 (dk_at dksX17_visit_0 21 rfl rfl)
theorem dX17_visit_23 : decode cX17_visit 23 = .ok (.iload_n 2, 1) := dk_28 (dk_at dksX17_visit_0 23 rfl rfl)
theorem dX17_visit_24 : decode cX17_visit 24 = .ok (.isub, 1) := dk_100 (dk_at dksX17_visit_1 0 rfl rfl)
theorem dX17_visit_25 : decode cX17_visit 25 = .ok (.imul, 1) := dk_104 (dk_at dksX17_visit_1 1 rfl rfl)
theorem dX17_visit_26 : decode cX17_visit 26 = .ok (.iadd, 1) := dk_96 (dk_at dksX17_visit_1 2 rfl rfl)
theorem dX17_visit_27 : decode cX17_visit 27 = .ok (.putfield 11, 3) := dk_181 0 11 (dk_at dksX17_visit_1 3 rfl rfl)
theorem dX17_visit_30 : decode cX17_visit 30 = .ok (.aload_n 0, 1) := dk_42 (dk_at dksX17_visit_1 6 rfl rfl)
theorem dX17_visit_31 : decode cX17_visit 31 = .ok (.dup, 1) := dk_89 (dk_at dksX17_visit_1 7 rfl rfl)
theorem dX17_visit_32 : decode cX17_visit 32 = .ok (.getfield 17, 3) := dk_180 0 17 (dk_at dksX17_visit_1 8 rfl rfl)
theorem dX17_visit_35 : decode cX17_visit 35 = .ok (.iload 4, 2) := dk_21 4 (dk_at dksX17_visit_1 11 rfl rfl)
theorem dX17_visit_37 : decode cX17_visit 37 = .ok (.iload 4, 2) := dk_21 4 (dk_at dksX17_visit_1 13 rfl rfl)
theorem dX17_visit_39 : decode cX17_visit 39 = .ok (.imul, 1) := dk_104 (dk_at dksX17_visit_1 15 rfl rfl)
theorem dX17_visit_40 : decode cX17_visit 40 = .ok (.iload_n 2, 1) := dk_28 (dk_at dksX17_visit_1 16 rfl rfl)
theorem dX17_visit_41 : decode cX17_visit 41 = .ok (.iload_n 2, 1) := dk_28 (dk_at dksX17_visit_1 17 rfl rfl)
theorem dX17_visit_42 : decode cX17_visit 42 = .ok (.imul, 1) := dk_104 (dk_at dksX17_visit_1 18 rfl rfl)
theorem dX17_visit_43 : decode cX17_visit 43 = .ok (.isub, 1) := dk_100 (dk_at dksX17_visit_1 19 rfl rfl)
theorem dX17_visit_44 : decode cX17_visit 44 = .ok (.iload_n 3, 1) := dk_29 (dk_at dksX17_visit_1 20 rfl rfl)
theorem dX17_visit_45 : decode cX17_visit 45 = .ok (.iload_n 1, 1) := dk_27 (dk_at dksX17_visit_1 21 rfl rfl)
theorem dX17_visit_46 : decode cX17_visit 46 = .ok (.isub, 1) := dk_100 (dk_at dksX17_visit_1 22 rfl rfl)
theorem dX17_visit_47 : decode cX17_visit 47 = .ok (.imul, 1) := dk_104 (dk_at dksX17_visit_1 23 rfl rfl)
theorem dX17_visit_48 : decode cX17_visit 48 = .ok (.iadd, 1) := dk_96 (dk_at dksX17_visit_2 0 rfl rfl)
theorem dX17_visit_49 : decode cX17_visit 49 = .ok (.putfield 17, 3) := dk_181 0 17 (dk_at dksX17_visit_2 1 rfl rfl)
theorem dX17_visit_52 : decode cX17_visit 52 = .ok (.aload_n 0, 1) := dk_42 (dk_at dksX17_visit_2 4 rfl rfl)
theorem dX17_visit_53 : decode cX17_visit 53 = .ok (.dup, 1) := dk_89 (dk_at dksX17_visit_2 5 rfl rfl)
theorem dX17_visit_54 : decode cX17_visit 54 = .ok (.getfield 20, 3) := dk_180 0 20 (dk_at dksX17_visit_2 6 rfl rfl)
theorem dX17_visit_57 : decode cX17_visit 57 = .ok (.iload_n 3, 1) := dk_29 (dk_at dksX17_visit_2 9 rfl rfl)
theorem dX17_visit_58 : decode cX17_visit 58 = .ok (.iload_n 1, 1) := dk_27 (dk_at dksX17_visit_2 10 rfl rfl)
theorem dX17_visit_59 : decode cX17_visit 59 = .ok (.isub, 1) := dk_100 (dk_at dksX17_visit_2 11 rfl rfl)
theorem dX17_visit_60 : decode cX17_visit 60 = .ok (.iload 4, 2) := dk_21 4 (dk_at dksX17_visit_2 12 rfl rfl)
theorem dX17_visit_62 : decode cX17_visit 62 = .ok (.iload_n 2, 1) := dk_28 (dk_at dksX17_visit_2 14 rfl rfl)
theorem dX17_visit_63 : decode cX17_visit 63 = .ok (.isub, 1) := dk_100 (dk_at dksX17_visit_2 15 rfl rfl)
theorem dX17_visit_64 : decode cX17_visit 64 = .ok (.imul, 1) := dk_104 (dk_at dksX17_visit_2 16 rfl rfl)
theorem dX17_visit_65 : decode cX17_visit 65 = .ok (.iadd, 1) := dk_96 (dk_at dksX17_visit_2 17 rfl rfl)
theorem dX17_visit_66 : decode cX17_visit 66 = .ok (.putfield 20, 3) := dk_181 0 20 (dk_at dksX17_visit_2 18 rfl rfl)
theorem dX17_visit_69 : decode cX17_visit 69 = .ok (.return_, 1) := dk_177 (dk_at dksX17_visit_2 21 rfl rfl)
abbrev cX17_init : ByteArray := prog_5_method_1_code
def yX17_init : MethodName := ⟨RX17, "<init>", "()V"⟩
theorem dX17_init_0 : decode cX17_init 0 = .ok (.aload_n 0, 1) := by decide +kernel
theorem dX17_init_1 : decode cX17_init 1 = .ok (.invokespecial 1, 3) := by decide +kernel
theorem dX17_init_4 : decode cX17_init 4 = .ok (.return_, 1) := by decide +kernel
abbrev cX17_middle : ByteArray := prog_5_method_3_code
def yX17_middle : MethodName := ⟨RX17, "middle", "(I)D"⟩
def dkwX17_middle_0 : List UInt8 := [27, 135, 20, 0, 23, 111, 42, 180, 0, 20, 135, 111, 175]
abbrev dktX17_middle_0 : List UInt8 := dkwX17_middle_0 ++ []
theorem dksX17_middle_0 : cX17_middle.data.toList.drop 0 = dktX17_middle_0 := by decide +kernel
theorem dX17_middle_0 : decode cX17_middle 0 = .ok (.iload_n 1, 1) := dk_27 (dk_at dksX17_middle_0 0 rfl rfl)
theorem dX17_middle_1 : decode cX17_middle 1 = .ok (.i2d, 1) := dk_135 (dk_at dksX17_middle_0 1 rfl rfl)
theorem dX17_middle_2 : decode cX17_middle 2 = .ok (.ldc2_w 23, 3) := dk_20 0 23 (dk_at dksX17_middle_0 2 rfl rfl)
theorem dX17_middle_5 : decode cX17_middle 5 = .ok (.ddiv, 1) := dk_111 (dk_at dksX17_middle_0 5 rfl rfl)
theorem dX17_middle_6 : decode cX17_middle 6 = .ok (.aload_n 0, 1) := dk_42 (dk_at dksX17_middle_0 6 rfl rfl)
theorem dX17_middle_7 : decode cX17_middle 7 = .ok (.getfield 20, 3) := dk_180 0 20 (dk_at dksX17_middle_0 7 rfl rfl)
theorem dX17_middle_10 : decode cX17_middle 10 = .ok (.i2d, 1) := dk_135 (dk_at dksX17_middle_0 10 rfl rfl)
theorem dX17_middle_11 : decode cX17_middle 11 = .ok (.ddiv, 1) := dk_111 (dk_at dksX17_middle_0 11 rfl rfl)
theorem dX17_middle_12 : decode cX17_middle 12 = .ok (.dreturn, 1) := dk_175 (dk_at dksX17_middle_0 12 rfl rfl)
theorem q92 : (Jvm.Cond.initialized "PolygonBoard$MiddleScan") ∈ lw_all := lw_g (lw_at lw_m1 42 rfl) rfl
theorem q187 : (Jvm.Cond.selects "PolygonBoard$MiddleScan" ({ cls := "java/lang/Object", name := "getClass", desc := "()Ljava/lang/Class;" } : Jvm.MethodName) ({ cls := "java/lang/Object", name := "getClass", desc := "()Ljava/lang/Class;" } : Jvm.MethodName)) ∈ lw_all := lw_g (lw_at lw_m1 137 rfl) rfl
theorem q603 : (Jvm.Cond.selects "PolygonBoard$MiddleScan" ({ cls := "PolygonBoard$Scan", name := "visit", desc := "(IIII)V" } : Jvm.MethodName) ({ cls := "PolygonBoard$MiddleScan", name := "visit", desc := "(IIII)V" } : Jvm.MethodName)) ∈ lw_all := lw_g (lw_at lw_m3 73 rfl) rfl
theorem q604 : (Jvm.Cond.instanceMethod ({ cls := "PolygonBoard$MiddleScan", name := "visit", desc := "(IIII)V" } : Jvm.MethodName)) ∈ lw_all := lw_g (lw_at lw_m3 74 rfl) rfl
theorem q605 : (Jvm.Cond.code ({ cls := "PolygonBoard$MiddleScan", name := "visit", desc := "(IIII)V" } : Jvm.MethodName) prog_5_method_2_code (5 : Nat) (Option.none : Option Jvm.ClassFile.FieldType)) ∈ lw_all := lw_g (lw_at lw_m3 75 rfl) rfl
theorem q606 : (Jvm.Cond.methodLink "PolygonBoard$MiddleScan" (7 : Nat) ({ cls := "PolygonBoard$Scan", name := "visit", desc := "(IIII)V" } : Jvm.MethodName)) ∈ lw_all := lw_g (lw_at lw_m3 76 rfl) rfl
theorem q607 : (Jvm.Cond.superclass "PolygonBoard$MiddleScan" "PolygonBoard$Scan") ∈ lw_all := lw_g (lw_at lw_m3 77 rfl) rfl
theorem q1686 : (Jvm.Cond.instantiable "PolygonBoard$MiddleScan" (4 : Nat)) ∈ lw_all := lw_g (lw_at lw_m7 196 rfl) rfl
theorem q1688 : (Jvm.Cond.instanceMethod ({ cls := "PolygonBoard$MiddleScan", name := "<init>", desc := "()V" } : Jvm.MethodName)) ∈ lw_all := lw_g (lw_at lw_m7 198 rfl) rfl
theorem q1689 : (Jvm.Cond.code ({ cls := "PolygonBoard$MiddleScan", name := "<init>", desc := "()V" } : Jvm.MethodName) prog_5_method_1_code (1 : Nat) (Option.none : Option Jvm.ClassFile.FieldType)) ∈ lw_all := lw_g (lw_at lw_m7 199 rfl) rfl
theorem q1690 : (Jvm.Cond.methodLinkNest "PolygonBoard$MiddleScan" (1 : Nat) ({ cls := "PolygonBoard$Scan", name := "<init>", desc := "()V" } : Jvm.MethodName) "PolygonBoard") ∈ lw_tbl := lw_at lw_m7 200 rfl
theorem q1691 : (Jvm.Cond.fieldLink "PolygonBoard$MiddleScan" (11 : Nat) "PolygonBoard$MiddleScan" "sumX" "I") ∈ lw_all := lw_g (lw_at lw_m7 201 rfl) rfl
theorem q1693 : (Jvm.Cond.fieldLink "PolygonBoard$MiddleScan" (17 : Nat) "PolygonBoard$MiddleScan" "sumY" "I") ∈ lw_all := lw_g (lw_at lw_m7 203 rfl) rfl
theorem q1695 : (Jvm.Cond.fieldLink "PolygonBoard$MiddleScan" (20 : Nat) "PolygonBoard$MiddleScan" "area" "I") ∈ lw_all := lw_g (lw_at lw_m7 205 rfl) rfl
theorem q1697 : (Jvm.Cond.lays "PolygonBoard$MiddleScan" "PolygonBoard$MiddleScan" "sumX" "I") ∈ lw_all := lw_g (lw_at lw_m7 207 rfl) rfl
theorem q1698 : (Jvm.Cond.soleField "PolygonBoard$MiddleScan" "sumX") ∈ lw_all := lw_g (lw_at lw_m7 208 rfl) rfl
theorem q1699 : (Jvm.Cond.lays "PolygonBoard$MiddleScan" "PolygonBoard$MiddleScan" "sumY" "I") ∈ lw_all := lw_g (lw_at lw_m7 209 rfl) rfl
theorem q1700 : (Jvm.Cond.soleField "PolygonBoard$MiddleScan" "sumY") ∈ lw_all := lw_g (lw_at lw_m7 210 rfl) rfl
theorem q1701 : (Jvm.Cond.lays "PolygonBoard$MiddleScan" "PolygonBoard$MiddleScan" "area" "I") ∈ lw_all := lw_g (lw_at lw_m7 211 rfl) rfl
theorem q1702 : (Jvm.Cond.soleField "PolygonBoard$MiddleScan" "area") ∈ lw_all := lw_g (lw_at lw_m7 212 rfl) rfl
theorem q1703 : (Jvm.Cond.lays "PolygonBoard$MiddleScan" "PolygonBoard$Scan" "rectangles" "I") ∈ lw_all := lw_g (lw_at lw_m7 213 rfl) rfl
theorem q1705 : (Jvm.Cond.sameMethod "PolygonBoard$MiddleScan" "PolygonBoard$Scan" "scan" "(LPolygonBoard$Region;)V") ∈ lw_all := lw_g (lw_at lw_m7 215 rfl) rfl
theorem q1706 : (Jvm.Cond.selects "PolygonBoard$MiddleScan" ({ cls := "PolygonBoard$MiddleScan", name := "scan", desc := "(LPolygonBoard$Region;)V" } : Jvm.MethodName) ({ cls := "PolygonBoard$Scan", name := "scan", desc := "(LPolygonBoard$Region;)V" } : Jvm.MethodName)) ∈ lw_all := lw_g (lw_at lw_m7 216 rfl) rfl
theorem q1713 : (Jvm.Cond.instanceMethod ({ cls := "PolygonBoard$MiddleScan", name := "middle", desc := "(I)D" } : Jvm.MethodName)) ∈ lw_all := lw_g (lw_at lw_m7 223 rfl) rfl
theorem q1714 : (Jvm.Cond.selects "PolygonBoard$MiddleScan" ({ cls := "PolygonBoard$MiddleScan", name := "middle", desc := "(I)D" } : Jvm.MethodName) ({ cls := "PolygonBoard$MiddleScan", name := "middle", desc := "(I)D" } : Jvm.MethodName)) ∈ lw_all := lw_g (lw_at lw_m7 224 rfl) rfl
theorem q1715 : (Jvm.Cond.code ({ cls := "PolygonBoard$MiddleScan", name := "middle", desc := "(I)D" } : Jvm.MethodName) prog_5_method_3_code (2 : Nat) (Option.some Jvm.ClassFile.FieldType.double)) ∈ lw_all := lw_g (lw_at lw_m7 225 rfl) rfl
theorem q1716 : (Jvm.Cond.constantDouble "PolygonBoard$MiddleScan" (23 : Nat) (4611686018427387904 : UInt64)) ∈ lw_all := lw_g (lw_at lw_m7 226 rfl) rfl
theorem q2122 : (Jvm.Cond.selects "PolygonBoard$MiddleScan" ({ cls := "PolygonBoard$Scan", name := "scan", desc := "(LPolygonBoard$Region;)V" } : Jvm.MethodName) ({ cls := "PolygonBoard$Scan", name := "scan", desc := "(LPolygonBoard$Region;)V" } : Jvm.MethodName)) ∈ lw_all := lw_g (lw_at lw_m9 152 rfl) rfl
theorem q2155 : (Jvm.Cond.castable "PolygonBoard$MiddleScan" "java/lang/Object") ∈ lw_tbl := lw_at lw_m9 185 rfl
theorem in_X17 : ∀ w ∈ wsX170, w ∈ lw_all := lw_in wsX170 [1703, 1697, 1699, 1701] (by decide +kernel) (by decide +kernel)
/-! PolygonBoard$Operation$1 -/
set_option maxRecDepth 100000
def RX18 : String := "PolygonBoard$Operation$1"
abbrev cX18_keeps : ByteArray := prog_8_method_2_code
def yX18_keeps : MethodName := ⟨RX18, "keeps", "(ZZ)Z"⟩
def dkwX18_keeps_0 : List UInt8 := [27, 154, 0, 7, 28, 153, 0, 7, 4, 167, 0, 4, 3, 172]
abbrev dktX18_keeps_0 : List UInt8 := dkwX18_keeps_0 ++ []
theorem dksX18_keeps_0 : cX18_keeps.data.toList.drop 0 = dktX18_keeps_0 := by decide +kernel
theorem dX18_keeps_0 : decode cX18_keeps 0 = .ok (.iload_n 1, 1) := dk_27 (dk_at dksX18_keeps_0 0 rfl rfl)
theorem dX18_keeps_1 : decode cX18_keeps 1 = .ok (.ifCond .ne 7, 3) := dk_154 0 7 (dk_at dksX18_keeps_0 1 rfl rfl)
theorem dX18_keeps_4 : decode cX18_keeps 4 = .ok (.iload_n 2, 1) := dk_28 (dk_at dksX18_keeps_0 4 rfl rfl)
theorem dX18_keeps_5 : decode cX18_keeps 5 = .ok (.ifCond .eq 7, 3) := dk_153 0 7 (dk_at dksX18_keeps_0 5 rfl rfl)
theorem dX18_keeps_8 : decode cX18_keeps 8 = .ok (.iconst 1, 1) := dk_4 (dk_at dksX18_keeps_0 8 rfl rfl)
theorem dX18_keeps_9 : decode cX18_keeps 9 = .ok (.goto 4, 3) := dk_167 0 4 (dk_at dksX18_keeps_0 9 rfl rfl)
theorem dX18_keeps_12 : decode cX18_keeps 12 = .ok (.iconst 0, 1) := dk_3 (dk_at dksX18_keeps_0 12 rfl rfl)
theorem dX18_keeps_13 : decode cX18_keeps 13 = .ok (.ireturn, 1) := dk_172 (dk_at dksX18_keeps_0 13 rfl rfl)
theorem q189 : (Jvm.Cond.selects "PolygonBoard$Operation$1" ({ cls := "java/lang/Object", name := "getClass", desc := "()Ljava/lang/Class;" } : Jvm.MethodName) ({ cls := "java/lang/Object", name := "getClass", desc := "()Ljava/lang/Class;" } : Jvm.MethodName)) ∈ lw_all := lw_g (lw_at lw_m1 139 rfl) rfl
theorem q703 : (Jvm.Cond.selects "PolygonBoard$Operation$1" ({ cls := "PolygonBoard$Operation", name := "keeps", desc := "(ZZ)Z" } : Jvm.MethodName) ({ cls := "PolygonBoard$Operation$1", name := "keeps", desc := "(ZZ)Z" } : Jvm.MethodName)) ∈ lw_all := lw_g (lw_at lw_m3 173 rfl) rfl
theorem q704 : (Jvm.Cond.instanceMethod ({ cls := "PolygonBoard$Operation$1", name := "keeps", desc := "(ZZ)Z" } : Jvm.MethodName)) ∈ lw_all := lw_g (lw_at lw_m3 174 rfl) rfl
theorem q705 : (Jvm.Cond.code ({ cls := "PolygonBoard$Operation$1", name := "keeps", desc := "(ZZ)Z" } : Jvm.MethodName) prog_8_method_2_code (3 : Nat) (Option.some Jvm.ClassFile.FieldType.boolean)) ∈ lw_all := lw_g (lw_at lw_m3 175 rfl) rfl
theorem q2137 : (Jvm.Cond.castable "PolygonBoard$Operation$1" "java/lang/Object") ∈ lw_tbl := lw_at lw_m9 167 rfl
theorem q2159 : (Jvm.Cond.castable "PolygonBoard$Operation$1" "PolygonBoard$Operation") ∈ lw_tbl := lw_at lw_m9 189 rfl
/-! PolygonBoard$Operation$2 -/
set_option maxRecDepth 100000
def RX19 : String := "PolygonBoard$Operation$2"
abbrev cX19_keeps : ByteArray := prog_9_method_2_code
def yX19_keeps : MethodName := ⟨RX19, "keeps", "(ZZ)Z"⟩
def dkwX19_keeps_0 : List UInt8 := [27, 153, 0, 11, 28, 153, 0, 7, 4, 167, 0, 4, 3, 172]
abbrev dktX19_keeps_0 : List UInt8 := dkwX19_keeps_0 ++ []
theorem dksX19_keeps_0 : cX19_keeps.data.toList.drop 0 = dktX19_keeps_0 := by decide +kernel
theorem dX19_keeps_0 : decode cX19_keeps 0 = .ok (.iload_n 1, 1) := dk_27 (dk_at dksX19_keeps_0 0 rfl rfl)
theorem dX19_keeps_1 : decode cX19_keeps 1 = .ok (.ifCond .eq 11, 3) := dk_153 0 11 (dk_at dksX19_keeps_0 1 rfl rfl)
theorem dX19_keeps_4 : decode cX19_keeps 4 = .ok (.iload_n 2, 1) := dk_28 (dk_at dksX19_keeps_0 4 rfl rfl)
theorem dX19_keeps_5 : decode cX19_keeps 5 = .ok (.ifCond .eq 7, 3) := dk_153 0 7 (dk_at dksX19_keeps_0 5 rfl rfl)
theorem dX19_keeps_8 : decode cX19_keeps 8 = .ok (.iconst 1, 1) := dk_4 (dk_at dksX19_keeps_0 8 rfl rfl)
theorem dX19_keeps_9 : decode cX19_keeps 9 = .ok (.goto 4, 3) := dk_167 0 4 (dk_at dksX19_keeps_0 9 rfl rfl)
theorem dX19_keeps_12 : decode cX19_keeps 12 = .ok (.iconst 0, 1) := dk_3 (dk_at dksX19_keeps_0 12 rfl rfl)
theorem dX19_keeps_13 : decode cX19_keeps 13 = .ok (.ireturn, 1) := dk_172 (dk_at dksX19_keeps_0 13 rfl rfl)
theorem q190 : (Jvm.Cond.selects "PolygonBoard$Operation$2" ({ cls := "java/lang/Object", name := "getClass", desc := "()Ljava/lang/Class;" } : Jvm.MethodName) ({ cls := "java/lang/Object", name := "getClass", desc := "()Ljava/lang/Class;" } : Jvm.MethodName)) ∈ lw_all := lw_g (lw_at lw_m1 140 rfl) rfl
theorem q706 : (Jvm.Cond.selects "PolygonBoard$Operation$2" ({ cls := "PolygonBoard$Operation", name := "keeps", desc := "(ZZ)Z" } : Jvm.MethodName) ({ cls := "PolygonBoard$Operation$2", name := "keeps", desc := "(ZZ)Z" } : Jvm.MethodName)) ∈ lw_all := lw_g (lw_at lw_m3 176 rfl) rfl
theorem q707 : (Jvm.Cond.instanceMethod ({ cls := "PolygonBoard$Operation$2", name := "keeps", desc := "(ZZ)Z" } : Jvm.MethodName)) ∈ lw_all := lw_g (lw_at lw_m3 177 rfl) rfl
theorem q708 : (Jvm.Cond.code ({ cls := "PolygonBoard$Operation$2", name := "keeps", desc := "(ZZ)Z" } : Jvm.MethodName) prog_9_method_2_code (3 : Nat) (Option.some Jvm.ClassFile.FieldType.boolean)) ∈ lw_all := lw_g (lw_at lw_m3 178 rfl) rfl
theorem q2144 : (Jvm.Cond.castable "PolygonBoard$Operation$2" "java/lang/Object") ∈ lw_tbl := lw_at lw_m9 174 rfl
theorem q2161 : (Jvm.Cond.castable "PolygonBoard$Operation$2" "PolygonBoard$Operation") ∈ lw_tbl := lw_at lw_m9 191 rfl
/-! PolygonBoard$Operation$3 -/
set_option maxRecDepth 100000
def RX20 : String := "PolygonBoard$Operation$3"
abbrev cX20_keeps : ByteArray := prog_10_method_2_code
def yX20_keeps : MethodName := ⟨RX20, "keeps", "(ZZ)Z"⟩
def dkwX20_keeps_0 : List UInt8 := [27, 153, 0, 11, 28, 154, 0, 7, 4, 167, 0, 4, 3, 172]
abbrev dktX20_keeps_0 : List UInt8 := dkwX20_keeps_0 ++ []
theorem dksX20_keeps_0 : cX20_keeps.data.toList.drop 0 = dktX20_keeps_0 := by decide +kernel
theorem dX20_keeps_0 : decode cX20_keeps 0 = .ok (.iload_n 1, 1) := dk_27 (dk_at dksX20_keeps_0 0 rfl rfl)
theorem dX20_keeps_1 : decode cX20_keeps 1 = .ok (.ifCond .eq 11, 3) := dk_153 0 11 (dk_at dksX20_keeps_0 1 rfl rfl)
theorem dX20_keeps_4 : decode cX20_keeps 4 = .ok (.iload_n 2, 1) := dk_28 (dk_at dksX20_keeps_0 4 rfl rfl)
theorem dX20_keeps_5 : decode cX20_keeps 5 = .ok (.ifCond .ne 7, 3) := dk_154 0 7 (dk_at dksX20_keeps_0 5 rfl rfl)
theorem dX20_keeps_8 : decode cX20_keeps 8 = .ok (.iconst 1, 1) := dk_4 (dk_at dksX20_keeps_0 8 rfl rfl)
theorem dX20_keeps_9 : decode cX20_keeps 9 = .ok (.goto 4, 3) := dk_167 0 4 (dk_at dksX20_keeps_0 9 rfl rfl)
theorem dX20_keeps_12 : decode cX20_keeps 12 = .ok (.iconst 0, 1) := dk_3 (dk_at dksX20_keeps_0 12 rfl rfl)
theorem dX20_keeps_13 : decode cX20_keeps 13 = .ok (.ireturn, 1) := dk_172 (dk_at dksX20_keeps_0 13 rfl rfl)
theorem q191 : (Jvm.Cond.selects "PolygonBoard$Operation$3" ({ cls := "java/lang/Object", name := "getClass", desc := "()Ljava/lang/Class;" } : Jvm.MethodName) ({ cls := "java/lang/Object", name := "getClass", desc := "()Ljava/lang/Class;" } : Jvm.MethodName)) ∈ lw_all := lw_g (lw_at lw_m1 141 rfl) rfl
theorem q709 : (Jvm.Cond.selects "PolygonBoard$Operation$3" ({ cls := "PolygonBoard$Operation", name := "keeps", desc := "(ZZ)Z" } : Jvm.MethodName) ({ cls := "PolygonBoard$Operation$3", name := "keeps", desc := "(ZZ)Z" } : Jvm.MethodName)) ∈ lw_all := lw_g (lw_at lw_m3 179 rfl) rfl
theorem q710 : (Jvm.Cond.instanceMethod ({ cls := "PolygonBoard$Operation$3", name := "keeps", desc := "(ZZ)Z" } : Jvm.MethodName)) ∈ lw_all := lw_g (lw_at lw_m3 180 rfl) rfl
theorem q711 : (Jvm.Cond.code ({ cls := "PolygonBoard$Operation$3", name := "keeps", desc := "(ZZ)Z" } : Jvm.MethodName) prog_10_method_2_code (3 : Nat) (Option.some Jvm.ClassFile.FieldType.boolean)) ∈ lw_all := lw_g (lw_at lw_m3 181 rfl) rfl
theorem q2141 : (Jvm.Cond.castable "PolygonBoard$Operation$3" "java/lang/Object") ∈ lw_tbl := lw_at lw_m9 171 rfl
theorem q2160 : (Jvm.Cond.castable "PolygonBoard$Operation$3" "PolygonBoard$Operation") ∈ lw_tbl := lw_at lw_m9 190 rfl
/-! PolygonBoard$Operation$4 -/
set_option maxRecDepth 100000
def RX21 : String := "PolygonBoard$Operation$4"
abbrev cX21_keeps : ByteArray := prog_11_method_2_code
def yX21_keeps : MethodName := ⟨RX21, "keeps", "(ZZ)Z"⟩
def dkwX21_keeps_0 : List UInt8 := [27, 28, 159, 0, 7, 4, 167, 0, 4, 3, 172]
abbrev dktX21_keeps_0 : List UInt8 := dkwX21_keeps_0 ++ []
theorem dksX21_keeps_0 : cX21_keeps.data.toList.drop 0 = dktX21_keeps_0 := by decide +kernel
theorem dX21_keeps_0 : decode cX21_keeps 0 = .ok (.iload_n 1, 1) := dk_27 (dk_at dksX21_keeps_0 0 rfl rfl)
theorem dX21_keeps_1 : decode cX21_keeps 1 = .ok (.iload_n 2, 1) := dk_28 (dk_at dksX21_keeps_0 1 rfl rfl)
theorem dX21_keeps_2 : decode cX21_keeps 2 = .ok (.if_icmp .eq 7, 3) := dk_159 0 7 (dk_at dksX21_keeps_0 2 rfl rfl)
theorem dX21_keeps_5 : decode cX21_keeps 5 = .ok (.iconst 1, 1) := dk_4 (dk_at dksX21_keeps_0 5 rfl rfl)
theorem dX21_keeps_6 : decode cX21_keeps 6 = .ok (.goto 4, 3) := dk_167 0 4 (dk_at dksX21_keeps_0 6 rfl rfl)
theorem dX21_keeps_9 : decode cX21_keeps 9 = .ok (.iconst 0, 1) := dk_3 (dk_at dksX21_keeps_0 9 rfl rfl)
theorem dX21_keeps_10 : decode cX21_keeps 10 = .ok (.ireturn, 1) := dk_172 (dk_at dksX21_keeps_0 10 rfl rfl)
theorem q192 : (Jvm.Cond.selects "PolygonBoard$Operation$4" ({ cls := "java/lang/Object", name := "getClass", desc := "()Ljava/lang/Class;" } : Jvm.MethodName) ({ cls := "java/lang/Object", name := "getClass", desc := "()Ljava/lang/Class;" } : Jvm.MethodName)) ∈ lw_all := lw_g (lw_at lw_m1 142 rfl) rfl
theorem q712 : (Jvm.Cond.selects "PolygonBoard$Operation$4" ({ cls := "PolygonBoard$Operation", name := "keeps", desc := "(ZZ)Z" } : Jvm.MethodName) ({ cls := "PolygonBoard$Operation$4", name := "keeps", desc := "(ZZ)Z" } : Jvm.MethodName)) ∈ lw_all := lw_g (lw_at lw_m3 182 rfl) rfl
theorem q713 : (Jvm.Cond.instanceMethod ({ cls := "PolygonBoard$Operation$4", name := "keeps", desc := "(ZZ)Z" } : Jvm.MethodName)) ∈ lw_all := lw_g (lw_at lw_m3 183 rfl) rfl
theorem q714 : (Jvm.Cond.code ({ cls := "PolygonBoard$Operation$4", name := "keeps", desc := "(ZZ)Z" } : Jvm.MethodName) prog_11_method_2_code (3 : Nat) (Option.some Jvm.ClassFile.FieldType.boolean)) ∈ lw_all := lw_g (lw_at lw_m3 184 rfl) rfl
theorem q2145 : (Jvm.Cond.castable "PolygonBoard$Operation$4" "java/lang/Object") ∈ lw_tbl := lw_at lw_m9 175 rfl
theorem q2162 : (Jvm.Cond.castable "PolygonBoard$Operation$4" "PolygonBoard$Operation") ∈ lw_tbl := lw_at lw_m9 192 rfl
