/-! PolygonBoardModel -/
set_option maxRecDepth 100000
def RX3 : String := "PolygonBoardModel"
def TX3 : u_T := fun k => match k with
  | 0 => ("PolygonBoardModel", "thrown", "I", false)
  | 1 => ("PolygonBoardModel", "points", "I", false)
  | 2 => ("PolygonBoardModel", "rows", "[I", true)
  | 3 => ("PolygonBoardModel", "made", "[I", true)
  | 4 => ("PolygonBoardModel", "spread", "[I", true)
  | 5 => ("PolygonBoardModel", "ground", "[I", true)
  | 6 => ("PolygonBoardModel", "pathX", "[I", true)
  | 7 => ("PolygonBoardModel", "pathY", "[I", true)
  | 8 => ("PolygonBoardModel", "far", "[I", true)
  | 9 => ("PolygonBoardModel", "cornersX", "[I", true)
  | 10 => ("PolygonBoardModel", "cornersY", "[I", true)
  | 11 => ("PolygonBoardModel", "begins", "[I", true)
  | 12 => ("PolygonBoardModel", "areas", "[I", true)
  | 13 => ("PolygonBoardModel", "walked", "[I", true)
  | 14 => ("PolygonBoardModel", "outlines", "I", false)
  | _ => ("PolygonBoardModel", "corners", "I", false)
def tyX3 : Nat → FieldType := fun k => match k with
  | 0 => .int
  | 1 => .int
  | 2 => .array .int
  | 3 => .array .int
  | 4 => .array .int
  | 5 => .array .int
  | 6 => .array .int
  | 7 => .array .int
  | 8 => .array .int
  | 9 => .array .int
  | 10 => .array .int
  | 11 => .array .int
  | 12 => .array .int
  | 13 => .array .int
  | 14 => .int
  | _ => .int
abbrev wsX30 : List Cond := u_ws RX3 TX3 16
set_option maxRecDepth 100000 in
theorem nmX3 : ∀ a, a < 16 → ∀ b, b < 16 → a ≠ b → (TX3 a).2.1 ≠ (TX3 b).2.1 := by decide +kernel
set_option maxRecDepth 100000 in
theorem tyX3_ok : ∀ k, k < 16 → parseFieldDescriptor (TX3 k).2.2.1 = some (tyX3 k) := by decide +kernel
abbrev cX3_init : ByteArray := prog_22_method_1_code
def yX3_init : MethodName := ⟨RX3, "<init>", "()V"⟩
def dkwX3_init_4 : List UInt8 := [181, 0, 40, 42, 17, 2, 113, 188, 10, 181, 0, 43, 177]
abbrev dktX3_init_4 : List UInt8 := dkwX3_init_4 ++ []
def dkwX3_init_3 : List UInt8 := [17, 5, 20, 188, 10, 181, 0, 34, 42, 17, 1, 144, 188, 10, 181, 0, 37, 42, 17, 1, 144, 188, 10]
abbrev dktX3_init_3 : List UInt8 := dkwX3_init_3 ++ dktX3_init_4
def dkwX3_init_2 : List UInt8 := [188, 10, 181, 0, 25, 42, 17, 2, 64, 188, 10, 181, 0, 28, 42, 17, 5, 20, 188, 10, 181, 0, 31, 42]
abbrev dktX3_init_2 : List UInt8 := dkwX3_init_2 ++ dktX3_init_3
def dkwX3_init_1 : List UInt8 := [188, 10, 181, 0, 16, 42, 16, 26, 188, 10, 181, 0, 19, 42, 16, 40, 188, 10, 181, 0, 22, 42, 16, 40]
abbrev dktX3_init_1 : List UInt8 := dkwX3_init_1 ++ dktX3_init_2
def dkwX3_init_0 : List UInt8 := [42, 183, 0, 1, 42, 17, 0, 192, 188, 10, 181, 0, 7, 42, 16, 24, 188, 10, 181, 0, 13, 42, 16, 26]
abbrev dktX3_init_0 : List UInt8 := dkwX3_init_0 ++ dktX3_init_1
theorem dksX3_init_0 : cX3_init.data.toList.drop 0 = dktX3_init_0 := by decide +kernel
theorem dksX3_init_1 : cX3_init.data.toList.drop 24 = dktX3_init_1 := dk_seg dksX3_init_0 24 rfl rfl
theorem dksX3_init_2 : cX3_init.data.toList.drop 48 = dktX3_init_2 := dk_seg dksX3_init_1 24 rfl rfl
theorem dksX3_init_3 : cX3_init.data.toList.drop 72 = dktX3_init_3 := dk_seg dksX3_init_2 24 rfl rfl
theorem dksX3_init_4 : cX3_init.data.toList.drop 95 = dktX3_init_4 := dk_seg dksX3_init_3 23 rfl rfl
theorem dX3_init_0 : decode cX3_init 0 = .ok (.aload_n 0, 1) := dk_42 (dk_at dksX3_init_0 0 rfl rfl)
theorem dX3_init_1 : decode cX3_init 1 = .ok (.invokespecial 1, 3) := dk_183 0 1 (dk_at dksX3_init_0 1 rfl rfl)
theorem dX3_init_4 : decode cX3_init 4 = .ok (.aload_n 0, 1) := dk_42 (dk_at dksX3_init_0 4 rfl rfl)
theorem dX3_init_5 : decode cX3_init 5 = .ok (.sipush 192, 3) := dk_17 0 192 (dk_at dksX3_init_0 5 rfl rfl)
theorem dX3_init_8 : decode cX3_init 8 = .ok (.newarray .int, 2) := dk_188_10 (dk_at dksX3_init_0 8 rfl rfl)
theorem dX3_init_10 : decode cX3_init 10 = .ok (.putfield 7, 3) := dk_181 0 7 (dk_at dksX3_init_0 10 rfl rfl)
theorem dX3_init_13 : decode cX3_init 13 = .ok (.aload_n 0, 1) := dk_42 (dk_at dksX3_init_0 13 rfl rfl)
theorem dX3_init_14 : decode cX3_init 14 = .ok (.bipush 24, 2) := dk_16 24 (dk_at dksX3_init_0 14 rfl rfl)
theorem dX3_init_16 : decode cX3_init 16 = .ok (.newarray .int, 2) := dk_188_10 (dk_at dksX3_init_0 16 rfl rfl)
theorem dX3_init_18 : decode cX3_init 18 = .ok (.putfield 13, 3) := dk_181 0 13 (dk_at dksX3_init_0 18 rfl rfl)
theorem dX3_init_21 : decode cX3_init 21 = .ok (.aload_n 0, 1) := dk_42 (dk_at dksX3_init_0 21 rfl rfl)
theorem dX3_init_22 : decode cX3_init 22 = .ok (.bipush 26, 2) := dk_16 26 (dk_at dksX3_init_0 22 rfl rfl)
theorem dX3_init_24 : decode cX3_init 24 = .ok (.newarray .int, 2) := dk_188_10 (dk_at dksX3_init_1 0 rfl rfl)
theorem dX3_init_26 : decode cX3_init 26 = .ok (.putfield 16, 3) := dk_181 0 16 (dk_at dksX3_init_1 2 rfl rfl)
theorem dX3_init_29 : decode cX3_init 29 = .ok (.aload_n 0, 1) := dk_42 (dk_at dksX3_init_1 5 rfl rfl)
theorem dX3_init_30 : decode cX3_init 30 = .ok (.bipush 26, 2) := dk_16 26 (dk_at dksX3_init_1 6 rfl rfl)
theorem dX3_init_32 : decode cX3_init 32 = .ok (.newarray .int, 2) := dk_188_10 (dk_at dksX3_init_1 8 rfl rfl)
theorem dX3_init_34 : decode cX3_init 34 = .ok (.putfield 19, 3) := dk_181 0 19 (dk_at dksX3_init_1 10 rfl rfl)
theorem dX3_init_37 : decode cX3_init 37 = .ok (.aload_n 0, 1) := dk_42 (dk_at dksX3_init_1 13 rfl rfl)
theorem dX3_init_38 : decode cX3_init 38 = .ok (.bipush 40, 2) := dk_16 40 (dk_at dksX3_init_1 14 rfl rfl)
theorem dX3_init_40 : decode cX3_init 40 = .ok (.newarray .int, 2) := dk_188_10 (dk_at dksX3_init_1 16 rfl rfl)
theorem dX3_init_42 : decode cX3_init 42 = .ok (.putfield 22, 3) := dk_181 0 22 (dk_at dksX3_init_1 18 rfl rfl)
theorem dX3_init_45 : decode cX3_init 45 = .ok (.aload_n 0, 1) := dk_42 (dk_at dksX3_init_1 21 rfl rfl)
theorem dX3_init_46 : decode cX3_init 46 = .ok (.bipush 40, 2) := dk_16 40 (dk_at dksX3_init_1 22 rfl rfl)
theorem dX3_init_48 : decode cX3_init 48 = .ok (.newarray .int, 2) := dk_188_10 (dk_at dksX3_init_2 0 rfl rfl)
theorem dX3_init_50 : decode cX3_init 50 = .ok (.putfield 25, 3) := dk_181 0 25 (dk_at dksX3_init_2 2 rfl rfl)
theorem dX3_init_53 : decode cX3_init 53 = .ok (.aload_n 0, 1) := dk_42 (dk_at dksX3_init_2 5 rfl rfl)
theorem dX3_init_54 : decode cX3_init 54 = .ok (.sipush 576, 3) := dk_17 2 64 (dk_at dksX3_init_2 6 rfl rfl)
theorem dX3_init_57 : decode cX3_init 57 = .ok (.newarray .int, 2) := dk_188_10 (dk_at dksX3_init_2 9 rfl rfl)
theorem dX3_init_59 : decode cX3_init 59 = .ok (.putfield 28, 3) := dk_181 0 28 (dk_at dksX3_init_2 11 rfl rfl)
theorem dX3_init_62 : decode cX3_init 62 = .ok (.aload_n 0, 1) := dk_42 (dk_at dksX3_init_2 14 rfl rfl)
theorem dX3_init_63 : decode cX3_init 63 = .ok (.sipush 1300, 3) := dk_17 5 20 (dk_at dksX3_init_2 15 rfl rfl)
theorem dX3_init_66 : decode cX3_init 66 = .ok (.newarray .int, 2) := dk_188_10 (dk_at dksX3_init_2 18 rfl rfl)
theorem dX3_init_68 : decode cX3_init 68 = .ok (.putfield 31, 3) := dk_181 0 31 (dk_at dksX3_init_2 20 rfl rfl)
theorem dX3_init_71 : decode cX3_init 71 = .ok (.aload_n 0, 1) := dk_42 (dk_at dksX3_init_2 23 rfl rfl)
theorem dX3_init_72 : decode cX3_init 72 = .ok (.sipush 1300, 3) := dk_17 5 20 (dk_at dksX3_init_3 0 rfl rfl)
theorem dX3_init_75 : decode cX3_init 75 = .ok (.newarray .int, 2) := dk_188_10 (dk_at dksX3_init_3 3 rfl rfl)
theorem dX3_init_77 : decode cX3_init 77 = .ok (.putfield 34, 3) := dk_181 0 34 (dk_at dksX3_init_3 5 rfl rfl)
theorem dX3_init_80 : decode cX3_init 80 = .ok (.aload_n 0, 1) := dk_42 (dk_at dksX3_init_3 8 rfl rfl)
theorem dX3_init_81 : decode cX3_init 81 = .ok (.sipush 400, 3) := dk_17 1 144 (dk_at dksX3_init_3 9 rfl rfl)
theorem dX3_init_84 : decode cX3_init 84 = .ok (.newarray .int, 2) := dk_188_10 (dk_at dksX3_init_3 12 rfl rfl)
theorem dX3_init_86 : decode cX3_init 86 = .ok (.putfield 37, 3) := dk_181 0 37 (dk_at dksX3_init_3 14 rfl rfl)
theorem dX3_init_89 : decode cX3_init 89 = .ok (.aload_n 0, 1) := dk_42 (dk_at dksX3_init_3 17 rfl rfl)
theorem dX3_init_90 : decode cX3_init 90 = .ok (.sipush 400, 3) := dk_17 1 144 (dk_at dksX3_init_3 18 rfl rfl)
theorem dX3_init_93 : decode cX3_init 93 = .ok (.newarray .int, 2) := dk_188_10 (dk_at dksX3_init_3 21 rfl rfl)
theorem dX3_init_95 : decode cX3_init 95 = .ok (.putfield 40, 3) := dk_181 0 40 (dk_at dksX3_init_4 0 rfl rfl)
theorem dX3_init_98 : decode cX3_init 98 = .ok (.aload_n 0, 1) := dk_42 (dk_at dksX3_init_4 3 rfl rfl)
theorem dX3_init_99 : decode cX3_init 99 = .ok (.sipush 625, 3) := dk_17 2 113 (dk_at dksX3_init_4 4 rfl rfl)
theorem dX3_init_102 : decode cX3_init 102 = .ok (.newarray .int, 2) := dk_188_10 (dk_at dksX3_init_4 7 rfl rfl)
theorem dX3_init_104 : decode cX3_init 104 = .ok (.putfield 43, 3) := dk_181 0 43 (dk_at dksX3_init_4 9 rfl rfl)
theorem dX3_init_107 : decode cX3_init 107 = .ok (.return_, 1) := dk_177 (dk_at dksX3_init_4 12 rfl rfl)
abbrev cX3_thrown : ByteArray := prog_22_method_2_code
def yX3_thrown : MethodName := ⟨RX3, "thrown", "()I"⟩
theorem dX3_thrown_0 : decode cX3_thrown 0 = .ok (.aload_n 0, 1) := by decide +kernel
theorem dX3_thrown_1 : decode cX3_thrown 1 = .ok (.getfield 46, 3) := by decide +kernel
theorem dX3_thrown_4 : decode cX3_thrown 4 = .ok (.ireturn, 1) := by decide +kernel
abbrev cX3_fill : ByteArray := prog_22_method_14_code
def yX3_fill : MethodName := ⟨RX3, "fill", "(IIIII)I"⟩
def dkwX3_fill_3 : List UInt8 := [21, 4, 184, 0, 77, 128, 79, 132, 7, 1, 167, 255, 225, 42, 27, 182, 0, 66, 21, 6, 100, 172]
abbrev dktX3_fill_3 : List UInt8 := dkwX3_fill_3 ++ []
def dkwX3_fill_2 : List UInt8 := [29, 54, 7, 21, 7, 21, 5, 162, 0, 30, 42, 180, 0, 7, 16, 24, 27, 104, 21, 7, 96, 92, 46, 28]
abbrev dktX3_fill_2 : List UInt8 := dkwX3_fill_2 ++ dktX3_fill_3
def dkwX3_fill_1 : List UInt8 := [5, 167, 0, 4, 3, 181, 0, 46, 42, 180, 0, 46, 153, 0, 5, 3, 172, 42, 27, 182, 0, 66, 54, 6]
abbrev dktX3_fill_1 : List UInt8 := dkwX3_fill_1 ++ dktX3_fill_2
def dkwX3_fill_0 : List UInt8 := [42, 27, 184, 0, 69, 154, 0, 7, 4, 167, 0, 20, 28, 29, 21, 4, 21, 5, 184, 0, 73, 154, 0, 7]
abbrev dktX3_fill_0 : List UInt8 := dkwX3_fill_0 ++ dktX3_fill_1
theorem dksX3_fill_0 : cX3_fill.data.toList.drop 0 = dktX3_fill_0 := by decide +kernel
theorem dksX3_fill_1 : cX3_fill.data.toList.drop 24 = dktX3_fill_1 := dk_seg dksX3_fill_0 24 rfl rfl
theorem dksX3_fill_2 : cX3_fill.data.toList.drop 48 = dktX3_fill_2 := dk_seg dksX3_fill_1 24 rfl rfl
theorem dksX3_fill_3 : cX3_fill.data.toList.drop 72 = dktX3_fill_3 := dk_seg dksX3_fill_2 24 rfl rfl
theorem dX3_fill_0 : decode cX3_fill 0 = .ok (.aload_n 0, 1) := dk_42 (dk_at dksX3_fill_0 0 rfl rfl)
theorem dX3_fill_1 : decode cX3_fill 1 = .ok (.iload_n 1, 1) := dk_27 (dk_at dksX3_fill_0 1 rfl rfl)
theorem dX3_fill_2 : decode cX3_fill 2 = .ok (.invokestatic 69, 3) := dk_184 0 69 (dk_at dksX3_fill_0 2 rfl rfl)
theorem dX3_fill_5 : decode cX3_fill 5 = .ok (.ifCond .ne 7, 3) := dk_154 0 7 (dk_at dksX3_fill_0 5 rfl rfl)
theorem dX3_fill_8 : decode cX3_fill 8 = .ok (.iconst 1, 1) := dk_4 (dk_at dksX3_fill_0 8 rfl rfl)
theorem dX3_fill_9 : decode cX3_fill 9 = .ok (.goto 20, 3) := dk_167 0 20 (dk_at dksX3_fill_0 9 rfl rfl)
theorem dX3_fill_12 : decode cX3_fill 12 = .ok (.iload_n 2, 1) := dk_28 (dk_at dksX3_fill_0 12 rfl rfl)
theorem dX3_fill_13 : decode cX3_fill 13 = .ok (.iload_n 3, 1) := dk_29 (dk_at dksX3_fill_0 13 rfl rfl)
theorem dX3_fill_14 : decode cX3_fill 14 = .ok (.iload 4, 2) := dk_21 4 (dk_at dksX3_fill_0 14 rfl rfl)
theorem dX3_fill_16 : decode cX3_fill 16 = .ok (.iload 5, 2) := dk_21 5 (dk_at dksX3_fill_0 16 rfl rfl)
theorem dX3_fill_18 : decode cX3_fill 18 = .ok (.invokestatic 73, 3) := dk_184 0 73 (dk_at dksX3_fill_0 18 rfl rfl)
theorem dX3_fill_21 : decode cX3_fill 21 = .ok (.ifCond .ne 7, 3) := dk_154 0 7 (dk_at dksX3_fill_0 21 rfl rfl)
theorem dX3_fill_24 : decode cX3_fill 24 = .ok (.iconst 2, 1) := dk_5 (dk_at dksX3_fill_1 0 rfl rfl)
theorem dX3_fill_25 : decode cX3_fill 25 = .ok (.goto 4, 3) := dk_167 0 4 (dk_at dksX3_fill_1 1 rfl rfl)
theorem dX3_fill_28 : decode cX3_fill 28 = .ok (.iconst 0, 1) := dk_3 (dk_at dksX3_fill_1 4 rfl rfl)
theorem dX3_fill_29 : decode cX3_fill 29 = .ok (.putfield 46, 3) := dk_181 0 46 (dk_at dksX3_fill_1 5 rfl rfl)
theorem dX3_fill_32 : decode cX3_fill 32 = .ok (.aload_n 0, 1) := dk_42 (dk_at dksX3_fill_1 8 rfl rfl)
theorem dX3_fill_33 : decode cX3_fill 33 = .ok (.getfield 46, 3) := dk_180 0 46 (dk_at dksX3_fill_1 9 rfl rfl)
theorem dX3_fill_36 : decode cX3_fill 36 = .ok (.ifCond .eq 5, 3) := dk_153 0 5 (dk_at dksX3_fill_1 12 rfl rfl)
theorem dX3_fill_39 : decode cX3_fill 39 = .ok (.iconst 0, 1) := dk_3 (dk_at dksX3_fill_1 15 rfl rfl)
theorem dX3_fill_40 : decode cX3_fill 40 = .ok (.ireturn, 1) := dk_172 (dk_at dksX3_fill_1 16 rfl rfl)
theorem dX3_fill_41 : decode cX3_fill 41 = .ok (.aload_n 0, 1) := dk_42 (dk_at dksX3_fill_1 17 rfl rfl)
theorem dX3_fill_42 : decode cX3_fill 42 = .ok (.iload_n 1, 1) := dk_27 (dk_at dksX3_fill_1 18 rfl rfl)
theorem dX3_fill_43 : decode cX3_fill 43 = .ok (.invokevirtual 66, 3) := dk_182 0 66 (dk_at dksX3_fill_1 19 rfl rfl)
theorem dX3_fill_46 : decode cX3_fill 46 = .ok (.istore 6, 2) := dk_54 6 (dk_at dksX3_fill_1 22 rfl rfl)
theorem dX3_fill_48 : decode cX3_fill 48 = .ok (.iload_n 3, 1) := dk_29 (dk_at dksX3_fill_2 0 rfl rfl)
theorem dX3_fill_49 : decode cX3_fill 49 = .ok (.istore 7, 2) := dk_54 7 (dk_at dksX3_fill_2 1 rfl rfl)
theorem dX3_fill_51 : decode cX3_fill 51 = .ok (.iload 7, 2) := dk_21 7 (dk_at dksX3_fill_2 3 rfl rfl)
theorem dX3_fill_53 : decode cX3_fill 53 = .ok (.iload 5, 2) := dk_21 5 (dk_at dksX3_fill_2 5 rfl rfl)
theorem dX3_fill_55 : decode cX3_fill 55 = .ok (.if_icmp .ge 30, 3) := dk_162 0 30 (dk_at dksX3_fill_2 7 rfl rfl)
theorem dX3_fill_58 : decode cX3_fill 58 = .ok (.aload_n 0, 1) := dk_42 (dk_at dksX3_fill_2 10 rfl rfl)
theorem dX3_fill_59 : decode cX3_fill 59 = .ok (.getfield 7, 3) := dk_180 0 7 (dk_at dksX3_fill_2 11 rfl rfl)
theorem dX3_fill_62 : decode cX3_fill 62 = .ok (.bipush 24, 2) := dk_16 24 (dk_at dksX3_fill_2 14 rfl rfl)
theorem dX3_fill_64 : decode cX3_fill 64 = .ok (.iload_n 1, 1) := dk_27 (dk_at dksX3_fill_2 16 rfl rfl)
theorem dX3_fill_65 : decode cX3_fill 65 = .ok (.imul, 1) := dk_104 (dk_at dksX3_fill_2 17 rfl rfl)
theorem dX3_fill_66 : decode cX3_fill 66 = .ok (.iload 7, 2) := dk_21 7 (dk_at dksX3_fill_2 18 rfl rfl)
theorem dX3_fill_68 : decode cX3_fill 68 = .ok (.iadd, 1) := dk_96 (dk_at dksX3_fill_2 20 rfl rfl)
theorem dX3_fill_69 : decode cX3_fill 69 = .ok (.dup2, 1) := dk_92 (dk_at dksX3_fill_2 21 rfl rfl)
theorem dX3_fill_70 : decode cX3_fill 70 = .ok (.iaload, 1) := dk_46 (dk_at dksX3_fill_2 22 rfl rfl)
theorem dX3_fill_71 : decode cX3_fill 71 = .ok (.iload_n 2, 1) := dk_28 (dk_at dksX3_fill_2 23 rfl rfl)
theorem dX3_fill_72 : decode cX3_fill 72 = .ok (.iload 4, 2) := dk_21 4 (dk_at dksX3_fill_3 0 rfl rfl)
theorem dX3_fill_74 : decode cX3_fill 74 = .ok (.invokestatic 77, 3) := dk_184 0 77 (dk_at dksX3_fill_3 2 rfl rfl)
theorem dX3_fill_77 : decode cX3_fill 77 = .ok (.ior, 1) := dk_128 (dk_at dksX3_fill_3 5 rfl rfl)
theorem dX3_fill_78 : decode cX3_fill 78 = .ok (.iastore, 1) := dk_79 (dk_at dksX3_fill_3 6 rfl rfl)
theorem dX3_fill_79 : decode cX3_fill 79 = .ok (.iinc 7 1, 3) := dk_132 7 1 (dk_at dksX3_fill_3 7 rfl rfl)
theorem dX3_fill_82 : decode cX3_fill 82 = .ok (.goto (-31), 3) := dk_167 255 225 (dk_at dksX3_fill_3 10 rfl rfl)
theorem dX3_fill_85 : decode cX3_fill 85 = .ok (.aload_n 0, 1) := dk_42 (dk_at dksX3_fill_3 13 rfl rfl)
theorem dX3_fill_86 : decode cX3_fill 86 = .ok (.iload_n 1, 1) := dk_27 (dk_at dksX3_fill_3 14 rfl rfl)
theorem dX3_fill_87 : decode cX3_fill 87 = .ok (.invokevirtual 66, 3) := dk_182 0 66 (dk_at dksX3_fill_3 15 rfl rfl)
theorem dX3_fill_90 : decode cX3_fill 90 = .ok (.iload 6, 2) := dk_21 6 (dk_at dksX3_fill_3 18 rfl rfl)
theorem dX3_fill_92 : decode cX3_fill 92 = .ok (.isub, 1) := dk_100 (dk_at dksX3_fill_3 20 rfl rfl)
theorem dX3_fill_93 : decode cX3_fill 93 = .ok (.ireturn, 1) := dk_172 (dk_at dksX3_fill_3 21 rfl rfl)
abbrev cX3_isSheet : ByteArray := prog_22_method_5_code
def yX3_isSheet : MethodName := ⟨RX3, "isSheet", "(I)Z"⟩
def dkwX3_isSheet_0 : List UInt8 := [26, 3, 16, 7, 184, 0, 50, 172]
abbrev dktX3_isSheet_0 : List UInt8 := dkwX3_isSheet_0 ++ []
theorem dksX3_isSheet_0 : cX3_isSheet.data.toList.drop 0 = dktX3_isSheet_0 := by decide +kernel
theorem dX3_isSheet_0 : decode cX3_isSheet 0 = .ok (.iload_n 0, 1) := dk_26 (dk_at dksX3_isSheet_0 0 rfl rfl)
theorem dX3_isSheet_1 : decode cX3_isSheet 1 = .ok (.iconst 0, 1) := dk_3 (dk_at dksX3_isSheet_0 1 rfl rfl)
theorem dX3_isSheet_2 : decode cX3_isSheet 2 = .ok (.bipush 7, 2) := dk_16 7 (dk_at dksX3_isSheet_0 2 rfl rfl)
theorem dX3_isSheet_4 : decode cX3_isSheet 4 = .ok (.invokestatic 50, 3) := dk_184 0 50 (dk_at dksX3_isSheet_0 4 rfl rfl)
theorem dX3_isSheet_7 : decode cX3_isSheet 7 = .ok (.ireturn, 1) := dk_172 (dk_at dksX3_isSheet_0 7 rfl rfl)
abbrev cX3_isIn : ByteArray := prog_22_method_4_code
def yX3_isIn : MethodName := ⟨RX3, "isIn", "(III)Z"⟩
def dkwX3_isIn_0 : List UInt8 := [26, 27, 161, 0, 12, 26, 28, 163, 0, 7, 4, 167, 0, 4, 3, 172]
abbrev dktX3_isIn_0 : List UInt8 := dkwX3_isIn_0 ++ []
theorem dksX3_isIn_0 : cX3_isIn.data.toList.drop 0 = dktX3_isIn_0 := by decide +kernel
theorem dX3_isIn_0 : decode cX3_isIn 0 = .ok (.iload_n 0, 1) := dk_26 (dk_at dksX3_isIn_0 0 rfl rfl)
theorem dX3_isIn_1 : decode cX3_isIn 1 = .ok (.iload_n 1, 1) := dk_27 (dk_at dksX3_isIn_0 1 rfl rfl)
theorem dX3_isIn_2 : decode cX3_isIn 2 = .ok (.if_icmp .lt 12, 3) := dk_161 0 12 (dk_at dksX3_isIn_0 2 rfl rfl)
theorem dX3_isIn_5 : decode cX3_isIn 5 = .ok (.iload_n 0, 1) := dk_26 (dk_at dksX3_isIn_0 5 rfl rfl)
theorem dX3_isIn_6 : decode cX3_isIn 6 = .ok (.iload_n 2, 1) := dk_28 (dk_at dksX3_isIn_0 6 rfl rfl)
theorem dX3_isIn_7 : decode cX3_isIn 7 = .ok (.if_icmp .gt 7, 3) := dk_163 0 7 (dk_at dksX3_isIn_0 7 rfl rfl)
theorem dX3_isIn_10 : decode cX3_isIn 10 = .ok (.iconst 1, 1) := dk_4 (dk_at dksX3_isIn_0 10 rfl rfl)
theorem dX3_isIn_11 : decode cX3_isIn 11 = .ok (.goto 4, 3) := dk_167 0 4 (dk_at dksX3_isIn_0 11 rfl rfl)
theorem dX3_isIn_14 : decode cX3_isIn 14 = .ok (.iconst 0, 1) := dk_3 (dk_at dksX3_isIn_0 14 rfl rfl)
theorem dX3_isIn_15 : decode cX3_isIn 15 = .ok (.ireturn, 1) := dk_172 (dk_at dksX3_isIn_0 15 rfl rfl)
abbrev cX3_isBox : ByteArray := prog_22_method_13_code
def yX3_isBox : MethodName := ⟨RX3, "isBox", "(IIII)Z"⟩
def dkwX3_isBox_1 : List UInt8 := [162, 0, 12, 27, 29, 162, 0, 7, 4, 167, 0, 4, 3, 172]
abbrev dktX3_isBox_1 : List UInt8 := dkwX3_isBox_1 ++ []
def dkwX3_isBox_0 : List UInt8 := [26, 155, 0, 33, 27, 155, 0, 29, 28, 16, 24, 163, 0, 23, 29, 16, 24, 163, 0, 17, 26, 28]
abbrev dktX3_isBox_0 : List UInt8 := dkwX3_isBox_0 ++ dktX3_isBox_1
theorem dksX3_isBox_0 : cX3_isBox.data.toList.drop 0 = dktX3_isBox_0 := by decide +kernel
theorem dksX3_isBox_1 : cX3_isBox.data.toList.drop 22 = dktX3_isBox_1 := dk_seg dksX3_isBox_0 22 rfl rfl
theorem dX3_isBox_0 : decode cX3_isBox 0 = .ok (.iload_n 0, 1) := dk_26 (dk_at dksX3_isBox_0 0 rfl rfl)
theorem dX3_isBox_1 : decode cX3_isBox 1 = .ok (.ifCond .lt 33, 3) := dk_155 0 33 (dk_at dksX3_isBox_0 1 rfl rfl)
theorem dX3_isBox_4 : decode cX3_isBox 4 = .ok (.iload_n 1, 1) := dk_27 (dk_at dksX3_isBox_0 4 rfl rfl)
theorem dX3_isBox_5 : decode cX3_isBox 5 = .ok (.ifCond .lt 29, 3) := dk_155 0 29 (dk_at dksX3_isBox_0 5 rfl rfl)
theorem dX3_isBox_8 : decode cX3_isBox 8 = .ok (.iload_n 2, 1) := dk_28 (dk_at dksX3_isBox_0 8 rfl rfl)
theorem dX3_isBox_9 : decode cX3_isBox 9 = .ok (.bipush 24, 2) := dk_16 24 (dk_at dksX3_isBox_0 9 rfl rfl)
theorem dX3_isBox_11 : decode cX3_isBox 11 = .ok (.if_icmp .gt 23, 3) := dk_163 0 23 (dk_at dksX3_isBox_0 11 rfl rfl)
theorem dX3_isBox_14 : decode cX3_isBox 14 = .ok (.iload_n 3, 1) := dk_29 (dk_at dksX3_isBox_0 14 rfl rfl)
theorem dX3_isBox_15 : decode cX3_isBox 15 = .ok (.bipush 24, 2) := dk_16 24 (dk_at dksX3_isBox_0 15 rfl rfl)
theorem dX3_isBox_17 : decode cX3_isBox 17 = .ok (.if_icmp .gt 17, 3) := dk_163 0 17 (dk_at dksX3_isBox_0 17 rfl rfl)
theorem dX3_isBox_20 : decode cX3_isBox 20 = .ok (.iload_n 0, 1) := dk_26 (dk_at dksX3_isBox_0 20 rfl rfl)
theorem dX3_isBox_21 : decode cX3_isBox 21 = .ok (.iload_n 2, 1) := dk_28 (dk_at dksX3_isBox_0 21 rfl rfl)
theorem dX3_isBox_22 : decode cX3_isBox 22 = .ok (.if_icmp .ge 12, 3) := dk_162 0 12 (dk_at dksX3_isBox_1 0 rfl rfl)
theorem dX3_isBox_25 : decode cX3_isBox 25 = .ok (.iload_n 1, 1) := dk_27 (dk_at dksX3_isBox_1 3 rfl rfl)
theorem dX3_isBox_26 : decode cX3_isBox 26 = .ok (.iload_n 3, 1) := dk_29 (dk_at dksX3_isBox_1 4 rfl rfl)
theorem dX3_isBox_27 : decode cX3_isBox 27 = .ok (.if_icmp .ge 7, 3) := dk_162 0 7 (dk_at dksX3_isBox_1 5 rfl rfl)
theorem dX3_isBox_30 : decode cX3_isBox 30 = .ok (.iconst 1, 1) := dk_4 (dk_at dksX3_isBox_1 8 rfl rfl)
theorem dX3_isBox_31 : decode cX3_isBox 31 = .ok (.goto 4, 3) := dk_167 0 4 (dk_at dksX3_isBox_1 9 rfl rfl)
theorem dX3_isBox_34 : decode cX3_isBox 34 = .ok (.iconst 0, 1) := dk_3 (dk_at dksX3_isBox_1 12 rfl rfl)
theorem dX3_isBox_35 : decode cX3_isBox 35 = .ok (.ireturn, 1) := dk_172 (dk_at dksX3_isBox_1 13 rfl rfl)
abbrev cX3_count : ByteArray := prog_22_method_10_code
def yX3_count : MethodName := ⟨RX3, "count", "(I)I"⟩
def dkwX3_count_1 : List UInt8 := [132, 3, 1, 167, 255, 235, 28, 172]
abbrev dktX3_count_1 : List UInt8 := dkwX3_count_1 ++ []
def dkwX3_count_0 : List UInt8 := [3, 61, 3, 62, 29, 16, 24, 162, 0, 21, 28, 42, 27, 29, 182, 0, 58, 184, 0, 62, 96, 61]
abbrev dktX3_count_0 : List UInt8 := dkwX3_count_0 ++ dktX3_count_1
theorem dksX3_count_0 : cX3_count.data.toList.drop 0 = dktX3_count_0 := by decide +kernel
theorem dksX3_count_1 : cX3_count.data.toList.drop 22 = dktX3_count_1 := dk_seg dksX3_count_0 22 rfl rfl
theorem dX3_count_0 : decode cX3_count 0 = .ok (.iconst 0, 1) := dk_3 (dk_at dksX3_count_0 0 rfl rfl)
theorem dX3_count_1 : decode cX3_count 1 = .ok (.istore_n 2, 1) := dk_61 (dk_at dksX3_count_0 1 rfl rfl)
theorem dX3_count_2 : decode cX3_count 2 = .ok (.iconst 0, 1) := dk_3 (dk_at dksX3_count_0 2 rfl rfl)
theorem dX3_count_3 : decode cX3_count 3 = .ok (.istore_n 3, 1) := dk_62 (dk_at dksX3_count_0 3 rfl rfl)
theorem dX3_count_4 : decode cX3_count 4 = .ok (.iload_n 3, 1) := dk_29 (dk_at dksX3_count_0 4 rfl rfl)
theorem dX3_count_5 : decode cX3_count 5 = .ok (.bipush 24, 2) := dk_16 24 (dk_at dksX3_count_0 5 rfl rfl)
theorem dX3_count_7 : decode cX3_count 7 = .ok (.if_icmp .ge 21, 3) := dk_162 0 21 (dk_at dksX3_count_0 7 rfl rfl)
theorem dX3_count_10 : decode cX3_count 10 = .ok (.iload_n 2, 1) := dk_28 (dk_at dksX3_count_0 10 rfl rfl)
theorem dX3_count_11 : decode cX3_count 11 = .ok (.aload_n 0, 1) := dk_42 (dk_at dksX3_count_0 11 rfl rfl)
theorem dX3_count_12 : decode cX3_count 12 = .ok (.iload_n 1, 1) := dk_27 (dk_at dksX3_count_0 12 rfl rfl)
theorem dX3_count_13 : decode cX3_count 13 = .ok (.iload_n 3, 1) := dk_29 (dk_at dksX3_count_0 13 rfl rfl)
theorem dX3_count_14 : decode cX3_count 14 = .ok (.invokevirtual 58, 3) := dk_182 0 58 (dk_at dksX3_count_0 14 rfl rfl)
theorem dX3_count_17 : decode cX3_count 17 = .ok (.invokestatic 62, 3) := dk_184 0 62 (dk_at dksX3_count_0 17 rfl rfl)
theorem dX3_count_20 : decode cX3_count 20 = .ok (.iadd, 1) := dk_96 (dk_at dksX3_count_0 20 rfl rfl)
theorem dX3_count_21 : decode cX3_count 21 = .ok (.istore_n 2, 1) := dk_61 (dk_at dksX3_count_0 21 rfl rfl)
theorem dX3_count_22 : decode cX3_count 22 = .ok (.iinc 3 1, 3) := dk_132 3 1 (dk_at dksX3_count_1 0 rfl rfl)
theorem dX3_count_25 : decode cX3_count 25 = .ok (.goto (-21), 3) := dk_167 255 235 (dk_at dksX3_count_1 3 rfl rfl)
theorem dX3_count_28 : decode cX3_count 28 = .ok (.iload_n 2, 1) := dk_28 (dk_at dksX3_count_1 6 rfl rfl)
theorem dX3_count_29 : decode cX3_count 29 = .ok (.ireturn, 1) := dk_172 (dk_at dksX3_count_1 7 rfl rfl)
abbrev cX3_row : ByteArray := prog_22_method_7_code
def yX3_row : MethodName := ⟨RX3, "row", "(II)I"⟩
def dkwX3_row_1 : List UInt8 := [3, 172]
abbrev dktX3_row_1 : List UInt8 := dkwX3_row_1 ++ []
def dkwX3_row_0 : List UInt8 := [28, 3, 16, 23, 184, 0, 50, 153, 0, 17, 42, 180, 0, 7, 16, 24, 27, 104, 28, 96, 46, 167, 0, 4]
abbrev dktX3_row_0 : List UInt8 := dkwX3_row_0 ++ dktX3_row_1
theorem dksX3_row_0 : cX3_row.data.toList.drop 0 = dktX3_row_0 := by decide +kernel
theorem dksX3_row_1 : cX3_row.data.toList.drop 24 = dktX3_row_1 := dk_seg dksX3_row_0 24 rfl rfl
theorem dX3_row_0 : decode cX3_row 0 = .ok (.iload_n 2, 1) := dk_28 (dk_at dksX3_row_0 0 rfl rfl)
theorem dX3_row_1 : decode cX3_row 1 = .ok (.iconst 0, 1) := dk_3 (dk_at dksX3_row_0 1 rfl rfl)
theorem dX3_row_2 : decode cX3_row 2 = .ok (.bipush 23, 2) := dk_16 23 (dk_at dksX3_row_0 2 rfl rfl)
theorem dX3_row_4 : decode cX3_row 4 = .ok (.invokestatic 50, 3) := dk_184 0 50 (dk_at dksX3_row_0 4 rfl rfl)
theorem dX3_row_7 : decode cX3_row 7 = .ok (.ifCond .eq 17, 3) := dk_153 0 17 (dk_at dksX3_row_0 7 rfl rfl)
theorem dX3_row_10 : decode cX3_row 10 = .ok (.aload_n 0, 1) := dk_42 (dk_at dksX3_row_0 10 rfl rfl)
theorem dX3_row_11 : decode cX3_row 11 = .ok (.getfield 7, 3) := dk_180 0 7 (dk_at dksX3_row_0 11 rfl rfl)
theorem dX3_row_14 : decode cX3_row 14 = .ok (.bipush 24, 2) := dk_16 24 (dk_at dksX3_row_0 14 rfl rfl)
theorem dX3_row_16 : decode cX3_row 16 = .ok (.iload_n 1, 1) := dk_27 (dk_at dksX3_row_0 16 rfl rfl)
theorem dX3_row_17 : decode cX3_row 17 = .ok (.imul, 1) := dk_104 (dk_at dksX3_row_0 17 rfl rfl)
theorem dX3_row_18 : decode cX3_row 18 = .ok (.iload_n 2, 1) := dk_28 (dk_at dksX3_row_0 18 rfl rfl)
theorem dX3_row_19 : decode cX3_row 19 = .ok (.iadd, 1) := dk_96 (dk_at dksX3_row_0 19 rfl rfl)
theorem dX3_row_20 : decode cX3_row 20 = .ok (.iaload, 1) := dk_46 (dk_at dksX3_row_0 20 rfl rfl)
theorem dX3_row_21 : decode cX3_row 21 = .ok (.goto 4, 3) := dk_167 0 4 (dk_at dksX3_row_0 21 rfl rfl)
theorem dX3_row_24 : decode cX3_row 24 = .ok (.iconst 0, 1) := dk_3 (dk_at dksX3_row_1 0 rfl rfl)
theorem dX3_row_25 : decode cX3_row 25 = .ok (.ireturn, 1) := dk_172 (dk_at dksX3_row_1 1 rfl rfl)
abbrev cX3_bits : ByteArray := prog_22_method_9_code
def yX3_bits : MethodName := ⟨RX3, "bits", "(I)I"⟩
def dkwX3_bits_0 : List UInt8 := [3, 60, 26, 61, 28, 153, 0, 15, 132, 1, 1, 28, 28, 4, 100, 126, 61, 167, 255, 243, 27, 172]
abbrev dktX3_bits_0 : List UInt8 := dkwX3_bits_0 ++ []
theorem dksX3_bits_0 : cX3_bits.data.toList.drop 0 = dktX3_bits_0 := by decide +kernel
theorem dX3_bits_0 : decode cX3_bits 0 = .ok (.iconst 0, 1) := dk_3 (dk_at dksX3_bits_0 0 rfl rfl)
theorem dX3_bits_1 : decode cX3_bits 1 = .ok (.istore_n 1, 1) := dk_60 (dk_at dksX3_bits_0 1 rfl rfl)
theorem dX3_bits_2 : decode cX3_bits 2 = .ok (.iload_n 0, 1) := dk_26 (dk_at dksX3_bits_0 2 rfl rfl)
theorem dX3_bits_3 : decode cX3_bits 3 = .ok (.istore_n 2, 1) := dk_61 (dk_at dksX3_bits_0 3 rfl rfl)
theorem dX3_bits_4 : decode cX3_bits 4 = .ok (.iload_n 2, 1) := dk_28 (dk_at dksX3_bits_0 4 rfl rfl)
theorem dX3_bits_5 : decode cX3_bits 5 = .ok (.ifCond .eq 15, 3) := dk_153 0 15 (dk_at dksX3_bits_0 5 rfl rfl)
theorem dX3_bits_8 : decode cX3_bits 8 = .ok (.iinc 1 1, 3) := dk_132 1 1 (dk_at dksX3_bits_0 8 rfl rfl)
theorem dX3_bits_11 : decode cX3_bits 11 = .ok (.iload_n 2, 1) := dk_28 (dk_at dksX3_bits_0 11 rfl rfl)
theorem dX3_bits_12 : decode cX3_bits 12 = .ok (.iload_n 2, 1) := dk_28 (dk_at dksX3_bits_0 12 rfl rfl)
theorem dX3_bits_13 : decode cX3_bits 13 = .ok (.iconst 1, 1) := dk_4 (dk_at dksX3_bits_0 13 rfl rfl)
theorem dX3_bits_14 : decode cX3_bits 14 = .ok (.isub, 1) := dk_100 (dk_at dksX3_bits_0 14 rfl rfl)
theorem dX3_bits_15 : decode cX3_bits 15 = .ok (.iand, 1) := dk_126 (dk_at dksX3_bits_0 15 rfl rfl)
theorem dX3_bits_16 : decode cX3_bits 16 = .ok (.istore_n 2, 1) := dk_61 (dk_at dksX3_bits_0 16 rfl rfl)
theorem dX3_bits_17 : decode cX3_bits 17 = .ok (.goto (-13), 3) := dk_167 255 243 (dk_at dksX3_bits_0 17 rfl rfl)
theorem dX3_bits_20 : decode cX3_bits 20 = .ok (.iload_n 1, 1) := dk_27 (dk_at dksX3_bits_0 20 rfl rfl)
theorem dX3_bits_21 : decode cX3_bits 21 = .ok (.ireturn, 1) := dk_172 (dk_at dksX3_bits_0 21 rfl rfl)
abbrev cX3_range : ByteArray := prog_22_method_12_code
def yX3_range : MethodName := ⟨RX3, "range", "(II)I"⟩
def dkwX3_range_0 : List UInt8 := [4, 27, 120, 4, 26, 120, 100, 172]
abbrev dktX3_range_0 : List UInt8 := dkwX3_range_0 ++ []
theorem dksX3_range_0 : cX3_range.data.toList.drop 0 = dktX3_range_0 := by decide +kernel
theorem dX3_range_0 : decode cX3_range 0 = .ok (.iconst 1, 1) := dk_4 (dk_at dksX3_range_0 0 rfl rfl)
theorem dX3_range_1 : decode cX3_range 1 = .ok (.iload_n 1, 1) := dk_27 (dk_at dksX3_range_0 1 rfl rfl)
theorem dX3_range_2 : decode cX3_range 2 = .ok (.ishl, 1) := dk_120 (dk_at dksX3_range_0 2 rfl rfl)
theorem dX3_range_3 : decode cX3_range 3 = .ok (.iconst 1, 1) := dk_4 (dk_at dksX3_range_0 3 rfl rfl)
theorem dX3_range_4 : decode cX3_range 4 = .ok (.iload_n 0, 1) := dk_26 (dk_at dksX3_range_0 4 rfl rfl)
theorem dX3_range_5 : decode cX3_range 5 = .ok (.ishl, 1) := dk_120 (dk_at dksX3_range_0 5 rfl rfl)
theorem dX3_range_6 : decode cX3_range 6 = .ok (.isub, 1) := dk_100 (dk_at dksX3_range_0 6 rfl rfl)
theorem dX3_range_7 : decode cX3_range 7 = .ok (.ireturn, 1) := dk_172 (dk_at dksX3_range_0 7 rfl rfl)
abbrev cX3_erase : ByteArray := prog_22_method_15_code
def yX3_erase : MethodName := ⟨RX3, "erase", "(IIIII)I"⟩
def dkwX3_erase_3 : List UInt8 := [21, 4, 184, 0, 77, 2, 130, 126, 79, 132, 7, 1, 167, 255, 223, 21, 6, 42, 27, 182, 0, 66, 100, 172]
abbrev dktX3_erase_3 : List UInt8 := dkwX3_erase_3 ++ []
def dkwX3_erase_2 : List UInt8 := [29, 54, 7, 21, 7, 21, 5, 162, 0, 32, 42, 180, 0, 7, 16, 24, 27, 104, 21, 7, 96, 92, 46, 28]
abbrev dktX3_erase_2 : List UInt8 := dkwX3_erase_2 ++ dktX3_erase_3
def dkwX3_erase_1 : List UInt8 := [5, 167, 0, 4, 3, 181, 0, 46, 42, 180, 0, 46, 153, 0, 5, 3, 172, 42, 27, 182, 0, 66, 54, 6]
abbrev dktX3_erase_1 : List UInt8 := dkwX3_erase_1 ++ dktX3_erase_2
def dkwX3_erase_0 : List UInt8 := [42, 27, 184, 0, 69, 154, 0, 7, 4, 167, 0, 20, 28, 29, 21, 4, 21, 5, 184, 0, 73, 154, 0, 7]
abbrev dktX3_erase_0 : List UInt8 := dkwX3_erase_0 ++ dktX3_erase_1
theorem dksX3_erase_0 : cX3_erase.data.toList.drop 0 = dktX3_erase_0 := by decide +kernel
theorem dksX3_erase_1 : cX3_erase.data.toList.drop 24 = dktX3_erase_1 := dk_seg dksX3_erase_0 24 rfl rfl
theorem dksX3_erase_2 : cX3_erase.data.toList.drop 48 = dktX3_erase_2 := dk_seg dksX3_erase_1 24 rfl rfl
theorem dksX3_erase_3 : cX3_erase.data.toList.drop 72 = dktX3_erase_3 := dk_seg dksX3_erase_2 24 rfl rfl
theorem dX3_erase_0 : decode cX3_erase 0 = .ok (.aload_n 0, 1) := dk_42 (dk_at dksX3_erase_0 0 rfl rfl)
theorem dX3_erase_1 : decode cX3_erase 1 = .ok (.iload_n 1, 1) := dk_27 (dk_at dksX3_erase_0 1 rfl rfl)
theorem dX3_erase_2 : decode cX3_erase 2 = .ok (.invokestatic 69, 3) := dk_184 0 69 (dk_at dksX3_erase_0 2 rfl rfl)
theorem dX3_erase_5 : decode cX3_erase 5 = .ok (.ifCond .ne 7, 3) := dk_154 0 7 (dk_at dksX3_erase_0 5 rfl rfl)
theorem dX3_erase_8 : decode cX3_erase 8 = .ok (.iconst 1, 1) := dk_4 (dk_at dksX3_erase_0 8 rfl rfl)
theorem dX3_erase_9 : decode cX3_erase 9 = .ok (.goto 20, 3) := dk_167 0 20 (dk_at dksX3_erase_0 9 rfl rfl)
theorem dX3_erase_12 : decode cX3_erase 12 = .ok (.iload_n 2, 1) := dk_28 (dk_at dksX3_erase_0 12 rfl rfl)
theorem dX3_erase_13 : decode cX3_erase 13 = .ok (.iload_n 3, 1) := dk_29 (dk_at dksX3_erase_0 13 rfl rfl)
theorem dX3_erase_14 : decode cX3_erase 14 = .ok (.iload 4, 2) := dk_21 4 (dk_at dksX3_erase_0 14 rfl rfl)
theorem dX3_erase_16 : decode cX3_erase 16 = .ok (.iload 5, 2) := dk_21 5 (dk_at dksX3_erase_0 16 rfl rfl)
theorem dX3_erase_18 : decode cX3_erase 18 = .ok (.invokestatic 73, 3) := dk_184 0 73 (dk_at dksX3_erase_0 18 rfl rfl)
theorem dX3_erase_21 : decode cX3_erase 21 = .ok (.ifCond .ne 7, 3) := dk_154 0 7 (dk_at dksX3_erase_0 21 rfl rfl)
theorem dX3_erase_24 : decode cX3_erase 24 = .ok (.iconst 2, 1) := dk_5 (dk_at dksX3_erase_1 0 rfl rfl)
theorem dX3_erase_25 : decode cX3_erase 25 = .ok (.goto 4, 3) := dk_167 0 4 (dk_at dksX3_erase_1 1 rfl rfl)
theorem dX3_erase_28 : decode cX3_erase 28 = .ok (.iconst 0, 1) := dk_3 (dk_at dksX3_erase_1 4 rfl rfl)
theorem dX3_erase_29 : decode cX3_erase 29 = .ok (.putfield 46, 3) := dk_181 0 46 (dk_at dksX3_erase_1 5 rfl rfl)
theorem dX3_erase_32 : decode cX3_erase 32 = .ok (.aload_n 0, 1) := dk_42 (dk_at dksX3_erase_1 8 rfl rfl)
theorem dX3_erase_33 : decode cX3_erase 33 = .ok (.getfield 46, 3) := dk_180 0 46 (dk_at dksX3_erase_1 9 rfl rfl)
theorem dX3_erase_36 : decode cX3_erase 36 = .ok (.ifCond .eq 5, 3) := dk_153 0 5 (dk_at dksX3_erase_1 12 rfl rfl)
theorem dX3_erase_39 : decode cX3_erase 39 = .ok (.iconst 0, 1) := dk_3 (dk_at dksX3_erase_1 15 rfl rfl)
theorem dX3_erase_40 : decode cX3_erase 40 = .ok (.ireturn, 1) := dk_172 (dk_at dksX3_erase_1 16 rfl rfl)
theorem dX3_erase_41 : decode cX3_erase 41 = .ok (.aload_n 0, 1) := dk_42 (dk_at dksX3_erase_1 17 rfl rfl)
theorem dX3_erase_42 : decode cX3_erase 42 = .ok (.iload_n 1, 1) := dk_27 (dk_at dksX3_erase_1 18 rfl rfl)
theorem dX3_erase_43 : decode cX3_erase 43 = .ok (.invokevirtual 66, 3) := dk_182 0 66 (dk_at dksX3_erase_1 19 rfl rfl)
theorem dX3_erase_46 : decode cX3_erase 46 = .ok (.istore 6, 2) := dk_54 6 (dk_at dksX3_erase_1 22 rfl rfl)
theorem dX3_erase_48 : decode cX3_erase 48 = .ok (.iload_n 3, 1) := dk_29 (dk_at dksX3_erase_2 0 rfl rfl)
theorem dX3_erase_49 : decode cX3_erase 49 = .ok (.istore 7, 2) := dk_54 7 (dk_at dksX3_erase_2 1 rfl rfl)
theorem dX3_erase_51 : decode cX3_erase 51 = .ok (.iload 7, 2) := dk_21 7 (dk_at dksX3_erase_2 3 rfl rfl)
theorem dX3_erase_53 : decode cX3_erase 53 = .ok (.iload 5, 2) := dk_21 5 (dk_at dksX3_erase_2 5 rfl rfl)
theorem dX3_erase_55 : decode cX3_erase 55 = .ok (.if_icmp .ge 32, 3) := dk_162 0 32 (dk_at dksX3_erase_2 7 rfl rfl)
theorem dX3_erase_58 : decode cX3_erase 58 = .ok (.aload_n 0, 1) := dk_42 (dk_at dksX3_erase_2 10 rfl rfl)
theorem dX3_erase_59 : decode cX3_erase 59 = .ok (.getfield 7, 3) := dk_180 0 7 (dk_at dksX3_erase_2 11 rfl rfl)
theorem dX3_erase_62 : decode cX3_erase 62 = .ok (.bipush 24, 2) := dk_16 24 (dk_at dksX3_erase_2 14 rfl rfl)
theorem dX3_erase_64 : decode cX3_erase 64 = .ok (.iload_n 1, 1) := dk_27 (dk_at dksX3_erase_2 16 rfl rfl)
theorem dX3_erase_65 : decode cX3_erase 65 = .ok (.imul, 1) := dk_104 (dk_at dksX3_erase_2 17 rfl rfl)
theorem dX3_erase_66 : decode cX3_erase 66 = .ok (.iload 7, 2) := dk_21 7 (dk_at dksX3_erase_2 18 rfl rfl)
theorem dX3_erase_68 : decode cX3_erase 68 = .ok (.iadd, 1) := dk_96 (dk_at dksX3_erase_2 20 rfl rfl)
theorem dX3_erase_69 : decode cX3_erase 69 = .ok (.dup2, 1) := dk_92 (dk_at dksX3_erase_2 21 rfl rfl)
theorem dX3_erase_70 : decode cX3_erase 70 = .ok (.iaload, 1) := dk_46 (dk_at dksX3_erase_2 22 rfl rfl)
theorem dX3_erase_71 : decode cX3_erase 71 = .ok (.iload_n 2, 1) := dk_28 (dk_at dksX3_erase_2 23 rfl rfl)
theorem dX3_erase_72 : decode cX3_erase 72 = .ok (.iload 4, 2) := dk_21 4 (dk_at dksX3_erase_3 0 rfl rfl)
theorem dX3_erase_74 : decode cX3_erase 74 = .ok (.invokestatic 77, 3) := dk_184 0 77 (dk_at dksX3_erase_3 2 rfl rfl)
theorem dX3_erase_77 : decode cX3_erase 77 = .ok (.iconst (-1), 1) := dk_2 (dk_at dksX3_erase_3 5 rfl rfl)
theorem dX3_erase_78 : decode cX3_erase 78 = .ok (.ixor, 1) := dk_130 (dk_at dksX3_erase_3 6 rfl rfl)
theorem dX3_erase_79 : decode cX3_erase 79 = .ok (.iand, 1) := dk_126 (dk_at dksX3_erase_3 7 rfl rfl)
theorem dX3_erase_80 : decode cX3_erase 80 = .ok (.iastore, 1) := dk_79 (dk_at dksX3_erase_3 8 rfl rfl)
theorem dX3_erase_81 : decode cX3_erase 81 = .ok (.iinc 7 1, 3) := dk_132 7 1 (dk_at dksX3_erase_3 9 rfl rfl)
theorem dX3_erase_84 : decode cX3_erase 84 = .ok (.goto (-33), 3) := dk_167 255 223 (dk_at dksX3_erase_3 12 rfl rfl)
theorem dX3_erase_87 : decode cX3_erase 87 = .ok (.iload 6, 2) := dk_21 6 (dk_at dksX3_erase_3 15 rfl rfl)
theorem dX3_erase_89 : decode cX3_erase 89 = .ok (.aload_n 0, 1) := dk_42 (dk_at dksX3_erase_3 17 rfl rfl)
theorem dX3_erase_90 : decode cX3_erase 90 = .ok (.iload_n 1, 1) := dk_27 (dk_at dksX3_erase_3 18 rfl rfl)
theorem dX3_erase_91 : decode cX3_erase 91 = .ok (.invokevirtual 66, 3) := dk_182 0 66 (dk_at dksX3_erase_3 19 rfl rfl)
theorem dX3_erase_94 : decode cX3_erase 94 = .ok (.isub, 1) := dk_100 (dk_at dksX3_erase_3 22 rfl rfl)
theorem dX3_erase_95 : decode cX3_erase 95 = .ok (.ireturn, 1) := dk_172 (dk_at dksX3_erase_3 23 rfl rfl)
abbrev cX3_clear : ByteArray := prog_22_method_16_code
def yX3_clear : MethodName := ⟨RX3, "clear", "(I)I"⟩
def dkwX3_clear_2 : List UInt8 := [96, 3, 79, 132, 3, 1, 167, 255, 235, 28, 172]
abbrev dktX3_clear_2 : List UInt8 := dkwX3_clear_2 ++ []
def dkwX3_clear_1 : List UInt8 := [172, 42, 27, 182, 0, 66, 61, 3, 62, 29, 16, 24, 162, 0, 21, 42, 180, 0, 7, 16, 24, 27, 104, 29]
abbrev dktX3_clear_1 : List UInt8 := dkwX3_clear_1 ++ dktX3_clear_2
def dkwX3_clear_0 : List UInt8 := [42, 27, 184, 0, 69, 153, 0, 7, 3, 167, 0, 4, 4, 181, 0, 46, 42, 180, 0, 46, 153, 0, 5, 3]
abbrev dktX3_clear_0 : List UInt8 := dkwX3_clear_0 ++ dktX3_clear_1
theorem dksX3_clear_0 : cX3_clear.data.toList.drop 0 = dktX3_clear_0 := by decide +kernel
theorem dksX3_clear_1 : cX3_clear.data.toList.drop 24 = dktX3_clear_1 := dk_seg dksX3_clear_0 24 rfl rfl
theorem dksX3_clear_2 : cX3_clear.data.toList.drop 48 = dktX3_clear_2 := dk_seg dksX3_clear_1 24 rfl rfl
theorem dX3_clear_0 : decode cX3_clear 0 = .ok (.aload_n 0, 1) := dk_42 (dk_at dksX3_clear_0 0 rfl rfl)
theorem dX3_clear_1 : decode cX3_clear 1 = .ok (.iload_n 1, 1) := dk_27 (dk_at dksX3_clear_0 1 rfl rfl)
theorem dX3_clear_2 : decode cX3_clear 2 = .ok (.invokestatic 69, 3) := dk_184 0 69 (dk_at dksX3_clear_0 2 rfl rfl)
theorem dX3_clear_5 : decode cX3_clear 5 = .ok (.ifCond .eq 7, 3) := dk_153 0 7 (dk_at dksX3_clear_0 5 rfl rfl)
theorem dX3_clear_8 : decode cX3_clear 8 = .ok (.iconst 0, 1) := dk_3 (dk_at dksX3_clear_0 8 rfl rfl)
theorem dX3_clear_9 : decode cX3_clear 9 = .ok (.goto 4, 3) := dk_167 0 4 (dk_at dksX3_clear_0 9 rfl rfl)
theorem dX3_clear_12 : decode cX3_clear 12 = .ok (.iconst 1, 1) := dk_4 (dk_at dksX3_clear_0 12 rfl rfl)
theorem dX3_clear_13 : decode cX3_clear 13 = .ok (.putfield 46, 3) := dk_181 0 46 (dk_at dksX3_clear_0 13 rfl rfl)
theorem dX3_clear_16 : decode cX3_clear 16 = .ok (.aload_n 0, 1) := dk_42 (dk_at dksX3_clear_0 16 rfl rfl)
theorem dX3_clear_17 : decode cX3_clear 17 = .ok (.getfield 46, 3) := dk_180 0 46 (dk_at dksX3_clear_0 17 rfl rfl)
theorem dX3_clear_20 : decode cX3_clear 20 = .ok (.ifCond .eq 5, 3) := dk_153 0 5 (dk_at dksX3_clear_0 20 rfl rfl)
theorem dX3_clear_23 : decode cX3_clear 23 = .ok (.iconst 0, 1) := dk_3 (dk_at dksX3_clear_0 23 rfl rfl)
theorem dX3_clear_24 : decode cX3_clear 24 = .ok (.ireturn, 1) := dk_172 (dk_at dksX3_clear_1 0 rfl rfl)
theorem dX3_clear_25 : decode cX3_clear 25 = .ok (.aload_n 0, 1) := dk_42 (dk_at dksX3_clear_1 1 rfl rfl)
theorem dX3_clear_26 : decode cX3_clear 26 = .ok (.iload_n 1, 1) := dk_27 (dk_at dksX3_clear_1 2 rfl rfl)
theorem dX3_clear_27 : decode cX3_clear 27 = .ok (.invokevirtual 66, 3) := dk_182 0 66 (dk_at dksX3_clear_1 3 rfl rfl)
theorem dX3_clear_30 : decode cX3_clear 30 = .ok (.istore_n 2, 1) := dk_61 (dk_at dksX3_clear_1 6 rfl rfl)
theorem dX3_clear_31 : decode cX3_clear 31 = .ok (.iconst 0, 1) := dk_3 (dk_at dksX3_clear_1 7 rfl rfl)
theorem dX3_clear_32 : decode cX3_clear 32 = .ok (.istore_n 3, 1) := dk_62 (dk_at dksX3_clear_1 8 rfl rfl)
theorem dX3_clear_33 : decode cX3_clear 33 = .ok (.iload_n 3, 1) := dk_29 (dk_at dksX3_clear_1 9 rfl rfl)
theorem dX3_clear_34 : decode cX3_clear 34 = .ok (.bipush 24, 2) := dk_16 24 (dk_at dksX3_clear_1 10 rfl rfl)
theorem dX3_clear_36 : decode cX3_clear 36 = .ok (.if_icmp .ge 21, 3) := dk_162 0 21 (dk_at dksX3_clear_1 12 rfl rfl)
theorem dX3_clear_39 : decode cX3_clear 39 = .ok (.aload_n 0, 1) := dk_42 (dk_at dksX3_clear_1 15 rfl rfl)
theorem dX3_clear_40 : decode cX3_clear 40 = .ok (.getfield 7, 3) := dk_180 0 7 (dk_at dksX3_clear_1 16 rfl rfl)
theorem dX3_clear_43 : decode cX3_clear 43 = .ok (.bipush 24, 2) := dk_16 24 (dk_at dksX3_clear_1 19 rfl rfl)
theorem dX3_clear_45 : decode cX3_clear 45 = .ok (.iload_n 1, 1) := dk_27 (dk_at dksX3_clear_1 21 rfl rfl)
theorem dX3_clear_46 : decode cX3_clear 46 = .ok (.imul, 1) := dk_104 (dk_at dksX3_clear_1 22 rfl rfl)
theorem dX3_clear_47 : decode cX3_clear 47 = .ok (.iload_n 3, 1) := dk_29 (dk_at dksX3_clear_1 23 rfl rfl)
theorem dX3_clear_48 : decode cX3_clear 48 = .ok (.iadd, 1) := dk_96 (dk_at dksX3_clear_2 0 rfl rfl)
theorem dX3_clear_49 : decode cX3_clear 49 = .ok (.iconst 0, 1) := dk_3 (dk_at dksX3_clear_2 1 rfl rfl)
theorem dX3_clear_50 : decode cX3_clear 50 = .ok (.iastore, 1) := dk_79 (dk_at dksX3_clear_2 2 rfl rfl)
theorem dX3_clear_51 : decode cX3_clear 51 = .ok (.iinc 3 1, 3) := dk_132 3 1 (dk_at dksX3_clear_2 3 rfl rfl)
theorem dX3_clear_54 : decode cX3_clear 54 = .ok (.goto (-21), 3) := dk_167 255 235 (dk_at dksX3_clear_2 6 rfl rfl)
theorem dX3_clear_57 : decode cX3_clear 57 = .ok (.iload_n 2, 1) := dk_28 (dk_at dksX3_clear_2 9 rfl rfl)
theorem dX3_clear_58 : decode cX3_clear 58 = .ok (.ireturn, 1) := dk_172 (dk_at dksX3_clear_2 10 rfl rfl)
abbrev cX3_moveTo : ByteArray := prog_22_method_18_code
def yX3_moveTo : MethodName := ⟨RX3, "moveTo", "(II)I"⟩
def dkwX3_moveTo_1 : List UInt8 := [3, 172, 42, 180, 0, 22, 3, 27, 79, 42, 180, 0, 25, 3, 28, 79, 42, 4, 181, 0, 83, 4, 172]
abbrev dktX3_moveTo_1 : List UInt8 := dkwX3_moveTo_1 ++ []
def dkwX3_moveTo_0 : List UInt8 := [42, 27, 28, 184, 0, 80, 153, 0, 7, 3, 167, 0, 4, 4, 181, 0, 46, 42, 180, 0, 46, 153, 0, 5]
abbrev dktX3_moveTo_0 : List UInt8 := dkwX3_moveTo_0 ++ dktX3_moveTo_1
theorem dksX3_moveTo_0 : cX3_moveTo.data.toList.drop 0 = dktX3_moveTo_0 := by decide +kernel
theorem dksX3_moveTo_1 : cX3_moveTo.data.toList.drop 24 = dktX3_moveTo_1 := dk_seg dksX3_moveTo_0 24 rfl rfl
theorem dX3_moveTo_0 : decode cX3_moveTo 0 = .ok (.aload_n 0, 1) := dk_42 (dk_at dksX3_moveTo_0 0 rfl rfl)
theorem dX3_moveTo_1 : decode cX3_moveTo 1 = .ok (.iload_n 1, 1) := dk_27 (dk_at dksX3_moveTo_0 1 rfl rfl)
theorem dX3_moveTo_2 : decode cX3_moveTo 2 = .ok (.iload_n 2, 1) := dk_28 (dk_at dksX3_moveTo_0 2 rfl rfl)
theorem dX3_moveTo_3 : decode cX3_moveTo 3 = .ok (.invokestatic 80, 3) := dk_184 0 80 (dk_at dksX3_moveTo_0 3 rfl rfl)
theorem dX3_moveTo_6 : decode cX3_moveTo 6 = .ok (.ifCond .eq 7, 3) := dk_153 0 7 (dk_at dksX3_moveTo_0 6 rfl rfl)
theorem dX3_moveTo_9 : decode cX3_moveTo 9 = .ok (.iconst 0, 1) := dk_3 (dk_at dksX3_moveTo_0 9 rfl rfl)
theorem dX3_moveTo_10 : decode cX3_moveTo 10 = .ok (.goto 4, 3) := dk_167 0 4 (dk_at dksX3_moveTo_0 10 rfl rfl)
theorem dX3_moveTo_13 : decode cX3_moveTo 13 = .ok (.iconst 1, 1) := dk_4 (dk_at dksX3_moveTo_0 13 rfl rfl)
theorem dX3_moveTo_14 : decode cX3_moveTo 14 = .ok (.putfield 46, 3) := dk_181 0 46 (dk_at dksX3_moveTo_0 14 rfl rfl)
theorem dX3_moveTo_17 : decode cX3_moveTo 17 = .ok (.aload_n 0, 1) := dk_42 (dk_at dksX3_moveTo_0 17 rfl rfl)
theorem dX3_moveTo_18 : decode cX3_moveTo 18 = .ok (.getfield 46, 3) := dk_180 0 46 (dk_at dksX3_moveTo_0 18 rfl rfl)
theorem dX3_moveTo_21 : decode cX3_moveTo 21 = .ok (.ifCond .eq 5, 3) := dk_153 0 5 (dk_at dksX3_moveTo_0 21 rfl rfl)
theorem dX3_moveTo_24 : decode cX3_moveTo 24 = .ok (.iconst 0, 1) := dk_3 (dk_at dksX3_moveTo_1 0 rfl rfl)
theorem dX3_moveTo_25 : decode cX3_moveTo 25 = .ok (.ireturn, 1) := dk_172 (dk_at dksX3_moveTo_1 1 rfl rfl)
theorem dX3_moveTo_26 : decode cX3_moveTo 26 = .ok (.aload_n 0, 1) := dk_42 (dk_at dksX3_moveTo_1 2 rfl rfl)
theorem dX3_moveTo_27 : decode cX3_moveTo 27 = .ok (.getfield 22, 3) := dk_180 0 22 (dk_at dksX3_moveTo_1 3 rfl rfl)
theorem dX3_moveTo_30 : decode cX3_moveTo 30 = .ok (.iconst 0, 1) := dk_3 (dk_at dksX3_moveTo_1 6 rfl rfl)
theorem dX3_moveTo_31 : decode cX3_moveTo 31 = .ok (.iload_n 1, 1) := dk_27 (dk_at dksX3_moveTo_1 7 rfl rfl)
theorem dX3_moveTo_32 : decode cX3_moveTo 32 = .ok (.iastore, 1) := dk_79 (dk_at dksX3_moveTo_1 8 rfl rfl)
theorem dX3_moveTo_33 : decode cX3_moveTo 33 = .ok (.aload_n 0, 1) := dk_42 (dk_at dksX3_moveTo_1 9 rfl rfl)
theorem dX3_moveTo_34 : decode cX3_moveTo 34 = .ok (.getfield 25, 3) := dk_180 0 25 (dk_at dksX3_moveTo_1 10 rfl rfl)
theorem dX3_moveTo_37 : decode cX3_moveTo 37 = .ok (.iconst 0, 1) := dk_3 (dk_at dksX3_moveTo_1 13 rfl rfl)
theorem dX3_moveTo_38 : decode cX3_moveTo 38 = .ok (.iload_n 2, 1) := dk_28 (dk_at dksX3_moveTo_1 14 rfl rfl)
theorem dX3_moveTo_39 : decode cX3_moveTo 39 = .ok (.iastore, 1) := dk_79 (dk_at dksX3_moveTo_1 15 rfl rfl)
theorem dX3_moveTo_40 : decode cX3_moveTo 40 = .ok (.aload_n 0, 1) := dk_42 (dk_at dksX3_moveTo_1 16 rfl rfl)
theorem dX3_moveTo_41 : decode cX3_moveTo 41 = .ok (.iconst 1, 1) := dk_4 (dk_at dksX3_moveTo_1 17 rfl rfl)
theorem dX3_moveTo_42 : decode cX3_moveTo 42 = .ok (.putfield 83, 3) := dk_181 0 83 (dk_at dksX3_moveTo_1 18 rfl rfl)
theorem dX3_moveTo_45 : decode cX3_moveTo 45 = .ok (.iconst 1, 1) := dk_4 (dk_at dksX3_moveTo_1 21 rfl rfl)
theorem dX3_moveTo_46 : decode cX3_moveTo 46 = .ok (.ireturn, 1) := dk_172 (dk_at dksX3_moveTo_1 22 rfl rfl)
abbrev cX3_isPoint : ByteArray := prog_22_method_17_code
def yX3_isPoint : MethodName := ⟨RX3, "isPoint", "(II)Z"⟩
def dkwX3_isPoint_1 : List UInt8 := [3, 172]
abbrev dktX3_isPoint_1 : List UInt8 := dkwX3_isPoint_1 ++ []
def dkwX3_isPoint_0 : List UInt8 := [26, 3, 16, 24, 184, 0, 50, 153, 0, 17, 27, 3, 16, 24, 184, 0, 50, 153, 0, 7, 4, 167, 0, 4]
abbrev dktX3_isPoint_0 : List UInt8 := dkwX3_isPoint_0 ++ dktX3_isPoint_1
theorem dksX3_isPoint_0 : cX3_isPoint.data.toList.drop 0 = dktX3_isPoint_0 := by decide +kernel
theorem dksX3_isPoint_1 : cX3_isPoint.data.toList.drop 24 = dktX3_isPoint_1 := dk_seg dksX3_isPoint_0 24 rfl rfl
theorem dX3_isPoint_0 : decode cX3_isPoint 0 = .ok (.iload_n 0, 1) := dk_26 (dk_at dksX3_isPoint_0 0 rfl rfl)
theorem dX3_isPoint_1 : decode cX3_isPoint 1 = .ok (.iconst 0, 1) := dk_3 (dk_at dksX3_isPoint_0 1 rfl rfl)
theorem dX3_isPoint_2 : decode cX3_isPoint 2 = .ok (.bipush 24, 2) := dk_16 24 (dk_at dksX3_isPoint_0 2 rfl rfl)
theorem dX3_isPoint_4 : decode cX3_isPoint 4 = .ok (.invokestatic 50, 3) := dk_184 0 50 (dk_at dksX3_isPoint_0 4 rfl rfl)
theorem dX3_isPoint_7 : decode cX3_isPoint 7 = .ok (.ifCond .eq 17, 3) := dk_153 0 17 (dk_at dksX3_isPoint_0 7 rfl rfl)
theorem dX3_isPoint_10 : decode cX3_isPoint 10 = .ok (.iload_n 1, 1) := dk_27 (dk_at dksX3_isPoint_0 10 rfl rfl)
theorem dX3_isPoint_11 : decode cX3_isPoint 11 = .ok (.iconst 0, 1) := dk_3 (dk_at dksX3_isPoint_0 11 rfl rfl)
theorem dX3_isPoint_12 : decode cX3_isPoint 12 = .ok (.bipush 24, 2) := dk_16 24 (dk_at dksX3_isPoint_0 12 rfl rfl)
theorem dX3_isPoint_14 : decode cX3_isPoint 14 = .ok (.invokestatic 50, 3) := dk_184 0 50 (dk_at dksX3_isPoint_0 14 rfl rfl)
theorem dX3_isPoint_17 : decode cX3_isPoint 17 = .ok (.ifCond .eq 7, 3) := dk_153 0 7 (dk_at dksX3_isPoint_0 17 rfl rfl)
theorem dX3_isPoint_20 : decode cX3_isPoint 20 = .ok (.iconst 1, 1) := dk_4 (dk_at dksX3_isPoint_0 20 rfl rfl)
theorem dX3_isPoint_21 : decode cX3_isPoint 21 = .ok (.goto 4, 3) := dk_167 0 4 (dk_at dksX3_isPoint_0 21 rfl rfl)
theorem dX3_isPoint_24 : decode cX3_isPoint 24 = .ok (.iconst 0, 1) := dk_3 (dk_at dksX3_isPoint_1 0 rfl rfl)
theorem dX3_isPoint_25 : decode cX3_isPoint 25 = .ok (.ireturn, 1) := dk_172 (dk_at dksX3_isPoint_1 1 rfl rfl)
abbrev cX3_lineTo : ByteArray := prog_22_method_20_code
def yX3_lineTo : MethodName := ⟨RX3, "lineTo", "(II)I"⟩
def dkwX3_lineTo_4 : List UInt8 := [4, 96, 181, 0, 83, 42, 180, 0, 83, 172]
abbrev dktX3_lineTo_4 : List UInt8 := dkwX3_lineTo_4 ++ []
def dkwX3_lineTo_3 : List UInt8 := [180, 0, 22, 42, 180, 0, 83, 27, 79, 42, 180, 0, 25, 42, 180, 0, 83, 28, 79, 42, 89, 180, 0, 83]
abbrev dktX3_lineTo_3 : List UInt8 := dkwX3_lineTo_3 ++ dktX3_lineTo_4
def dkwX3_lineTo_2 : List UInt8 := [180, 0, 83, 4, 100, 46, 184, 0, 89, 154, 0, 9, 42, 5, 182, 0, 86, 172, 42, 3, 181, 0, 46, 42]
abbrev dktX3_lineTo_2 : List UInt8 := dkwX3_lineTo_2 ++ dktX3_lineTo_3
def dkwX3_lineTo_1 : List UInt8 := [184, 0, 80, 153, 0, 33, 27, 28, 42, 180, 0, 22, 42, 180, 0, 83, 4, 100, 46, 42, 180, 0, 25, 42]
abbrev dktX3_lineTo_1 : List UInt8 := dkwX3_lineTo_1 ++ dktX3_lineTo_2
def dkwX3_lineTo_0 : List UInt8 := [42, 180, 0, 83, 153, 0, 12, 42, 180, 0, 83, 16, 40, 160, 0, 9, 42, 4, 182, 0, 86, 172, 27, 28]
abbrev dktX3_lineTo_0 : List UInt8 := dkwX3_lineTo_0 ++ dktX3_lineTo_1
theorem dksX3_lineTo_0 : cX3_lineTo.data.toList.drop 0 = dktX3_lineTo_0 := by decide +kernel
theorem dksX3_lineTo_1 : cX3_lineTo.data.toList.drop 24 = dktX3_lineTo_1 := dk_seg dksX3_lineTo_0 24 rfl rfl
theorem dksX3_lineTo_2 : cX3_lineTo.data.toList.drop 48 = dktX3_lineTo_2 := dk_seg dksX3_lineTo_1 24 rfl rfl
theorem dksX3_lineTo_3 : cX3_lineTo.data.toList.drop 72 = dktX3_lineTo_3 := dk_seg dksX3_lineTo_2 24 rfl rfl
theorem dksX3_lineTo_4 : cX3_lineTo.data.toList.drop 96 = dktX3_lineTo_4 := dk_seg dksX3_lineTo_3 24 rfl rfl
theorem dX3_lineTo_0 : decode cX3_lineTo 0 = .ok (.aload_n 0, 1) := dk_42 (dk_at dksX3_lineTo_0 0 rfl rfl)
theorem dX3_lineTo_1 : decode cX3_lineTo 1 = .ok (.getfield 83, 3) := dk_180 0 83 (dk_at dksX3_lineTo_0 1 rfl rfl)
theorem dX3_lineTo_4 : decode cX3_lineTo 4 = .ok (.ifCond .eq 12, 3) := dk_153 0 12 (dk_at dksX3_lineTo_0 4 rfl rfl)
theorem dX3_lineTo_7 : decode cX3_lineTo 7 = .ok (.aload_n 0, 1) := dk_42 (dk_at dksX3_lineTo_0 7 rfl rfl)
theorem dX3_lineTo_8 : decode cX3_lineTo 8 = .ok (.getfield 83, 3) := dk_180 0 83 (dk_at dksX3_lineTo_0 8 rfl rfl)
theorem dX3_lineTo_11 : decode cX3_lineTo 11 = .ok (.bipush 40, 2) := dk_16 40 (dk_at dksX3_lineTo_0 11 rfl rfl)
theorem dX3_lineTo_13 : decode cX3_lineTo 13 = .ok (.if_icmp .ne 9, 3) := dk_160 0 9 (dk_at dksX3_lineTo_0 13 rfl rfl)
theorem dX3_lineTo_16 : decode cX3_lineTo 16 = .ok (.aload_n 0, 1) := dk_42 (dk_at dksX3_lineTo_0 16 rfl rfl)
theorem dX3_lineTo_17 : decode cX3_lineTo 17 = .ok (.iconst 1, 1) := dk_4 (dk_at dksX3_lineTo_0 17 rfl rfl)
theorem dX3_lineTo_18 : decode cX3_lineTo 18 = .ok (.invokevirtual 86, 3) := dk_182 0 86 (dk_at dksX3_lineTo_0 18 rfl rfl)
theorem dX3_lineTo_21 : decode cX3_lineTo 21 = .ok (.ireturn, 1) := dk_172 (dk_at dksX3_lineTo_0 21 rfl rfl)
theorem dX3_lineTo_22 : decode cX3_lineTo 22 = .ok (.iload_n 1, 1) := dk_27 (dk_at dksX3_lineTo_0 22 rfl rfl)
theorem dX3_lineTo_23 : decode cX3_lineTo 23 = .ok (.iload_n 2, 1) := dk_28 (dk_at dksX3_lineTo_0 23 rfl rfl)
theorem dX3_lineTo_24 : decode cX3_lineTo 24 = .ok (.invokestatic 80, 3) := dk_184 0 80 (dk_at dksX3_lineTo_1 0 rfl rfl)
theorem dX3_lineTo_27 : decode cX3_lineTo 27 = .ok (.ifCond .eq 33, 3) := dk_153 0 33 (dk_at dksX3_lineTo_1 3 rfl rfl)
theorem dX3_lineTo_30 : decode cX3_lineTo 30 = .ok (.iload_n 1, 1) := dk_27 (dk_at dksX3_lineTo_1 6 rfl rfl)
theorem dX3_lineTo_31 : decode cX3_lineTo 31 = .ok (.iload_n 2, 1) := dk_28 (dk_at dksX3_lineTo_1 7 rfl rfl)
theorem dX3_lineTo_32 : decode cX3_lineTo 32 = .ok (.aload_n 0, 1) := dk_42 (dk_at dksX3_lineTo_1 8 rfl rfl)
theorem dX3_lineTo_33 : decode cX3_lineTo 33 = .ok (.getfield 22, 3) := dk_180 0 22 (dk_at dksX3_lineTo_1 9 rfl rfl)
theorem dX3_lineTo_36 : decode cX3_lineTo 36 = .ok (.aload_n 0, 1) := dk_42 (dk_at dksX3_lineTo_1 12 rfl rfl)
theorem dX3_lineTo_37 : decode cX3_lineTo 37 = .ok (.getfield 83, 3) := dk_180 0 83 (dk_at dksX3_lineTo_1 13 rfl rfl)
theorem dX3_lineTo_40 : decode cX3_lineTo 40 = .ok (.iconst 1, 1) := dk_4 (dk_at dksX3_lineTo_1 16 rfl rfl)
theorem dX3_lineTo_41 : decode cX3_lineTo 41 = .ok (.isub, 1) := dk_100 (dk_at dksX3_lineTo_1 17 rfl rfl)
theorem dX3_lineTo_42 : decode cX3_lineTo 42 = .ok (.iaload, 1) := dk_46 (dk_at dksX3_lineTo_1 18 rfl rfl)
theorem dX3_lineTo_43 : decode cX3_lineTo 43 = .ok (.aload_n 0, 1) := dk_42 (dk_at dksX3_lineTo_1 19 rfl rfl)
theorem dX3_lineTo_44 : decode cX3_lineTo 44 = .ok (.getfield 25, 3) := dk_180 0 25 (dk_at dksX3_lineTo_1 20 rfl rfl)
theorem dX3_lineTo_47 : decode cX3_lineTo 47 = .ok (.aload_n 0, 1) := dk_42 (dk_at dksX3_lineTo_1 23 rfl rfl)
theorem dX3_lineTo_48 : decode cX3_lineTo 48 = .ok (.getfield 83, 3) := dk_180 0 83 (dk_at dksX3_lineTo_2 0 rfl rfl)
theorem dX3_lineTo_51 : decode cX3_lineTo 51 = .ok (.iconst 1, 1) := dk_4 (dk_at dksX3_lineTo_2 3 rfl rfl)
theorem dX3_lineTo_52 : decode cX3_lineTo 52 = .ok (.isub, 1) := dk_100 (dk_at dksX3_lineTo_2 4 rfl rfl)
theorem dX3_lineTo_53 : decode cX3_lineTo 53 = .ok (.iaload, 1) := dk_46 (dk_at dksX3_lineTo_2 5 rfl rfl)
theorem dX3_lineTo_54 : decode cX3_lineTo 54 = .ok (.invokestatic 89, 3) := dk_184 0 89 (dk_at dksX3_lineTo_2 6 rfl rfl)
theorem dX3_lineTo_57 : decode cX3_lineTo 57 = .ok (.ifCond .ne 9, 3) := dk_154 0 9 (dk_at dksX3_lineTo_2 9 rfl rfl)
theorem dX3_lineTo_60 : decode cX3_lineTo 60 = .ok (.aload_n 0, 1) := dk_42 (dk_at dksX3_lineTo_2 12 rfl rfl)
theorem dX3_lineTo_61 : decode cX3_lineTo 61 = .ok (.iconst 2, 1) := dk_5 (dk_at dksX3_lineTo_2 13 rfl rfl)
theorem dX3_lineTo_62 : decode cX3_lineTo 62 = .ok (.invokevirtual 86, 3) := dk_182 0 86 (dk_at dksX3_lineTo_2 14 rfl rfl)
theorem dX3_lineTo_65 : decode cX3_lineTo 65 = .ok (.ireturn, 1) := dk_172 (dk_at dksX3_lineTo_2 17 rfl rfl)
theorem dX3_lineTo_66 : decode cX3_lineTo 66 = .ok (.aload_n 0, 1) := dk_42 (dk_at dksX3_lineTo_2 18 rfl rfl)
theorem dX3_lineTo_67 : decode cX3_lineTo 67 = .ok (.iconst 0, 1) := dk_3 (dk_at dksX3_lineTo_2 19 rfl rfl)
theorem dX3_lineTo_68 : decode cX3_lineTo 68 = .ok (.putfield 46, 3) := dk_181 0 46 (dk_at dksX3_lineTo_2 20 rfl rfl)
theorem dX3_lineTo_71 : decode cX3_lineTo 71 = .ok (.aload_n 0, 1) := dk_42 (dk_at dksX3_lineTo_2 23 rfl rfl)
theorem dX3_lineTo_72 : decode cX3_lineTo 72 = .ok (.getfield 22, 3) := dk_180 0 22 (dk_at dksX3_lineTo_3 0 rfl rfl)
theorem dX3_lineTo_75 : decode cX3_lineTo 75 = .ok (.aload_n 0, 1) := dk_42 (dk_at dksX3_lineTo_3 3 rfl rfl)
theorem dX3_lineTo_76 : decode cX3_lineTo 76 = .ok (.getfield 83, 3) := dk_180 0 83 (dk_at dksX3_lineTo_3 4 rfl rfl)
theorem dX3_lineTo_79 : decode cX3_lineTo 79 = .ok (.iload_n 1, 1) := dk_27 (dk_at dksX3_lineTo_3 7 rfl rfl)
theorem dX3_lineTo_80 : decode cX3_lineTo 80 = .ok (.iastore, 1) := dk_79 (dk_at dksX3_lineTo_3 8 rfl rfl)
theorem dX3_lineTo_81 : decode cX3_lineTo 81 = .ok (.aload_n 0, 1) := dk_42 (dk_at dksX3_lineTo_3 9 rfl rfl)
theorem dX3_lineTo_82 : decode cX3_lineTo 82 = .ok (.getfield 25, 3) := dk_180 0 25 (dk_at dksX3_lineTo_3 10 rfl rfl)
theorem dX3_lineTo_85 : decode cX3_lineTo 85 = .ok (.aload_n 0, 1) := dk_42 (dk_at dksX3_lineTo_3 13 rfl rfl)
theorem dX3_lineTo_86 : decode cX3_lineTo 86 = .ok (.getfield 83, 3) := dk_180 0 83 (dk_at dksX3_lineTo_3 14 rfl rfl)
theorem dX3_lineTo_89 : decode cX3_lineTo 89 = .ok (.iload_n 2, 1) := dk_28 (dk_at dksX3_lineTo_3 17 rfl rfl)
theorem dX3_lineTo_90 : decode cX3_lineTo 90 = .ok (.iastore, 1) := dk_79 (dk_at dksX3_lineTo_3 18 rfl rfl)
theorem dX3_lineTo_91 : decode cX3_lineTo 91 = .ok (.aload_n 0, 1) := dk_42 (dk_at dksX3_lineTo_3 19 rfl rfl)
theorem dX3_lineTo_92 : decode cX3_lineTo 92 = .ok (.dup, 1) := dk_89 (dk_at dksX3_lineTo_3 20 rfl rfl)
theorem dX3_lineTo_93 : decode cX3_lineTo 93 = .ok (.getfield 83, 3) := dk_180 0 83 (dk_at dksX3_lineTo_3 21 rfl rfl)
theorem dX3_lineTo_96 : decode cX3_lineTo 96 = .ok (.iconst 1, 1) := dk_4 (dk_at dksX3_lineTo_4 0 rfl rfl)
theorem dX3_lineTo_97 : decode cX3_lineTo 97 = .ok (.iadd, 1) := dk_96 (dk_at dksX3_lineTo_4 1 rfl rfl)
theorem dX3_lineTo_98 : decode cX3_lineTo 98 = .ok (.putfield 83, 3) := dk_181 0 83 (dk_at dksX3_lineTo_4 2 rfl rfl)
theorem dX3_lineTo_101 : decode cX3_lineTo 101 = .ok (.aload_n 0, 1) := dk_42 (dk_at dksX3_lineTo_4 5 rfl rfl)
theorem dX3_lineTo_102 : decode cX3_lineTo 102 = .ok (.getfield 83, 3) := dk_180 0 83 (dk_at dksX3_lineTo_4 6 rfl rfl)
theorem dX3_lineTo_105 : decode cX3_lineTo 105 = .ok (.ireturn, 1) := dk_172 (dk_at dksX3_lineTo_4 9 rfl rfl)
abbrev cX3_fail : ByteArray := prog_22_method_3_code
def yX3_fail : MethodName := ⟨RX3, "fail", "(I)I"⟩
def dkwX3_fail_0 : List UInt8 := [42, 27, 181, 0, 46, 3, 172]
abbrev dktX3_fail_0 : List UInt8 := dkwX3_fail_0 ++ []
theorem dksX3_fail_0 : cX3_fail.data.toList.drop 0 = dktX3_fail_0 := by decide +kernel
theorem dX3_fail_0 : decode cX3_fail 0 = .ok (.aload_n 0, 1) := dk_42 (dk_at dksX3_fail_0 0 rfl rfl)
theorem dX3_fail_1 : decode cX3_fail 1 = .ok (.iload_n 1, 1) := dk_27 (dk_at dksX3_fail_0 1 rfl rfl)
theorem dX3_fail_2 : decode cX3_fail 2 = .ok (.putfield 46, 3) := dk_181 0 46 (dk_at dksX3_fail_0 2 rfl rfl)
theorem dX3_fail_5 : decode cX3_fail 5 = .ok (.iconst 0, 1) := dk_3 (dk_at dksX3_fail_0 5 rfl rfl)
theorem dX3_fail_6 : decode cX3_fail 6 = .ok (.ireturn, 1) := dk_172 (dk_at dksX3_fail_0 6 rfl rfl)
abbrev cX3_isLine : ByteArray := prog_22_method_19_code
def yX3_isLine : MethodName := ⟨RX3, "isLine", "(IIII)Z"⟩
def dkwX3_isLine_1 : List UInt8 := [167, 0, 4, 3, 172]
abbrev dktX3_isLine_1 : List UInt8 := dkwX3_isLine_1 ++ []
def dkwX3_isLine_0 : List UInt8 := [26, 28, 160, 0, 7, 4, 167, 0, 4, 3, 27, 29, 160, 0, 7, 4, 167, 0, 4, 3, 159, 0, 7, 4]
abbrev dktX3_isLine_0 : List UInt8 := dkwX3_isLine_0 ++ dktX3_isLine_1
theorem dksX3_isLine_0 : cX3_isLine.data.toList.drop 0 = dktX3_isLine_0 := by decide +kernel
theorem dksX3_isLine_1 : cX3_isLine.data.toList.drop 24 = dktX3_isLine_1 := dk_seg dksX3_isLine_0 24 rfl rfl
theorem dX3_isLine_0 : decode cX3_isLine 0 = .ok (.iload_n 0, 1) := dk_26 (dk_at dksX3_isLine_0 0 rfl rfl)
theorem dX3_isLine_1 : decode cX3_isLine 1 = .ok (.iload_n 2, 1) := dk_28 (dk_at dksX3_isLine_0 1 rfl rfl)
theorem dX3_isLine_2 : decode cX3_isLine 2 = .ok (.if_icmp .ne 7, 3) := dk_160 0 7 (dk_at dksX3_isLine_0 2 rfl rfl)
theorem dX3_isLine_5 : decode cX3_isLine 5 = .ok (.iconst 1, 1) := dk_4 (dk_at dksX3_isLine_0 5 rfl rfl)
theorem dX3_isLine_6 : decode cX3_isLine 6 = .ok (.goto 4, 3) := dk_167 0 4 (dk_at dksX3_isLine_0 6 rfl rfl)
theorem dX3_isLine_9 : decode cX3_isLine 9 = .ok (.iconst 0, 1) := dk_3 (dk_at dksX3_isLine_0 9 rfl rfl)
theorem dX3_isLine_10 : decode cX3_isLine 10 = .ok (.iload_n 1, 1) := dk_27 (dk_at dksX3_isLine_0 10 rfl rfl)
theorem dX3_isLine_11 : decode cX3_isLine 11 = .ok (.iload_n 3, 1) := dk_29 (dk_at dksX3_isLine_0 11 rfl rfl)
theorem dX3_isLine_12 : decode cX3_isLine 12 = .ok (.if_icmp .ne 7, 3) := dk_160 0 7 (dk_at dksX3_isLine_0 12 rfl rfl)
theorem dX3_isLine_15 : decode cX3_isLine 15 = .ok (.iconst 1, 1) := dk_4 (dk_at dksX3_isLine_0 15 rfl rfl)
theorem dX3_isLine_16 : decode cX3_isLine 16 = .ok (.goto 4, 3) := dk_167 0 4 (dk_at dksX3_isLine_0 16 rfl rfl)
theorem dX3_isLine_19 : decode cX3_isLine 19 = .ok (.iconst 0, 1) := dk_3 (dk_at dksX3_isLine_0 19 rfl rfl)
theorem dX3_isLine_20 : decode cX3_isLine 20 = .ok (.if_icmp .eq 7, 3) := dk_159 0 7 (dk_at dksX3_isLine_0 20 rfl rfl)
theorem dX3_isLine_23 : decode cX3_isLine 23 = .ok (.iconst 1, 1) := dk_4 (dk_at dksX3_isLine_0 23 rfl rfl)
theorem dX3_isLine_24 : decode cX3_isLine 24 = .ok (.goto 4, 3) := dk_167 0 4 (dk_at dksX3_isLine_1 0 rfl rfl)
theorem dX3_isLine_27 : decode cX3_isLine 27 = .ok (.iconst 0, 1) := dk_3 (dk_at dksX3_isLine_1 3 rfl rfl)
theorem dX3_isLine_28 : decode cX3_isLine 28 = .ok (.ireturn, 1) := dk_172 (dk_at dksX3_isLine_1 4 rfl rfl)
abbrev cX3_closePath : ByteArray := prog_22_method_22_code
def yX3_closePath : MethodName := ⟨RX3, "closePath", "(IZ)I"⟩
def dkwX3_closePath_6 : List UInt8 := [132, 4, 1, 167, 255, 205, 132, 3, 1, 167, 255, 183, 42, 3, 181, 0, 83, 42, 27, 182, 0, 95, 172]
abbrev dktX3_closePath_6 : List UInt8 := dkwX3_closePath_6 ++ []
def dkwX3_closePath_5 : List UInt8 := [153, 0, 24, 167, 0, 8, 21, 5, 153, 0, 16, 42, 180, 0, 13, 29, 92, 46, 4, 21, 4, 120, 128, 79]
abbrev dktX3_closePath_5 : List UInt8 := dkwX3_closePath_5 ++ dktX3_closePath_6
def dkwX3_closePath_4 : List UInt8 := [16, 24, 162, 0, 50, 42, 21, 4, 29, 182, 0, 92, 54, 5, 28, 153, 0, 13, 21, 5, 5, 112]
abbrev dktX3_closePath_4 : List UInt8 := dkwX3_closePath_4 ++ dktX3_closePath_5
def dkwX3_closePath_3 : List UInt8 := [181, 0, 46, 3, 62, 29, 16, 24, 162, 0, 73, 42, 180, 0, 13, 29, 3, 79, 3, 54, 4, 21, 4]
abbrev dktX3_closePath_3 : List UInt8 := dkwX3_closePath_3 ++ dktX3_closePath_4
def dkwX3_closePath_2 : List UInt8 := [180, 0, 25, 42, 180, 0, 83, 4, 100, 46, 184, 0, 89, 154, 0, 9, 42, 5, 182, 0, 86, 172, 42, 3]
abbrev dktX3_closePath_2 : List UInt8 := dkwX3_closePath_2 ++ dktX3_closePath_3
def dkwX3_closePath_1 : List UInt8 := [180, 0, 22, 3, 46, 42, 180, 0, 25, 3, 46, 42, 180, 0, 22, 42, 180, 0, 83, 4, 100, 46, 42]
abbrev dktX3_closePath_1 : List UInt8 := dkwX3_closePath_1 ++ dktX3_closePath_2
def dkwX3_closePath_0 : List UInt8 := [27, 184, 0, 69, 154, 0, 9, 42, 4, 182, 0, 86, 172, 42, 180, 0, 83, 7, 161, 0, 43, 42]
abbrev dktX3_closePath_0 : List UInt8 := dkwX3_closePath_0 ++ dktX3_closePath_1
theorem dksX3_closePath_0 : cX3_closePath.data.toList.drop 0 = dktX3_closePath_0 := by decide +kernel
theorem dksX3_closePath_1 : cX3_closePath.data.toList.drop 22 = dktX3_closePath_1 := dk_seg dksX3_closePath_0 22 rfl rfl
theorem dksX3_closePath_2 : cX3_closePath.data.toList.drop 45 = dktX3_closePath_2 := dk_seg dksX3_closePath_1 23 rfl rfl
theorem dksX3_closePath_3 : cX3_closePath.data.toList.drop 69 = dktX3_closePath_3 := dk_seg dksX3_closePath_2 24 rfl rfl
theorem dksX3_closePath_4 : cX3_closePath.data.toList.drop 92 = dktX3_closePath_4 := dk_seg dksX3_closePath_3 23 rfl rfl
theorem dksX3_closePath_5 : cX3_closePath.data.toList.drop 114 = dktX3_closePath_5 := dk_seg dksX3_closePath_4 22 rfl rfl
theorem dksX3_closePath_6 : cX3_closePath.data.toList.drop 138 = dktX3_closePath_6 := dk_seg dksX3_closePath_5 24 rfl rfl
theorem dX3_closePath_0 : decode cX3_closePath 0 = .ok (.iload_n 1, 1) := dk_27 (dk_at dksX3_closePath_0 0 rfl rfl)
theorem dX3_closePath_1 : decode cX3_closePath 1 = .ok (.invokestatic 69, 3) := dk_184 0 69 (dk_at dksX3_closePath_0 1 rfl rfl)
theorem dX3_closePath_4 : decode cX3_closePath 4 = .ok (.ifCond .ne 9, 3) := dk_154 0 9 (dk_at dksX3_closePath_0 4 rfl rfl)
theorem dX3_closePath_7 : decode cX3_closePath 7 = .ok (.aload_n 0, 1) := dk_42 (dk_at dksX3_closePath_0 7 rfl rfl)
theorem dX3_closePath_8 : decode cX3_closePath 8 = .ok (.iconst 1, 1) := dk_4 (dk_at dksX3_closePath_0 8 rfl rfl)
theorem dX3_closePath_9 : decode cX3_closePath 9 = .ok (.invokevirtual 86, 3) := dk_182 0 86 (dk_at dksX3_closePath_0 9 rfl rfl)
theorem dX3_closePath_12 : decode cX3_closePath 12 = .ok (.ireturn, 1) := dk_172 (dk_at dksX3_closePath_0 12 rfl rfl)
theorem dX3_closePath_13 : decode cX3_closePath 13 = .ok (.aload_n 0, 1) := dk_42 (dk_at dksX3_closePath_0 13 rfl rfl)
theorem dX3_closePath_14 : decode cX3_closePath 14 = .ok (.getfield 83, 3) := dk_180 0 83 (dk_at dksX3_closePath_0 14 rfl rfl)
theorem dX3_closePath_17 : decode cX3_closePath 17 = .ok (.iconst 4, 1) := dk_7 (dk_at dksX3_closePath_0 17 rfl rfl)
theorem dX3_closePath_18 : decode cX3_closePath 18 = .ok (.if_icmp .lt 43, 3) := dk_161 0 43 (dk_at dksX3_closePath_0 18 rfl rfl)
theorem dX3_closePath_21 : decode cX3_closePath 21 = .ok (.aload_n 0, 1) := dk_42 (dk_at dksX3_closePath_0 21 rfl rfl)
theorem dX3_closePath_22 : decode cX3_closePath 22 = .ok (.getfield 22, 3) := dk_180 0 22 (dk_at dksX3_closePath_1 0 rfl rfl)
theorem dX3_closePath_25 : decode cX3_closePath 25 = .ok (.iconst 0, 1) := dk_3 (dk_at dksX3_closePath_1 3 rfl rfl)
theorem dX3_closePath_26 : decode cX3_closePath 26 = .ok (.iaload, 1) := dk_46 (dk_at dksX3_closePath_1 4 rfl rfl)
theorem dX3_closePath_27 : decode cX3_closePath 27 = .ok (.aload_n 0, 1) := dk_42 (dk_at dksX3_closePath_1 5 rfl rfl)
theorem dX3_closePath_28 : decode cX3_closePath 28 = .ok (.getfield 25, 3) := dk_180 0 25 (dk_at dksX3_closePath_1 6 rfl rfl)
theorem dX3_closePath_31 : decode cX3_closePath 31 = .ok (.iconst 0, 1) := dk_3 (dk_at dksX3_closePath_1 9 rfl rfl)
theorem dX3_closePath_32 : decode cX3_closePath 32 = .ok (.iaload, 1) := dk_46 (dk_at dksX3_closePath_1 10 rfl rfl)
theorem dX3_closePath_33 : decode cX3_closePath 33 = .ok (.aload_n 0, 1) := dk_42 (dk_at dksX3_closePath_1 11 rfl rfl)
theorem dX3_closePath_34 : decode cX3_closePath 34 = .ok (.getfield 22, 3) := dk_180 0 22 (dk_at dksX3_closePath_1 12 rfl rfl)
theorem dX3_closePath_37 : decode cX3_closePath 37 = .ok (.aload_n 0, 1) := dk_42 (dk_at dksX3_closePath_1 15 rfl rfl)
theorem dX3_closePath_38 : decode cX3_closePath 38 = .ok (.getfield 83, 3) := dk_180 0 83 (dk_at dksX3_closePath_1 16 rfl rfl)
theorem dX3_closePath_41 : decode cX3_closePath 41 = .ok (.iconst 1, 1) := dk_4 (dk_at dksX3_closePath_1 19 rfl rfl)
theorem dX3_closePath_42 : decode cX3_closePath 42 = .ok (.isub, 1) := dk_100 (dk_at dksX3_closePath_1 20 rfl rfl)
theorem dX3_closePath_43 : decode cX3_closePath 43 = .ok (.iaload, 1) := dk_46 (dk_at dksX3_closePath_1 21 rfl rfl)
theorem dX3_closePath_44 : decode cX3_closePath 44 = .ok (.aload_n 0, 1) := dk_42 (dk_at dksX3_closePath_1 22 rfl rfl)
theorem dX3_closePath_45 : decode cX3_closePath 45 = .ok (.getfield 25, 3) := dk_180 0 25 (dk_at dksX3_closePath_2 0 rfl rfl)
theorem dX3_closePath_48 : decode cX3_closePath 48 = .ok (.aload_n 0, 1) := dk_42 (dk_at dksX3_closePath_2 3 rfl rfl)
theorem dX3_closePath_49 : decode cX3_closePath 49 = .ok (.getfield 83, 3) := dk_180 0 83 (dk_at dksX3_closePath_2 4 rfl rfl)
theorem dX3_closePath_52 : decode cX3_closePath 52 = .ok (.iconst 1, 1) := dk_4 (dk_at dksX3_closePath_2 7 rfl rfl)
theorem dX3_closePath_53 : decode cX3_closePath 53 = .ok (.isub, 1) := dk_100 (dk_at dksX3_closePath_2 8 rfl rfl)
theorem dX3_closePath_54 : decode cX3_closePath 54 = .ok (.iaload, 1) := dk_46 (dk_at dksX3_closePath_2 9 rfl rfl)
theorem dX3_closePath_55 : decode cX3_closePath 55 = .ok (.invokestatic 89, 3) := dk_184 0 89 (dk_at dksX3_closePath_2 10 rfl rfl)
theorem dX3_closePath_58 : decode cX3_closePath 58 = .ok (.ifCond .ne 9, 3) := dk_154 0 9 (dk_at dksX3_closePath_2 13 rfl rfl)
theorem dX3_closePath_61 : decode cX3_closePath 61 = .ok (.aload_n 0, 1) := dk_42 (dk_at dksX3_closePath_2 16 rfl rfl)
theorem dX3_closePath_62 : decode cX3_closePath 62 = .ok (.iconst 2, 1) := dk_5 (dk_at dksX3_closePath_2 17 rfl rfl)
theorem dX3_closePath_63 : decode cX3_closePath 63 = .ok (.invokevirtual 86, 3) := dk_182 0 86 (dk_at dksX3_closePath_2 18 rfl rfl)
theorem dX3_closePath_66 : decode cX3_closePath 66 = .ok (.ireturn, 1) := dk_172 (dk_at dksX3_closePath_2 21 rfl rfl)
theorem dX3_closePath_67 : decode cX3_closePath 67 = .ok (.aload_n 0, 1) := dk_42 (dk_at dksX3_closePath_2 22 rfl rfl)
theorem dX3_closePath_68 : decode cX3_closePath 68 = .ok (.iconst 0, 1) := dk_3 (dk_at dksX3_closePath_2 23 rfl rfl)
theorem dX3_closePath_69 : decode cX3_closePath 69 = .ok (.putfield 46, 3) := dk_181 0 46 (dk_at dksX3_closePath_3 0 rfl rfl)
theorem dX3_closePath_72 : decode cX3_closePath 72 = .ok (.iconst 0, 1) := dk_3 (dk_at dksX3_closePath_3 3 rfl rfl)
theorem dX3_closePath_73 : decode cX3_closePath 73 = .ok (.istore_n 3, 1) := dk_62 (dk_at dksX3_closePath_3 4 rfl rfl)
theorem dX3_closePath_74 : decode cX3_closePath 74 = .ok (.iload_n 3, 1) := dk_29 (dk_at dksX3_closePath_3 5 rfl rfl)
theorem dX3_closePath_75 : decode cX3_closePath 75 = .ok (.bipush 24, 2) := dk_16 24 (dk_at dksX3_closePath_3 6 rfl rfl)
theorem dX3_closePath_77 : decode cX3_closePath 77 = .ok (.if_icmp .ge 73, 3) := dk_162 0 73 (dk_at dksX3_closePath_3 8 rfl rfl)
theorem dX3_closePath_80 : decode cX3_closePath 80 = .ok (.aload_n 0, 1) := dk_42 (dk_at dksX3_closePath_3 11 rfl rfl)
theorem dX3_closePath_81 : decode cX3_closePath 81 = .ok (.getfield 13, 3) := dk_180 0 13 (dk_at dksX3_closePath_3 12 rfl rfl)
theorem dX3_closePath_84 : decode cX3_closePath 84 = .ok (.iload_n 3, 1) := dk_29 (dk_at dksX3_closePath_3 15 rfl rfl)
theorem dX3_closePath_85 : decode cX3_closePath 85 = .ok (.iconst 0, 1) := dk_3 (dk_at dksX3_closePath_3 16 rfl rfl)
theorem dX3_closePath_86 : decode cX3_closePath 86 = .ok (.iastore, 1) := dk_79 (dk_at dksX3_closePath_3 17 rfl rfl)
theorem dX3_closePath_87 : decode cX3_closePath 87 = .ok (.iconst 0, 1) := dk_3 (dk_at dksX3_closePath_3 18 rfl rfl)
theorem dX3_closePath_88 : decode cX3_closePath 88 = .ok (.istore 4, 2) := dk_54 4 (dk_at dksX3_closePath_3 19 rfl rfl)
theorem dX3_closePath_90 : decode cX3_closePath 90 = .ok (.iload 4, 2) := dk_21 4 (dk_at dksX3_closePath_3 21 rfl rfl)
theorem dX3_closePath_92 : decode cX3_closePath 92 = .ok (.bipush 24, 2) := dk_16 24 (dk_at dksX3_closePath_4 0 rfl rfl)
theorem dX3_closePath_94 : decode cX3_closePath 94 = .ok (.if_icmp .ge 50, 3) := dk_162 0 50 (dk_at dksX3_closePath_4 2 rfl rfl)
theorem dX3_closePath_97 : decode cX3_closePath 97 = .ok (.aload_n 0, 1) := dk_42 (dk_at dksX3_closePath_4 5 rfl rfl)
theorem dX3_closePath_98 : decode cX3_closePath 98 = .ok (.iload 4, 2) := dk_21 4 (dk_at dksX3_closePath_4 6 rfl rfl)
theorem dX3_closePath_100 : decode cX3_closePath 100 = .ok (.iload_n 3, 1) := dk_29 (dk_at dksX3_closePath_4 8 rfl rfl)
theorem dX3_closePath_101 : decode cX3_closePath 101 = .ok (.invokevirtual 92, 3) := dk_182 0 92 (dk_at dksX3_closePath_4 9 rfl rfl)
theorem dX3_closePath_104 : decode cX3_closePath 104 = .ok (.istore 5, 2) := dk_54 5 (dk_at dksX3_closePath_4 12 rfl rfl)
theorem dX3_closePath_106 : decode cX3_closePath 106 = .ok (.iload_n 2, 1) := dk_28 (dk_at dksX3_closePath_4 14 rfl rfl)
theorem dX3_closePath_107 : decode cX3_closePath 107 = .ok (.ifCond .eq 13, 3) := dk_153 0 13 (dk_at dksX3_closePath_4 15 rfl rfl)
theorem dX3_closePath_110 : decode cX3_closePath 110 = .ok (.iload 5, 2) := dk_21 5 (dk_at dksX3_closePath_4 18 rfl rfl)
theorem dX3_closePath_112 : decode cX3_closePath 112 = .ok (.iconst 2, 1) := dk_5 (dk_at dksX3_closePath_4 20 rfl rfl)
theorem dX3_closePath_113 : decode cX3_closePath 113 = .ok (.irem, 1) := dk_112 (dk_at dksX3_closePath_4 21 rfl rfl)
theorem dX3_closePath_114 : decode cX3_closePath 114 = .ok (.ifCond .eq 24, 3) := dk_153 0 24 (dk_at dksX3_closePath_5 0 rfl rfl)
theorem dX3_closePath_117 : decode cX3_closePath 117 = .ok (.goto 8, 3) := dk_167 0 8 (dk_at dksX3_closePath_5 3 rfl rfl)
theorem dX3_closePath_120 : decode cX3_closePath 120 = .ok (.iload 5, 2) := dk_21 5 (dk_at dksX3_closePath_5 6 rfl rfl)
theorem dX3_closePath_122 : decode cX3_closePath 122 = .ok (.ifCond .eq 16, 3) := dk_153 0 16 (dk_at dksX3_closePath_5 8 rfl rfl)
theorem dX3_closePath_125 : decode cX3_closePath 125 = .ok (.aload_n 0, 1) := dk_42 (dk_at dksX3_closePath_5 11 rfl rfl)
theorem dX3_closePath_126 : decode cX3_closePath 126 = .ok (.getfield 13, 3) := dk_180 0 13 (dk_at dksX3_closePath_5 12 rfl rfl)
theorem dX3_closePath_129 : decode cX3_closePath 129 = .ok (.iload_n 3, 1) := dk_29 (dk_at dksX3_closePath_5 15 rfl rfl)
theorem dX3_closePath_130 : decode cX3_closePath 130 = .ok (.dup2, 1) := dk_92 (dk_at dksX3_closePath_5 16 rfl rfl)
theorem dX3_closePath_131 : decode cX3_closePath 131 = .ok (.iaload, 1) := dk_46 (dk_at dksX3_closePath_5 17 rfl rfl)
theorem dX3_closePath_132 : decode cX3_closePath 132 = .ok (.iconst 1, 1) := dk_4 (dk_at dksX3_closePath_5 18 rfl rfl)
theorem dX3_closePath_133 : decode cX3_closePath 133 = .ok (.iload 4, 2) := dk_21 4 (dk_at dksX3_closePath_5 19 rfl rfl)
theorem dX3_closePath_135 : decode cX3_closePath 135 = .ok (.ishl, 1) := dk_120 (dk_at dksX3_closePath_5 21 rfl rfl)
theorem dX3_closePath_136 : decode cX3_closePath 136 = .ok (.ior, 1) := dk_128 (dk_at dksX3_closePath_5 22 rfl rfl)
theorem dX3_closePath_137 : decode cX3_closePath 137 = .ok (.iastore, 1) := dk_79 (dk_at dksX3_closePath_5 23 rfl rfl)
theorem dX3_closePath_138 : decode cX3_closePath 138 = .ok (.iinc 4 1, 3) := dk_132 4 1 (dk_at dksX3_closePath_6 0 rfl rfl)
theorem dX3_closePath_141 : decode cX3_closePath 141 = .ok (.goto (-51), 3) := dk_167 255 205 (dk_at dksX3_closePath_6 3 rfl rfl)
theorem dX3_closePath_144 : decode cX3_closePath 144 = .ok (.iinc 3 1, 3) := dk_132 3 1 (dk_at dksX3_closePath_6 6 rfl rfl)
theorem dX3_closePath_147 : decode cX3_closePath 147 = .ok (.goto (-73), 3) := dk_167 255 183 (dk_at dksX3_closePath_6 9 rfl rfl)
theorem dX3_closePath_150 : decode cX3_closePath 150 = .ok (.aload_n 0, 1) := dk_42 (dk_at dksX3_closePath_6 12 rfl rfl)
theorem dX3_closePath_151 : decode cX3_closePath 151 = .ok (.iconst 0, 1) := dk_3 (dk_at dksX3_closePath_6 13 rfl rfl)
theorem dX3_closePath_152 : decode cX3_closePath 152 = .ok (.putfield 83, 3) := dk_181 0 83 (dk_at dksX3_closePath_6 14 rfl rfl)
theorem dX3_closePath_155 : decode cX3_closePath 155 = .ok (.aload_n 0, 1) := dk_42 (dk_at dksX3_closePath_6 17 rfl rfl)
theorem dX3_closePath_156 : decode cX3_closePath 156 = .ok (.iload_n 1, 1) := dk_27 (dk_at dksX3_closePath_6 18 rfl rfl)
theorem dX3_closePath_157 : decode cX3_closePath 157 = .ok (.invokevirtual 95, 3) := dk_182 0 95 (dk_at dksX3_closePath_6 19 rfl rfl)
theorem dX3_closePath_160 : decode cX3_closePath 160 = .ok (.ireturn, 1) := dk_172 (dk_at dksX3_closePath_6 22 rfl rfl)
abbrev cX3_winding : ByteArray := prog_22_method_21_code
def yX3_winding : MethodName := ⟨RX3, "winding", "(II)I"⟩
def dkwX3_winding_5 : List UInt8 := [132, 4, 1, 167, 255, 142, 29, 172]
abbrev dktX3_winding_5 : List UInt8 := dkwX3_winding_5 ++ []
def dkwX3_winding_4 : List UInt8 := [180, 0, 25, 21, 5, 46, 28, 163, 0, 17, 42, 180, 0, 25, 21, 4, 46, 28, 164, 0, 6, 132, 3, 255]
abbrev dktX3_winding_4 : List UInt8 := dkwX3_winding_4 ++ dktX3_winding_5
def dkwX3_winding_3 : List UInt8 := [21, 4, 46, 28, 163, 0, 17, 42, 180, 0, 25, 21, 5, 46, 28, 164, 0, 6, 132, 3, 1, 42]
abbrev dktX3_winding_3 : List UInt8 := dkwX3_winding_3 ++ dktX3_winding_4
def dkwX3_winding_2 : List UInt8 := [21, 5, 46, 160, 0, 67, 42, 180, 0, 22, 21, 4, 46, 27, 163, 0, 6, 167, 0, 53, 42, 180, 0, 25]
abbrev dktX3_winding_2 : List UInt8 := dkwX3_winding_2 ++ dktX3_winding_3
def dkwX3_winding_1 : List UInt8 := [160, 0, 7, 3, 167, 0, 7, 21, 4, 4, 96, 54, 5, 42, 180, 0, 22, 21, 4, 46, 42, 180, 0, 22]
abbrev dktX3_winding_1 : List UInt8 := dkwX3_winding_1 ++ dktX3_winding_2
def dkwX3_winding_0 : List UInt8 := [3, 62, 3, 54, 4, 21, 4, 42, 180, 0, 83, 162, 0, 111, 21, 4, 4, 96, 42, 180, 0, 83]
abbrev dktX3_winding_0 : List UInt8 := dkwX3_winding_0 ++ dktX3_winding_1
theorem dksX3_winding_0 : cX3_winding.data.toList.drop 0 = dktX3_winding_0 := by decide +kernel
theorem dksX3_winding_1 : cX3_winding.data.toList.drop 22 = dktX3_winding_1 := dk_seg dksX3_winding_0 22 rfl rfl
theorem dksX3_winding_2 : cX3_winding.data.toList.drop 46 = dktX3_winding_2 := dk_seg dksX3_winding_1 24 rfl rfl
theorem dksX3_winding_3 : cX3_winding.data.toList.drop 70 = dktX3_winding_3 := dk_seg dksX3_winding_2 24 rfl rfl
theorem dksX3_winding_4 : cX3_winding.data.toList.drop 92 = dktX3_winding_4 := dk_seg dksX3_winding_3 22 rfl rfl
theorem dksX3_winding_5 : cX3_winding.data.toList.drop 116 = dktX3_winding_5 := dk_seg dksX3_winding_4 24 rfl rfl
theorem dX3_winding_0 : decode cX3_winding 0 = .ok (.iconst 0, 1) := dk_3 (dk_at dksX3_winding_0 0 rfl rfl)
theorem dX3_winding_1 : decode cX3_winding 1 = .ok (.istore_n 3, 1) := dk_62 (dk_at dksX3_winding_0 1 rfl rfl)
theorem dX3_winding_2 : decode cX3_winding 2 = .ok (.iconst 0, 1) := dk_3 (dk_at dksX3_winding_0 2 rfl rfl)
theorem dX3_winding_3 : decode cX3_winding 3 = .ok (.istore 4, 2) := dk_54 4 (dk_at dksX3_winding_0 3 rfl rfl)
theorem dX3_winding_5 : decode cX3_winding 5 = .ok (.iload 4, 2) := dk_21 4 (dk_at dksX3_winding_0 5 rfl rfl)
theorem dX3_winding_7 : decode cX3_winding 7 = .ok (.aload_n 0, 1) := dk_42 (dk_at dksX3_winding_0 7 rfl rfl)
theorem dX3_winding_8 : decode cX3_winding 8 = .ok (.getfield 83, 3) := dk_180 0 83 (dk_at dksX3_winding_0 8 rfl rfl)
theorem dX3_winding_11 : decode cX3_winding 11 = .ok (.if_icmp .ge 111, 3) := dk_162 0 111 (dk_at dksX3_winding_0 11 rfl rfl)
theorem dX3_winding_14 : decode cX3_winding 14 = .ok (.iload 4, 2) := dk_21 4 (dk_at dksX3_winding_0 14 rfl rfl)
theorem dX3_winding_16 : decode cX3_winding 16 = .ok (.iconst 1, 1) := dk_4 (dk_at dksX3_winding_0 16 rfl rfl)
theorem dX3_winding_17 : decode cX3_winding 17 = .ok (.iadd, 1) := dk_96 (dk_at dksX3_winding_0 17 rfl rfl)
theorem dX3_winding_18 : decode cX3_winding 18 = .ok (.aload_n 0, 1) := dk_42 (dk_at dksX3_winding_0 18 rfl rfl)
theorem dX3_winding_19 : decode cX3_winding 19 = .ok (.getfield 83, 3) := dk_180 0 83 (dk_at dksX3_winding_0 19 rfl rfl)
theorem dX3_winding_22 : decode cX3_winding 22 = .ok (.if_icmp .ne 7, 3) := dk_160 0 7 (dk_at dksX3_winding_1 0 rfl rfl)
theorem dX3_winding_25 : decode cX3_winding 25 = .ok (.iconst 0, 1) := dk_3 (dk_at dksX3_winding_1 3 rfl rfl)
theorem dX3_winding_26 : decode cX3_winding 26 = .ok (.goto 7, 3) := dk_167 0 7 (dk_at dksX3_winding_1 4 rfl rfl)
theorem dX3_winding_29 : decode cX3_winding 29 = .ok (.iload 4, 2) := dk_21 4 (dk_at dksX3_winding_1 7 rfl rfl)
theorem dX3_winding_31 : decode cX3_winding 31 = .ok (.iconst 1, 1) := dk_4 (dk_at dksX3_winding_1 9 rfl rfl)
theorem dX3_winding_32 : decode cX3_winding 32 = .ok (.iadd, 1) := dk_96 (dk_at dksX3_winding_1 10 rfl rfl)
theorem dX3_winding_33 : decode cX3_winding 33 = .ok (.istore 5, 2) := dk_54 5 (dk_at dksX3_winding_1 11 rfl rfl)
theorem dX3_winding_35 : decode cX3_winding 35 = .ok (.aload_n 0, 1) := dk_42 (dk_at dksX3_winding_1 13 rfl rfl)
theorem dX3_winding_36 : decode cX3_winding 36 = .ok (.getfield 22, 3) := dk_180 0 22 (dk_at dksX3_winding_1 14 rfl rfl)
theorem dX3_winding_39 : decode cX3_winding 39 = .ok (.iload 4, 2) := dk_21 4 (dk_at dksX3_winding_1 17 rfl rfl)
theorem dX3_winding_41 : decode cX3_winding 41 = .ok (.iaload, 1) := dk_46 (dk_at dksX3_winding_1 19 rfl rfl)
theorem dX3_winding_42 : decode cX3_winding 42 = .ok (.aload_n 0, 1) := dk_42 (dk_at dksX3_winding_1 20 rfl rfl)
theorem dX3_winding_43 : decode cX3_winding 43 = .ok (.getfield 22, 3) := dk_180 0 22 (dk_at dksX3_winding_1 21 rfl rfl)
theorem dX3_winding_46 : decode cX3_winding 46 = .ok (.iload 5, 2) := dk_21 5 (dk_at dksX3_winding_2 0 rfl rfl)
theorem dX3_winding_48 : decode cX3_winding 48 = .ok (.iaload, 1) := dk_46 (dk_at dksX3_winding_2 2 rfl rfl)
theorem dX3_winding_49 : decode cX3_winding 49 = .ok (.if_icmp .ne 67, 3) := dk_160 0 67 (dk_at dksX3_winding_2 3 rfl rfl)
theorem dX3_winding_52 : decode cX3_winding 52 = .ok (.aload_n 0, 1) := dk_42 (dk_at dksX3_winding_2 6 rfl rfl)
theorem dX3_winding_53 : decode cX3_winding 53 = .ok (.getfield 22, 3) := dk_180 0 22 (dk_at dksX3_winding_2 7 rfl rfl)
theorem dX3_winding_56 : decode cX3_winding 56 = .ok (.iload 4, 2) := dk_21 4 (dk_at dksX3_winding_2 10 rfl rfl)
theorem dX3_winding_58 : decode cX3_winding 58 = .ok (.iaload, 1) := dk_46 (dk_at dksX3_winding_2 12 rfl rfl)
theorem dX3_winding_59 : decode cX3_winding 59 = .ok (.iload_n 1, 1) := dk_27 (dk_at dksX3_winding_2 13 rfl rfl)
theorem dX3_winding_60 : decode cX3_winding 60 = .ok (.if_icmp .gt 6, 3) := dk_163 0 6 (dk_at dksX3_winding_2 14 rfl rfl)
theorem dX3_winding_63 : decode cX3_winding 63 = .ok (.goto 53, 3) := dk_167 0 53 (dk_at dksX3_winding_2 17 rfl rfl)
theorem dX3_winding_66 : decode cX3_winding 66 = .ok (.aload_n 0, 1) := dk_42 (dk_at dksX3_winding_2 20 rfl rfl)
theorem dX3_winding_67 : decode cX3_winding 67 = .ok (.getfield 25, 3) := dk_180 0 25 (dk_at dksX3_winding_2 21 rfl rfl)
theorem dX3_winding_70 : decode cX3_winding 70 = .ok (.iload 4, 2) := dk_21 4 (dk_at dksX3_winding_3 0 rfl rfl)
theorem dX3_winding_72 : decode cX3_winding 72 = .ok (.iaload, 1) := dk_46 (dk_at dksX3_winding_3 2 rfl rfl)
theorem dX3_winding_73 : decode cX3_winding 73 = .ok (.iload_n 2, 1) := dk_28 (dk_at dksX3_winding_3 3 rfl rfl)
theorem dX3_winding_74 : decode cX3_winding 74 = .ok (.if_icmp .gt 17, 3) := dk_163 0 17 (dk_at dksX3_winding_3 4 rfl rfl)
theorem dX3_winding_77 : decode cX3_winding 77 = .ok (.aload_n 0, 1) := dk_42 (dk_at dksX3_winding_3 7 rfl rfl)
theorem dX3_winding_78 : decode cX3_winding 78 = .ok (.getfield 25, 3) := dk_180 0 25 (dk_at dksX3_winding_3 8 rfl rfl)
theorem dX3_winding_81 : decode cX3_winding 81 = .ok (.iload 5, 2) := dk_21 5 (dk_at dksX3_winding_3 11 rfl rfl)
theorem dX3_winding_83 : decode cX3_winding 83 = .ok (.iaload, 1) := dk_46 (dk_at dksX3_winding_3 13 rfl rfl)
theorem dX3_winding_84 : decode cX3_winding 84 = .ok (.iload_n 2, 1) := dk_28 (dk_at dksX3_winding_3 14 rfl rfl)
theorem dX3_winding_85 : decode cX3_winding 85 = .ok (.if_icmp .le 6, 3) := dk_164 0 6 (dk_at dksX3_winding_3 15 rfl rfl)
theorem dX3_winding_88 : decode cX3_winding 88 = .ok (.iinc 3 1, 3) := dk_132 3 1 (dk_at dksX3_winding_3 18 rfl rfl)
theorem dX3_winding_91 : decode cX3_winding 91 = .ok (.aload_n 0, 1) := dk_42 (dk_at dksX3_winding_3 21 rfl rfl)
theorem dX3_winding_92 : decode cX3_winding 92 = .ok (.getfield 25, 3) := dk_180 0 25 (dk_at dksX3_winding_4 0 rfl rfl)
theorem dX3_winding_95 : decode cX3_winding 95 = .ok (.iload 5, 2) := dk_21 5 (dk_at dksX3_winding_4 3 rfl rfl)
theorem dX3_winding_97 : decode cX3_winding 97 = .ok (.iaload, 1) := dk_46 (dk_at dksX3_winding_4 5 rfl rfl)
theorem dX3_winding_98 : decode cX3_winding 98 = .ok (.iload_n 2, 1) := dk_28 (dk_at dksX3_winding_4 6 rfl rfl)
theorem dX3_winding_99 : decode cX3_winding 99 = .ok (.if_icmp .gt 17, 3) := dk_163 0 17 (dk_at dksX3_winding_4 7 rfl rfl)
theorem dX3_winding_102 : decode cX3_winding 102 = .ok (.aload_n 0, 1) := dk_42 (dk_at dksX3_winding_4 10 rfl rfl)
theorem dX3_winding_103 : decode cX3_winding 103 = .ok (.getfield 25, 3) := dk_180 0 25 (dk_at dksX3_winding_4 11 rfl rfl)
theorem dX3_winding_106 : decode cX3_winding 106 = .ok (.iload 4, 2) := dk_21 4 (dk_at dksX3_winding_4 14 rfl rfl)
theorem dX3_winding_108 : decode cX3_winding 108 = .ok (.iaload, 1) := dk_46 (dk_at dksX3_winding_4 16 rfl rfl)
theorem dX3_winding_109 : decode cX3_winding 109 = .ok (.iload_n 2, 1) := dk_28 (dk_at dksX3_winding_4 17 rfl rfl)
theorem dX3_winding_110 : decode cX3_winding 110 = .ok (.if_icmp .le 6, 3) := dk_164 0 6 (dk_at dksX3_winding_4 18 rfl rfl)
theorem dX3_winding_113 : decode cX3_winding 113 = .ok (.iinc 3 (-1), 3) := dk_132 3 255 (dk_at dksX3_winding_4 21 rfl rfl)
theorem dX3_winding_116 : decode cX3_winding 116 = .ok (.iinc 4 1, 3) := dk_132 4 1 (dk_at dksX3_winding_5 0 rfl rfl)
theorem dX3_winding_119 : decode cX3_winding 119 = .ok (.goto (-114), 3) := dk_167 255 142 (dk_at dksX3_winding_5 3 rfl rfl)
theorem dX3_winding_122 : decode cX3_winding 122 = .ok (.iload_n 3, 1) := dk_29 (dk_at dksX3_winding_5 6 rfl rfl)
theorem dX3_winding_123 : decode cX3_winding 123 = .ok (.ireturn, 1) := dk_172 (dk_at dksX3_winding_5 7 rfl rfl)
abbrev cX3_puts : ByteArray := prog_22_method_11_code
def yX3_puts : MethodName := ⟨RX3, "puts", "(I)I"⟩
def dkwX3_puts_1 : List UInt8 := [79, 132, 2, 1, 167, 255, 230, 42, 27, 182, 0, 66, 172]
abbrev dktX3_puts_1 : List UInt8 := dkwX3_puts_1 ++ []
def dkwX3_puts_0 : List UInt8 := [3, 61, 28, 16, 24, 162, 0, 26, 42, 180, 0, 7, 16, 24, 27, 104, 28, 96, 42, 180, 0, 13, 28, 46]
abbrev dktX3_puts_0 : List UInt8 := dkwX3_puts_0 ++ dktX3_puts_1
theorem dksX3_puts_0 : cX3_puts.data.toList.drop 0 = dktX3_puts_0 := by decide +kernel
theorem dksX3_puts_1 : cX3_puts.data.toList.drop 24 = dktX3_puts_1 := dk_seg dksX3_puts_0 24 rfl rfl
theorem dX3_puts_0 : decode cX3_puts 0 = .ok (.iconst 0, 1) := dk_3 (dk_at dksX3_puts_0 0 rfl rfl)
theorem dX3_puts_1 : decode cX3_puts 1 = .ok (.istore_n 2, 1) := dk_61 (dk_at dksX3_puts_0 1 rfl rfl)
theorem dX3_puts_2 : decode cX3_puts 2 = .ok (.iload_n 2, 1) := dk_28 (dk_at dksX3_puts_0 2 rfl rfl)
theorem dX3_puts_3 : decode cX3_puts 3 = .ok (.bipush 24, 2) := dk_16 24 (dk_at dksX3_puts_0 3 rfl rfl)
theorem dX3_puts_5 : decode cX3_puts 5 = .ok (.if_icmp .ge 26, 3) := dk_162 0 26 (dk_at dksX3_puts_0 5 rfl rfl)
theorem dX3_puts_8 : decode cX3_puts 8 = .ok (.aload_n 0, 1) := dk_42 (dk_at dksX3_puts_0 8 rfl rfl)
theorem dX3_puts_9 : decode cX3_puts 9 = .ok (.getfield 7, 3) := dk_180 0 7 (dk_at dksX3_puts_0 9 rfl rfl)
theorem dX3_puts_12 : decode cX3_puts 12 = .ok (.bipush 24, 2) := dk_16 24 (dk_at dksX3_puts_0 12 rfl rfl)
theorem dX3_puts_14 : decode cX3_puts 14 = .ok (.iload_n 1, 1) := dk_27 (dk_at dksX3_puts_0 14 rfl rfl)
theorem dX3_puts_15 : decode cX3_puts 15 = .ok (.imul, 1) := dk_104 (dk_at dksX3_puts_0 15 rfl rfl)
theorem dX3_puts_16 : decode cX3_puts 16 = .ok (.iload_n 2, 1) := dk_28 (dk_at dksX3_puts_0 16 rfl rfl)
theorem dX3_puts_17 : decode cX3_puts 17 = .ok (.iadd, 1) := dk_96 (dk_at dksX3_puts_0 17 rfl rfl)
theorem dX3_puts_18 : decode cX3_puts 18 = .ok (.aload_n 0, 1) := dk_42 (dk_at dksX3_puts_0 18 rfl rfl)
theorem dX3_puts_19 : decode cX3_puts 19 = .ok (.getfield 13, 3) := dk_180 0 13 (dk_at dksX3_puts_0 19 rfl rfl)
theorem dX3_puts_22 : decode cX3_puts 22 = .ok (.iload_n 2, 1) := dk_28 (dk_at dksX3_puts_0 22 rfl rfl)
theorem dX3_puts_23 : decode cX3_puts 23 = .ok (.iaload, 1) := dk_46 (dk_at dksX3_puts_0 23 rfl rfl)
theorem dX3_puts_24 : decode cX3_puts 24 = .ok (.iastore, 1) := dk_79 (dk_at dksX3_puts_1 0 rfl rfl)
theorem dX3_puts_25 : decode cX3_puts 25 = .ok (.iinc 2 1, 3) := dk_132 2 1 (dk_at dksX3_puts_1 1 rfl rfl)
theorem dX3_puts_28 : decode cX3_puts 28 = .ok (.goto (-26), 3) := dk_167 255 230 (dk_at dksX3_puts_1 4 rfl rfl)
theorem dX3_puts_31 : decode cX3_puts 31 = .ok (.aload_n 0, 1) := dk_42 (dk_at dksX3_puts_1 7 rfl rfl)
theorem dX3_puts_32 : decode cX3_puts 32 = .ok (.iload_n 1, 1) := dk_27 (dk_at dksX3_puts_1 8 rfl rfl)
theorem dX3_puts_33 : decode cX3_puts 33 = .ok (.invokevirtual 66, 3) := dk_182 0 66 (dk_at dksX3_puts_1 9 rfl rfl)
theorem dX3_puts_36 : decode cX3_puts 36 = .ok (.ireturn, 1) := dk_172 (dk_at dksX3_puts_1 12 rfl rfl)
abbrev cX3_combine : ByteArray := prog_22_method_23_code
def yX3_combine : MethodName := ⟨RX3, "combine", "(CIII)I"⟩
def dkwX3_combine_8 : List UInt8 := [21, 4, 182, 0, 95, 172]
abbrev dktX3_combine_8 : List UInt8 := dkwX3_combine_8 ++ []
def dkwX3_combine_7 : List UInt8 := [21, 7, 21, 8, 2, 130, 126, 167, 0, 8, 21, 7, 21, 8, 130, 79, 132, 6, 1, 167, 255, 172, 42]
abbrev dktX3_combine_7 : List UInt8 := dkwX3_combine_7 ++ dktX3_combine_8
def dkwX3_combine_6 : List UInt8 := [167, 0, 38, 21, 5, 5, 160, 0, 11, 21, 7, 21, 8, 126, 167, 0, 24, 21, 5, 6, 160, 0, 13]
abbrev dktX3_combine_6 : List UInt8 := dkwX3_combine_6 ++ dktX3_combine_7
def dkwX3_combine_5 : List UInt8 := [182, 0, 58, 54, 8, 42, 180, 0, 13, 21, 6, 21, 5, 4, 160, 0, 11, 21, 7, 21, 8, 128]
abbrev dktX3_combine_5 : List UInt8 := dkwX3_combine_5 ++ dktX3_combine_6
def dkwX3_combine_4 : List UInt8 := [172, 3, 54, 6, 21, 6, 16, 24, 162, 0, 83, 42, 28, 21, 6, 182, 0, 58, 54, 7, 42, 29, 21, 6]
abbrev dktX3_combine_4 : List UInt8 := dkwX3_combine_4 ++ dktX3_combine_5
def dkwX3_combine_3 : List UInt8 := [167, 0, 13, 21, 5, 154, 0, 7, 5, 167, 0, 4, 3, 181, 0, 46, 42, 180, 0, 46, 153, 0, 5, 3]
abbrev dktX3_combine_3 : List UInt8 := dkwX3_combine_3 ++ dktX3_combine_4
def dkwX3_combine_2 : List UInt8 := [184, 0, 69, 153, 0, 18, 29, 184, 0, 69, 153, 0, 11, 21, 4, 184, 0, 69, 154, 0, 7, 4]
abbrev dktX3_combine_2 : List UInt8 := dkwX3_combine_2 ++ dktX3_combine_3
def dkwX3_combine_1 : List UInt8 := [160, 0, 7, 6, 167, 0, 14, 27, 16, 120, 160, 0, 7, 7, 167, 0, 4, 3, 54, 5, 42, 28]
abbrev dktX3_combine_1 : List UInt8 := dkwX3_combine_1 ++ dktX3_combine_2
def dkwX3_combine_0 : List UInt8 := [27, 16, 117, 160, 0, 7, 4, 167, 0, 34, 27, 16, 105, 160, 0, 7, 5, 167, 0, 24, 27, 16, 100]
abbrev dktX3_combine_0 : List UInt8 := dkwX3_combine_0 ++ dktX3_combine_1
theorem dksX3_combine_0 : cX3_combine.data.toList.drop 0 = dktX3_combine_0 := by decide +kernel
theorem dksX3_combine_1 : cX3_combine.data.toList.drop 23 = dktX3_combine_1 := dk_seg dksX3_combine_0 23 rfl rfl
theorem dksX3_combine_2 : cX3_combine.data.toList.drop 45 = dktX3_combine_2 := dk_seg dksX3_combine_1 22 rfl rfl
theorem dksX3_combine_3 : cX3_combine.data.toList.drop 67 = dktX3_combine_3 := dk_seg dksX3_combine_2 22 rfl rfl
theorem dksX3_combine_4 : cX3_combine.data.toList.drop 91 = dktX3_combine_4 := dk_seg dksX3_combine_3 24 rfl rfl
theorem dksX3_combine_5 : cX3_combine.data.toList.drop 115 = dktX3_combine_5 := dk_seg dksX3_combine_4 24 rfl rfl
theorem dksX3_combine_6 : cX3_combine.data.toList.drop 137 = dktX3_combine_6 := dk_seg dksX3_combine_5 22 rfl rfl
theorem dksX3_combine_7 : cX3_combine.data.toList.drop 160 = dktX3_combine_7 := dk_seg dksX3_combine_6 23 rfl rfl
theorem dksX3_combine_8 : cX3_combine.data.toList.drop 183 = dktX3_combine_8 := dk_seg dksX3_combine_7 23 rfl rfl
theorem dX3_combine_0 : decode cX3_combine 0 = .ok (.iload_n 1, 1) := dk_27 (dk_at dksX3_combine_0 0 rfl rfl)
theorem dX3_combine_1 : decode cX3_combine 1 = .ok (.bipush 117, 2) := dk_16 117 (dk_at dksX3_combine_0 1 rfl rfl)
theorem dX3_combine_3 : decode cX3_combine 3 = .ok (.if_icmp .ne 7, 3) := dk_160 0 7 (dk_at dksX3_combine_0 3 rfl rfl)
theorem dX3_combine_6 : decode cX3_combine 6 = .ok (.iconst 1, 1) := dk_4 (dk_at dksX3_combine_0 6 rfl rfl)
theorem dX3_combine_7 : decode cX3_combine 7 = .ok (.goto 34, 3) := dk_167 0 34 (dk_at dksX3_combine_0 7 rfl rfl)
theorem dX3_combine_10 : decode cX3_combine 10 = .ok (.iload_n 1, 1) := dk_27 (dk_at dksX3_combine_0 10 rfl rfl)
theorem dX3_combine_11 : decode cX3_combine 11 = .ok (.bipush 105, 2) := dk_16 105 (dk_at dksX3_combine_0 11 rfl rfl)
theorem dX3_combine_13 : decode cX3_combine 13 = .ok (.if_icmp .ne 7, 3) := dk_160 0 7 (dk_at dksX3_combine_0 13 rfl rfl)
theorem dX3_combine_16 : decode cX3_combine 16 = .ok (.iconst 2, 1) := dk_5 (dk_at dksX3_combine_0 16 rfl rfl)
theorem dX3_combine_17 : decode cX3_combine 17 = .ok (.goto 24, 3) := dk_167 0 24 (dk_at dksX3_combine_0 17 rfl rfl)
theorem dX3_combine_20 : decode cX3_combine 20 = .ok (.iload_n 1, 1) := dk_27 (dk_at dksX3_combine_0 20 rfl rfl)
theorem dX3_combine_21 : decode cX3_combine 21 = .ok (.bipush 100, 2) := dk_16 100 (dk_at dksX3_combine_0 21 rfl rfl)
theorem dX3_combine_23 : decode cX3_combine 23 = .ok (.if_icmp .ne 7, 3) := dk_160 0 7 (dk_at dksX3_combine_1 0 rfl rfl)
theorem dX3_combine_26 : decode cX3_combine 26 = .ok (.iconst 3, 1) := dk_6 (dk_at dksX3_combine_1 3 rfl rfl)
theorem dX3_combine_27 : decode cX3_combine 27 = .ok (.goto 14, 3) := dk_167 0 14 (dk_at dksX3_combine_1 4 rfl rfl)
theorem dX3_combine_30 : decode cX3_combine 30 = .ok (.iload_n 1, 1) := dk_27 (dk_at dksX3_combine_1 7 rfl rfl)
theorem dX3_combine_31 : decode cX3_combine 31 = .ok (.bipush 120, 2) := dk_16 120 (dk_at dksX3_combine_1 8 rfl rfl)
theorem dX3_combine_33 : decode cX3_combine 33 = .ok (.if_icmp .ne 7, 3) := dk_160 0 7 (dk_at dksX3_combine_1 10 rfl rfl)
theorem dX3_combine_36 : decode cX3_combine 36 = .ok (.iconst 4, 1) := dk_7 (dk_at dksX3_combine_1 13 rfl rfl)
theorem dX3_combine_37 : decode cX3_combine 37 = .ok (.goto 4, 3) := dk_167 0 4 (dk_at dksX3_combine_1 14 rfl rfl)
theorem dX3_combine_40 : decode cX3_combine 40 = .ok (.iconst 0, 1) := dk_3 (dk_at dksX3_combine_1 17 rfl rfl)
theorem dX3_combine_41 : decode cX3_combine 41 = .ok (.istore 5, 2) := dk_54 5 (dk_at dksX3_combine_1 18 rfl rfl)
theorem dX3_combine_43 : decode cX3_combine 43 = .ok (.aload_n 0, 1) := dk_42 (dk_at dksX3_combine_1 20 rfl rfl)
theorem dX3_combine_44 : decode cX3_combine 44 = .ok (.iload_n 2, 1) := dk_28 (dk_at dksX3_combine_1 21 rfl rfl)
theorem dX3_combine_45 : decode cX3_combine 45 = .ok (.invokestatic 69, 3) := dk_184 0 69 (dk_at dksX3_combine_2 0 rfl rfl)
theorem dX3_combine_48 : decode cX3_combine 48 = .ok (.ifCond .eq 18, 3) := dk_153 0 18 (dk_at dksX3_combine_2 3 rfl rfl)
theorem dX3_combine_51 : decode cX3_combine 51 = .ok (.iload_n 3, 1) := dk_29 (dk_at dksX3_combine_2 6 rfl rfl)
theorem dX3_combine_52 : decode cX3_combine 52 = .ok (.invokestatic 69, 3) := dk_184 0 69 (dk_at dksX3_combine_2 7 rfl rfl)
theorem dX3_combine_55 : decode cX3_combine 55 = .ok (.ifCond .eq 11, 3) := dk_153 0 11 (dk_at dksX3_combine_2 10 rfl rfl)
theorem dX3_combine_58 : decode cX3_combine 58 = .ok (.iload 4, 2) := dk_21 4 (dk_at dksX3_combine_2 13 rfl rfl)
theorem dX3_combine_60 : decode cX3_combine 60 = .ok (.invokestatic 69, 3) := dk_184 0 69 (dk_at dksX3_combine_2 15 rfl rfl)
theorem dX3_combine_63 : decode cX3_combine 63 = .ok (.ifCond .ne 7, 3) := dk_154 0 7 (dk_at dksX3_combine_2 18 rfl rfl)
theorem dX3_combine_66 : decode cX3_combine 66 = .ok (.iconst 1, 1) := dk_4 (dk_at dksX3_combine_2 21 rfl rfl)
theorem dX3_combine_67 : decode cX3_combine 67 = .ok (.goto 13, 3) := dk_167 0 13 (dk_at dksX3_combine_3 0 rfl rfl)
theorem dX3_combine_70 : decode cX3_combine 70 = .ok (.iload 5, 2) := dk_21 5 (dk_at dksX3_combine_3 3 rfl rfl)
theorem dX3_combine_72 : decode cX3_combine 72 = .ok (.ifCond .ne 7, 3) := dk_154 0 7 (dk_at dksX3_combine_3 5 rfl rfl)
theorem dX3_combine_75 : decode cX3_combine 75 = .ok (.iconst 2, 1) := dk_5 (dk_at dksX3_combine_3 8 rfl rfl)
theorem dX3_combine_76 : decode cX3_combine 76 = .ok (.goto 4, 3) := dk_167 0 4 (dk_at dksX3_combine_3 9 rfl rfl)
theorem dX3_combine_79 : decode cX3_combine 79 = .ok (.iconst 0, 1) := dk_3 (dk_at dksX3_combine_3 12 rfl rfl)
theorem dX3_combine_80 : decode cX3_combine 80 = .ok (.putfield 46, 3) := dk_181 0 46 (dk_at dksX3_combine_3 13 rfl rfl)
theorem dX3_combine_83 : decode cX3_combine 83 = .ok (.aload_n 0, 1) := dk_42 (dk_at dksX3_combine_3 16 rfl rfl)
theorem dX3_combine_84 : decode cX3_combine 84 = .ok (.getfield 46, 3) := dk_180 0 46 (dk_at dksX3_combine_3 17 rfl rfl)
theorem dX3_combine_87 : decode cX3_combine 87 = .ok (.ifCond .eq 5, 3) := dk_153 0 5 (dk_at dksX3_combine_3 20 rfl rfl)
theorem dX3_combine_90 : decode cX3_combine 90 = .ok (.iconst 0, 1) := dk_3 (dk_at dksX3_combine_3 23 rfl rfl)
theorem dX3_combine_91 : decode cX3_combine 91 = .ok (.ireturn, 1) := dk_172 (dk_at dksX3_combine_4 0 rfl rfl)
theorem dX3_combine_92 : decode cX3_combine 92 = .ok (.iconst 0, 1) := dk_3 (dk_at dksX3_combine_4 1 rfl rfl)
theorem dX3_combine_93 : decode cX3_combine 93 = .ok (.istore 6, 2) := dk_54 6 (dk_at dksX3_combine_4 2 rfl rfl)
theorem dX3_combine_95 : decode cX3_combine 95 = .ok (.iload 6, 2) := dk_21 6 (dk_at dksX3_combine_4 4 rfl rfl)
theorem dX3_combine_97 : decode cX3_combine 97 = .ok (.bipush 24, 2) := dk_16 24 (dk_at dksX3_combine_4 6 rfl rfl)
theorem dX3_combine_99 : decode cX3_combine 99 = .ok (.if_icmp .ge 83, 3) := dk_162 0 83 (dk_at dksX3_combine_4 8 rfl rfl)
theorem dX3_combine_102 : decode cX3_combine 102 = .ok (.aload_n 0, 1) := dk_42 (dk_at dksX3_combine_4 11 rfl rfl)
theorem dX3_combine_103 : decode cX3_combine 103 = .ok (.iload_n 2, 1) := dk_28 (dk_at dksX3_combine_4 12 rfl rfl)
theorem dX3_combine_104 : decode cX3_combine 104 = .ok (.iload 6, 2) := dk_21 6 (dk_at dksX3_combine_4 13 rfl rfl)
theorem dX3_combine_106 : decode cX3_combine 106 = .ok (.invokevirtual 58, 3) := dk_182 0 58 (dk_at dksX3_combine_4 15 rfl rfl)
theorem dX3_combine_109 : decode cX3_combine 109 = .ok (.istore 7, 2) := dk_54 7 (dk_at dksX3_combine_4 18 rfl rfl)
theorem dX3_combine_111 : decode cX3_combine 111 = .ok (.aload_n 0, 1) := dk_42 (dk_at dksX3_combine_4 20 rfl rfl)
theorem dX3_combine_112 : decode cX3_combine 112 = .ok (.iload_n 3, 1) := dk_29 (dk_at dksX3_combine_4 21 rfl rfl)
theorem dX3_combine_113 : decode cX3_combine 113 = .ok (.iload 6, 2) := dk_21 6 (dk_at dksX3_combine_4 22 rfl rfl)
theorem dX3_combine_115 : decode cX3_combine 115 = .ok (.invokevirtual 58, 3) := dk_182 0 58 (dk_at dksX3_combine_5 0 rfl rfl)
theorem dX3_combine_118 : decode cX3_combine 118 = .ok (.istore 8, 2) := dk_54 8 (dk_at dksX3_combine_5 3 rfl rfl)
theorem dX3_combine_120 : decode cX3_combine 120 = .ok (.aload_n 0, 1) := dk_42 (dk_at dksX3_combine_5 5 rfl rfl)
theorem dX3_combine_121 : decode cX3_combine 121 = .ok (.getfield 13, 3) := dk_180 0 13 (dk_at dksX3_combine_5 6 rfl rfl)
theorem dX3_combine_124 : decode cX3_combine 124 = .ok (.iload 6, 2) := dk_21 6 (dk_at dksX3_combine_5 9 rfl rfl)
theorem dX3_combine_126 : decode cX3_combine 126 = .ok (.iload 5, 2) := dk_21 5 (dk_at dksX3_combine_5 11 rfl rfl)
theorem dX3_combine_128 : decode cX3_combine 128 = .ok (.iconst 1, 1) := dk_4 (dk_at dksX3_combine_5 13 rfl rfl)
theorem dX3_combine_129 : decode cX3_combine 129 = .ok (.if_icmp .ne 11, 3) := dk_160 0 11 (dk_at dksX3_combine_5 14 rfl rfl)
theorem dX3_combine_132 : decode cX3_combine 132 = .ok (.iload 7, 2) := dk_21 7 (dk_at dksX3_combine_5 17 rfl rfl)
theorem dX3_combine_134 : decode cX3_combine 134 = .ok (.iload 8, 2) := dk_21 8 (dk_at dksX3_combine_5 19 rfl rfl)
theorem dX3_combine_136 : decode cX3_combine 136 = .ok (.ior, 1) := dk_128 (dk_at dksX3_combine_5 21 rfl rfl)
theorem dX3_combine_137 : decode cX3_combine 137 = .ok (.goto 38, 3) := dk_167 0 38 (dk_at dksX3_combine_6 0 rfl rfl)
theorem dX3_combine_140 : decode cX3_combine 140 = .ok (.iload 5, 2) := dk_21 5 (dk_at dksX3_combine_6 3 rfl rfl)
theorem dX3_combine_142 : decode cX3_combine 142 = .ok (.iconst 2, 1) := dk_5 (dk_at dksX3_combine_6 5 rfl rfl)
theorem dX3_combine_143 : decode cX3_combine 143 = .ok (.if_icmp .ne 11, 3) := dk_160 0 11 (dk_at dksX3_combine_6 6 rfl rfl)
theorem dX3_combine_146 : decode cX3_combine 146 = .ok (.iload 7, 2) := dk_21 7 (dk_at dksX3_combine_6 9 rfl rfl)
theorem dX3_combine_148 : decode cX3_combine 148 = .ok (.iload 8, 2) := dk_21 8 (dk_at dksX3_combine_6 11 rfl rfl)
theorem dX3_combine_150 : decode cX3_combine 150 = .ok (.iand, 1) := dk_126 (dk_at dksX3_combine_6 13 rfl rfl)
theorem dX3_combine_151 : decode cX3_combine 151 = .ok (.goto 24, 3) := dk_167 0 24 (dk_at dksX3_combine_6 14 rfl rfl)
theorem dX3_combine_154 : decode cX3_combine 154 = .ok (.iload 5, 2) := dk_21 5 (dk_at dksX3_combine_6 17 rfl rfl)
theorem dX3_combine_156 : decode cX3_combine 156 = .ok (.iconst 3, 1) := dk_6 (dk_at dksX3_combine_6 19 rfl rfl)
theorem dX3_combine_157 : decode cX3_combine 157 = .ok (.if_icmp .ne 13, 3) := dk_160 0 13 (dk_at dksX3_combine_6 20 rfl rfl)
theorem dX3_combine_160 : decode cX3_combine 160 = .ok (.iload 7, 2) := dk_21 7 (dk_at dksX3_combine_7 0 rfl rfl)
theorem dX3_combine_162 : decode cX3_combine 162 = .ok (.iload 8, 2) := dk_21 8 (dk_at dksX3_combine_7 2 rfl rfl)
theorem dX3_combine_164 : decode cX3_combine 164 = .ok (.iconst (-1), 1) := dk_2 (dk_at dksX3_combine_7 4 rfl rfl)
theorem dX3_combine_165 : decode cX3_combine 165 = .ok (.ixor, 1) := dk_130 (dk_at dksX3_combine_7 5 rfl rfl)
theorem dX3_combine_166 : decode cX3_combine 166 = .ok (.iand, 1) := dk_126 (dk_at dksX3_combine_7 6 rfl rfl)
theorem dX3_combine_167 : decode cX3_combine 167 = .ok (.goto 8, 3) := dk_167 0 8 (dk_at dksX3_combine_7 7 rfl rfl)
theorem dX3_combine_170 : decode cX3_combine 170 = .ok (.iload 7, 2) := dk_21 7 (dk_at dksX3_combine_7 10 rfl rfl)
theorem dX3_combine_172 : decode cX3_combine 172 = .ok (.iload 8, 2) := dk_21 8 (dk_at dksX3_combine_7 12 rfl rfl)
theorem dX3_combine_174 : decode cX3_combine 174 = .ok (.ixor, 1) := dk_130 (dk_at dksX3_combine_7 14 rfl rfl)
theorem dX3_combine_175 : decode cX3_combine 175 = .ok (.iastore, 1) := dk_79 (dk_at dksX3_combine_7 15 rfl rfl)
theorem dX3_combine_176 : decode cX3_combine 176 = .ok (.iinc 6 1, 3) := dk_132 6 1 (dk_at dksX3_combine_7 16 rfl rfl)
theorem dX3_combine_179 : decode cX3_combine 179 = .ok (.goto (-84), 3) := dk_167 255 172 (dk_at dksX3_combine_7 19 rfl rfl)
theorem dX3_combine_182 : decode cX3_combine 182 = .ok (.aload_n 0, 1) := dk_42 (dk_at dksX3_combine_7 22 rfl rfl)
theorem dX3_combine_183 : decode cX3_combine 183 = .ok (.iload 4, 2) := dk_21 4 (dk_at dksX3_combine_8 0 rfl rfl)
theorem dX3_combine_185 : decode cX3_combine 185 = .ok (.invokevirtual 95, 3) := dk_182 0 95 (dk_at dksX3_combine_8 2 rfl rfl)
theorem dX3_combine_188 : decode cX3_combine 188 = .ok (.ireturn, 1) := dk_172 (dk_at dksX3_combine_8 5 rfl rfl)
abbrev cX3_grow : ByteArray := prog_22_method_27_code
def yX3_grow : MethodName := ⟨RX3, "grow", "(III)I"⟩
def dkwX3_grow_0 : List UInt8 := [42, 27, 28, 29, 182, 0, 105, 153, 0, 14, 42, 27, 28, 29, 3, 182, 0, 108, 167, 0, 4, 3, 172]
abbrev dktX3_grow_0 : List UInt8 := dkwX3_grow_0 ++ []
theorem dksX3_grow_0 : cX3_grow.data.toList.drop 0 = dktX3_grow_0 := by decide +kernel
theorem dX3_grow_0 : decode cX3_grow 0 = .ok (.aload_n 0, 1) := dk_42 (dk_at dksX3_grow_0 0 rfl rfl)
theorem dX3_grow_1 : decode cX3_grow 1 = .ok (.iload_n 1, 1) := dk_27 (dk_at dksX3_grow_0 1 rfl rfl)
theorem dX3_grow_2 : decode cX3_grow 2 = .ok (.iload_n 2, 1) := dk_28 (dk_at dksX3_grow_0 2 rfl rfl)
theorem dX3_grow_3 : decode cX3_grow 3 = .ok (.iload_n 3, 1) := dk_29 (dk_at dksX3_grow_0 3 rfl rfl)
theorem dX3_grow_4 : decode cX3_grow 4 = .ok (.invokevirtual 105, 3) := dk_182 0 105 (dk_at dksX3_grow_0 4 rfl rfl)
theorem dX3_grow_7 : decode cX3_grow 7 = .ok (.ifCond .eq 14, 3) := dk_153 0 14 (dk_at dksX3_grow_0 7 rfl rfl)
theorem dX3_grow_10 : decode cX3_grow 10 = .ok (.aload_n 0, 1) := dk_42 (dk_at dksX3_grow_0 10 rfl rfl)
theorem dX3_grow_11 : decode cX3_grow 11 = .ok (.iload_n 1, 1) := dk_27 (dk_at dksX3_grow_0 11 rfl rfl)
theorem dX3_grow_12 : decode cX3_grow 12 = .ok (.iload_n 2, 1) := dk_28 (dk_at dksX3_grow_0 12 rfl rfl)
theorem dX3_grow_13 : decode cX3_grow 13 = .ok (.iload_n 3, 1) := dk_29 (dk_at dksX3_grow_0 13 rfl rfl)
theorem dX3_grow_14 : decode cX3_grow 14 = .ok (.iconst 0, 1) := dk_3 (dk_at dksX3_grow_0 14 rfl rfl)
theorem dX3_grow_15 : decode cX3_grow 15 = .ok (.invokevirtual 108, 3) := dk_182 0 108 (dk_at dksX3_grow_0 15 rfl rfl)
theorem dX3_grow_18 : decode cX3_grow 18 = .ok (.goto 4, 3) := dk_167 0 4 (dk_at dksX3_grow_0 18 rfl rfl)
theorem dX3_grow_21 : decode cX3_grow 21 = .ok (.iconst 0, 1) := dk_3 (dk_at dksX3_grow_0 21 rfl rfl)
theorem dX3_grow_22 : decode cX3_grow 22 = .ok (.ireturn, 1) := dk_172 (dk_at dksX3_grow_0 22 rfl rfl)
abbrev cX3_isDistance : ByteArray := prog_22_method_24_code
def yX3_isDistance : MethodName := ⟨RX3, "isDistance", "(III)Z"⟩
def dkwX3_isDistance_2 : List UInt8 := [167, 0, 4, 3, 172]
abbrev dktX3_isDistance_2 : List UInt8 := dkwX3_isDistance_2 ++ []
def dkwX3_isDistance_1 : List UInt8 := [184, 0, 50, 154, 0, 7, 5, 167, 0, 4, 3, 181, 0, 46, 42, 180, 0, 46, 154, 0, 7, 4]
abbrev dktX3_isDistance_1 : List UInt8 := dkwX3_isDistance_1 ++ dktX3_isDistance_2
def dkwX3_isDistance_0 : List UInt8 := [42, 27, 184, 0, 69, 153, 0, 10, 29, 184, 0, 69, 154, 0, 7, 4, 167, 0, 18, 28, 3, 16, 8]
abbrev dktX3_isDistance_0 : List UInt8 := dkwX3_isDistance_0 ++ dktX3_isDistance_1
theorem dksX3_isDistance_0 : cX3_isDistance.data.toList.drop 0 = dktX3_isDistance_0 := by decide +kernel
theorem dksX3_isDistance_1 : cX3_isDistance.data.toList.drop 23 = dktX3_isDistance_1 := dk_seg dksX3_isDistance_0 23 rfl rfl
theorem dksX3_isDistance_2 : cX3_isDistance.data.toList.drop 45 = dktX3_isDistance_2 := dk_seg dksX3_isDistance_1 22 rfl rfl
theorem dX3_isDistance_0 : decode cX3_isDistance 0 = .ok (.aload_n 0, 1) := dk_42 (dk_at dksX3_isDistance_0 0 rfl rfl)
theorem dX3_isDistance_1 : decode cX3_isDistance 1 = .ok (.iload_n 1, 1) := dk_27 (dk_at dksX3_isDistance_0 1 rfl rfl)
theorem dX3_isDistance_2 : decode cX3_isDistance 2 = .ok (.invokestatic 69, 3) := dk_184 0 69 (dk_at dksX3_isDistance_0 2 rfl rfl)
theorem dX3_isDistance_5 : decode cX3_isDistance 5 = .ok (.ifCond .eq 10, 3) := dk_153 0 10 (dk_at dksX3_isDistance_0 5 rfl rfl)
theorem dX3_isDistance_8 : decode cX3_isDistance 8 = .ok (.iload_n 3, 1) := dk_29 (dk_at dksX3_isDistance_0 8 rfl rfl)
theorem dX3_isDistance_9 : decode cX3_isDistance 9 = .ok (.invokestatic 69, 3) := dk_184 0 69 (dk_at dksX3_isDistance_0 9 rfl rfl)
theorem dX3_isDistance_12 : decode cX3_isDistance 12 = .ok (.ifCond .ne 7, 3) := dk_154 0 7 (dk_at dksX3_isDistance_0 12 rfl rfl)
theorem dX3_isDistance_15 : decode cX3_isDistance 15 = .ok (.iconst 1, 1) := dk_4 (dk_at dksX3_isDistance_0 15 rfl rfl)
theorem dX3_isDistance_16 : decode cX3_isDistance 16 = .ok (.goto 18, 3) := dk_167 0 18 (dk_at dksX3_isDistance_0 16 rfl rfl)
theorem dX3_isDistance_19 : decode cX3_isDistance 19 = .ok (.iload_n 2, 1) := dk_28 (dk_at dksX3_isDistance_0 19 rfl rfl)
theorem dX3_isDistance_20 : decode cX3_isDistance 20 = .ok (.iconst 0, 1) := dk_3 (dk_at dksX3_isDistance_0 20 rfl rfl)
theorem dX3_isDistance_21 : decode cX3_isDistance 21 = .ok (.bipush 8, 2) := dk_16 8 (dk_at dksX3_isDistance_0 21 rfl rfl)
theorem dX3_isDistance_23 : decode cX3_isDistance 23 = .ok (.invokestatic 50, 3) := dk_184 0 50 (dk_at dksX3_isDistance_1 0 rfl rfl)
theorem dX3_isDistance_26 : decode cX3_isDistance 26 = .ok (.ifCond .ne 7, 3) := dk_154 0 7 (dk_at dksX3_isDistance_1 3 rfl rfl)
theorem dX3_isDistance_29 : decode cX3_isDistance 29 = .ok (.iconst 2, 1) := dk_5 (dk_at dksX3_isDistance_1 6 rfl rfl)
theorem dX3_isDistance_30 : decode cX3_isDistance 30 = .ok (.goto 4, 3) := dk_167 0 4 (dk_at dksX3_isDistance_1 7 rfl rfl)
theorem dX3_isDistance_33 : decode cX3_isDistance 33 = .ok (.iconst 0, 1) := dk_3 (dk_at dksX3_isDistance_1 10 rfl rfl)
theorem dX3_isDistance_34 : decode cX3_isDistance 34 = .ok (.putfield 46, 3) := dk_181 0 46 (dk_at dksX3_isDistance_1 11 rfl rfl)
theorem dX3_isDistance_37 : decode cX3_isDistance 37 = .ok (.aload_n 0, 1) := dk_42 (dk_at dksX3_isDistance_1 14 rfl rfl)
theorem dX3_isDistance_38 : decode cX3_isDistance 38 = .ok (.getfield 46, 3) := dk_180 0 46 (dk_at dksX3_isDistance_1 15 rfl rfl)
theorem dX3_isDistance_41 : decode cX3_isDistance 41 = .ok (.ifCond .ne 7, 3) := dk_154 0 7 (dk_at dksX3_isDistance_1 18 rfl rfl)
theorem dX3_isDistance_44 : decode cX3_isDistance 44 = .ok (.iconst 1, 1) := dk_4 (dk_at dksX3_isDistance_1 21 rfl rfl)
theorem dX3_isDistance_45 : decode cX3_isDistance 45 = .ok (.goto 4, 3) := dk_167 0 4 (dk_at dksX3_isDistance_2 0 rfl rfl)
theorem dX3_isDistance_48 : decode cX3_isDistance 48 = .ok (.iconst 0, 1) := dk_3 (dk_at dksX3_isDistance_2 3 rfl rfl)
theorem dX3_isDistance_49 : decode cX3_isDistance 49 = .ok (.ireturn, 1) := dk_172 (dk_at dksX3_isDistance_2 4 rfl rfl)
abbrev cX3_changes : ByteArray := prog_22_method_26_code
def yX3_changes : MethodName := ⟨RX3, "changes", "(IIIZ)I"⟩
def dkwX3_changes_3 : List UInt8 := [182, 0, 95, 172]
abbrev dktX3_changes_3 : List UInt8 := dkwX3_changes_3 ++ []
def dkwX3_changes_2 : List UInt8 := [21, 5, 92, 46, 4, 21, 6, 120, 128, 79, 132, 6, 1, 167, 255, 217, 132, 5, 1, 167, 255, 193, 42, 29]
abbrev dktX3_changes_2 : List UInt8 := dkwX3_changes_2 ++ dktX3_changes_3
def dkwX3_changes_1 : List UInt8 := [16, 24, 162, 0, 38, 42, 27, 21, 6, 21, 5, 28, 21, 4, 182, 0, 101, 153, 0, 17, 42, 180, 0, 13]
abbrev dktX3_changes_1 : List UInt8 := dkwX3_changes_1 ++ dktX3_changes_2
def dkwX3_changes_0 : List UInt8 := [3, 54, 5, 21, 5, 16, 24, 162, 0, 62, 42, 180, 0, 13, 21, 5, 3, 79, 3, 54, 6, 21, 6]
abbrev dktX3_changes_0 : List UInt8 := dkwX3_changes_0 ++ dktX3_changes_1
theorem dksX3_changes_0 : cX3_changes.data.toList.drop 0 = dktX3_changes_0 := by decide +kernel
theorem dksX3_changes_1 : cX3_changes.data.toList.drop 23 = dktX3_changes_1 := dk_seg dksX3_changes_0 23 rfl rfl
theorem dksX3_changes_2 : cX3_changes.data.toList.drop 47 = dktX3_changes_2 := dk_seg dksX3_changes_1 24 rfl rfl
theorem dksX3_changes_3 : cX3_changes.data.toList.drop 71 = dktX3_changes_3 := dk_seg dksX3_changes_2 24 rfl rfl
theorem dX3_changes_0 : decode cX3_changes 0 = .ok (.iconst 0, 1) := dk_3 (dk_at dksX3_changes_0 0 rfl rfl)
theorem dX3_changes_1 : decode cX3_changes 1 = .ok (.istore 5, 2) := dk_54 5 (dk_at dksX3_changes_0 1 rfl rfl)
theorem dX3_changes_3 : decode cX3_changes 3 = .ok (.iload 5, 2) := dk_21 5 (dk_at dksX3_changes_0 3 rfl rfl)
theorem dX3_changes_5 : decode cX3_changes 5 = .ok (.bipush 24, 2) := dk_16 24 (dk_at dksX3_changes_0 5 rfl rfl)
theorem dX3_changes_7 : decode cX3_changes 7 = .ok (.if_icmp .ge 62, 3) := dk_162 0 62 (dk_at dksX3_changes_0 7 rfl rfl)
theorem dX3_changes_10 : decode cX3_changes 10 = .ok (.aload_n 0, 1) := dk_42 (dk_at dksX3_changes_0 10 rfl rfl)
theorem dX3_changes_11 : decode cX3_changes 11 = .ok (.getfield 13, 3) := dk_180 0 13 (dk_at dksX3_changes_0 11 rfl rfl)
theorem dX3_changes_14 : decode cX3_changes 14 = .ok (.iload 5, 2) := dk_21 5 (dk_at dksX3_changes_0 14 rfl rfl)
theorem dX3_changes_16 : decode cX3_changes 16 = .ok (.iconst 0, 1) := dk_3 (dk_at dksX3_changes_0 16 rfl rfl)
theorem dX3_changes_17 : decode cX3_changes 17 = .ok (.iastore, 1) := dk_79 (dk_at dksX3_changes_0 17 rfl rfl)
theorem dX3_changes_18 : decode cX3_changes 18 = .ok (.iconst 0, 1) := dk_3 (dk_at dksX3_changes_0 18 rfl rfl)
theorem dX3_changes_19 : decode cX3_changes 19 = .ok (.istore 6, 2) := dk_54 6 (dk_at dksX3_changes_0 19 rfl rfl)
theorem dX3_changes_21 : decode cX3_changes 21 = .ok (.iload 6, 2) := dk_21 6 (dk_at dksX3_changes_0 21 rfl rfl)
theorem dX3_changes_23 : decode cX3_changes 23 = .ok (.bipush 24, 2) := dk_16 24 (dk_at dksX3_changes_1 0 rfl rfl)
theorem dX3_changes_25 : decode cX3_changes 25 = .ok (.if_icmp .ge 38, 3) := dk_162 0 38 (dk_at dksX3_changes_1 2 rfl rfl)
theorem dX3_changes_28 : decode cX3_changes 28 = .ok (.aload_n 0, 1) := dk_42 (dk_at dksX3_changes_1 5 rfl rfl)
theorem dX3_changes_29 : decode cX3_changes 29 = .ok (.iload_n 1, 1) := dk_27 (dk_at dksX3_changes_1 6 rfl rfl)
theorem dX3_changes_30 : decode cX3_changes 30 = .ok (.iload 6, 2) := dk_21 6 (dk_at dksX3_changes_1 7 rfl rfl)
theorem dX3_changes_32 : decode cX3_changes 32 = .ok (.iload 5, 2) := dk_21 5 (dk_at dksX3_changes_1 9 rfl rfl)
theorem dX3_changes_34 : decode cX3_changes 34 = .ok (.iload_n 2, 1) := dk_28 (dk_at dksX3_changes_1 11 rfl rfl)
theorem dX3_changes_35 : decode cX3_changes 35 = .ok (.iload 4, 2) := dk_21 4 (dk_at dksX3_changes_1 12 rfl rfl)
theorem dX3_changes_37 : decode cX3_changes 37 = .ok (.invokevirtual 101, 3) := dk_182 0 101 (dk_at dksX3_changes_1 14 rfl rfl)
theorem dX3_changes_40 : decode cX3_changes 40 = .ok (.ifCond .eq 17, 3) := dk_153 0 17 (dk_at dksX3_changes_1 17 rfl rfl)
theorem dX3_changes_43 : decode cX3_changes 43 = .ok (.aload_n 0, 1) := dk_42 (dk_at dksX3_changes_1 20 rfl rfl)
theorem dX3_changes_44 : decode cX3_changes 44 = .ok (.getfield 13, 3) := dk_180 0 13 (dk_at dksX3_changes_1 21 rfl rfl)
theorem dX3_changes_47 : decode cX3_changes 47 = .ok (.iload 5, 2) := dk_21 5 (dk_at dksX3_changes_2 0 rfl rfl)
theorem dX3_changes_49 : decode cX3_changes 49 = .ok (.dup2, 1) := dk_92 (dk_at dksX3_changes_2 2 rfl rfl)
theorem dX3_changes_50 : decode cX3_changes 50 = .ok (.iaload, 1) := dk_46 (dk_at dksX3_changes_2 3 rfl rfl)
theorem dX3_changes_51 : decode cX3_changes 51 = .ok (.iconst 1, 1) := dk_4 (dk_at dksX3_changes_2 4 rfl rfl)
theorem dX3_changes_52 : decode cX3_changes 52 = .ok (.iload 6, 2) := dk_21 6 (dk_at dksX3_changes_2 5 rfl rfl)
theorem dX3_changes_54 : decode cX3_changes 54 = .ok (.ishl, 1) := dk_120 (dk_at dksX3_changes_2 7 rfl rfl)
theorem dX3_changes_55 : decode cX3_changes 55 = .ok (.ior, 1) := dk_128 (dk_at dksX3_changes_2 8 rfl rfl)
theorem dX3_changes_56 : decode cX3_changes 56 = .ok (.iastore, 1) := dk_79 (dk_at dksX3_changes_2 9 rfl rfl)
theorem dX3_changes_57 : decode cX3_changes 57 = .ok (.iinc 6 1, 3) := dk_132 6 1 (dk_at dksX3_changes_2 10 rfl rfl)
theorem dX3_changes_60 : decode cX3_changes 60 = .ok (.goto (-39), 3) := dk_167 255 217 (dk_at dksX3_changes_2 13 rfl rfl)
theorem dX3_changes_63 : decode cX3_changes 63 = .ok (.iinc 5 1, 3) := dk_132 5 1 (dk_at dksX3_changes_2 16 rfl rfl)
theorem dX3_changes_66 : decode cX3_changes 66 = .ok (.goto (-63), 3) := dk_167 255 193 (dk_at dksX3_changes_2 19 rfl rfl)
theorem dX3_changes_69 : decode cX3_changes 69 = .ok (.aload_n 0, 1) := dk_42 (dk_at dksX3_changes_2 22 rfl rfl)
theorem dX3_changes_70 : decode cX3_changes 70 = .ok (.iload_n 3, 1) := dk_29 (dk_at dksX3_changes_2 23 rfl rfl)
theorem dX3_changes_71 : decode cX3_changes 71 = .ok (.invokevirtual 95, 3) := dk_182 0 95 (dk_at dksX3_changes_3 0 rfl rfl)
theorem dX3_changes_74 : decode cX3_changes 74 = .ok (.ireturn, 1) := dk_172 (dk_at dksX3_changes_3 3 rfl rfl)
abbrev cX3_isAround : ByteArray := prog_22_method_25_code
def yX3_isAround : MethodName := ⟨RX3, "isAround", "(IIIIZ)Z"⟩
def dkwX3_isAround_2 : List UInt8 := [154, 0, 7, 4, 167, 0, 4, 3, 172, 132, 7, 1, 167, 255, 219, 132, 6, 1, 167, 255, 198, 21, 5, 172]
abbrev dktX3_isAround_2 : List UInt8 := dkwX3_isAround_2 ++ []
def dkwX3_isAround_1 : List UInt8 := [21, 4, 96, 163, 0, 34, 42, 27, 21, 7, 21, 6, 182, 0, 98, 21, 5, 159, 0, 14, 21, 5]
abbrev dktX3_isAround_1 : List UInt8 := dkwX3_isAround_1 ++ dktX3_isAround_2
def dkwX3_isAround_0 : List UInt8 := [29, 21, 4, 100, 54, 6, 21, 6, 29, 21, 4, 96, 163, 0, 55, 28, 21, 4, 100, 54, 7, 21, 7, 28]
abbrev dktX3_isAround_0 : List UInt8 := dkwX3_isAround_0 ++ dktX3_isAround_1
theorem dksX3_isAround_0 : cX3_isAround.data.toList.drop 0 = dktX3_isAround_0 := by decide +kernel
theorem dksX3_isAround_1 : cX3_isAround.data.toList.drop 24 = dktX3_isAround_1 := dk_seg dksX3_isAround_0 24 rfl rfl
theorem dksX3_isAround_2 : cX3_isAround.data.toList.drop 46 = dktX3_isAround_2 := dk_seg dksX3_isAround_1 22 rfl rfl
theorem dX3_isAround_0 : decode cX3_isAround 0 = .ok (.iload_n 3, 1) := dk_29 (dk_at dksX3_isAround_0 0 rfl rfl)
theorem dX3_isAround_1 : decode cX3_isAround 1 = .ok (.iload 4, 2) := dk_21 4 (dk_at dksX3_isAround_0 1 rfl rfl)
theorem dX3_isAround_3 : decode cX3_isAround 3 = .ok (.isub, 1) := dk_100 (dk_at dksX3_isAround_0 3 rfl rfl)
theorem dX3_isAround_4 : decode cX3_isAround 4 = .ok (.istore 6, 2) := dk_54 6 (dk_at dksX3_isAround_0 4 rfl rfl)
theorem dX3_isAround_6 : decode cX3_isAround 6 = .ok (.iload 6, 2) := dk_21 6 (dk_at dksX3_isAround_0 6 rfl rfl)
theorem dX3_isAround_8 : decode cX3_isAround 8 = .ok (.iload_n 3, 1) := dk_29 (dk_at dksX3_isAround_0 8 rfl rfl)
theorem dX3_isAround_9 : decode cX3_isAround 9 = .ok (.iload 4, 2) := dk_21 4 (dk_at dksX3_isAround_0 9 rfl rfl)
theorem dX3_isAround_11 : decode cX3_isAround 11 = .ok (.iadd, 1) := dk_96 (dk_at dksX3_isAround_0 11 rfl rfl)
theorem dX3_isAround_12 : decode cX3_isAround 12 = .ok (.if_icmp .gt 55, 3) := dk_163 0 55 (dk_at dksX3_isAround_0 12 rfl rfl)
theorem dX3_isAround_15 : decode cX3_isAround 15 = .ok (.iload_n 2, 1) := dk_28 (dk_at dksX3_isAround_0 15 rfl rfl)
theorem dX3_isAround_16 : decode cX3_isAround 16 = .ok (.iload 4, 2) := dk_21 4 (dk_at dksX3_isAround_0 16 rfl rfl)
theorem dX3_isAround_18 : decode cX3_isAround 18 = .ok (.isub, 1) := dk_100 (dk_at dksX3_isAround_0 18 rfl rfl)
theorem dX3_isAround_19 : decode cX3_isAround 19 = .ok (.istore 7, 2) := dk_54 7 (dk_at dksX3_isAround_0 19 rfl rfl)
theorem dX3_isAround_21 : decode cX3_isAround 21 = .ok (.iload 7, 2) := dk_21 7 (dk_at dksX3_isAround_0 21 rfl rfl)
theorem dX3_isAround_23 : decode cX3_isAround 23 = .ok (.iload_n 2, 1) := dk_28 (dk_at dksX3_isAround_0 23 rfl rfl)
theorem dX3_isAround_24 : decode cX3_isAround 24 = .ok (.iload 4, 2) := dk_21 4 (dk_at dksX3_isAround_1 0 rfl rfl)
theorem dX3_isAround_26 : decode cX3_isAround 26 = .ok (.iadd, 1) := dk_96 (dk_at dksX3_isAround_1 2 rfl rfl)
theorem dX3_isAround_27 : decode cX3_isAround 27 = .ok (.if_icmp .gt 34, 3) := dk_163 0 34 (dk_at dksX3_isAround_1 3 rfl rfl)
theorem dX3_isAround_30 : decode cX3_isAround 30 = .ok (.aload_n 0, 1) := dk_42 (dk_at dksX3_isAround_1 6 rfl rfl)
theorem dX3_isAround_31 : decode cX3_isAround 31 = .ok (.iload_n 1, 1) := dk_27 (dk_at dksX3_isAround_1 7 rfl rfl)
theorem dX3_isAround_32 : decode cX3_isAround 32 = .ok (.iload 7, 2) := dk_21 7 (dk_at dksX3_isAround_1 8 rfl rfl)
theorem dX3_isAround_34 : decode cX3_isAround 34 = .ok (.iload 6, 2) := dk_21 6 (dk_at dksX3_isAround_1 10 rfl rfl)
theorem dX3_isAround_36 : decode cX3_isAround 36 = .ok (.invokevirtual 98, 3) := dk_182 0 98 (dk_at dksX3_isAround_1 12 rfl rfl)
theorem dX3_isAround_39 : decode cX3_isAround 39 = .ok (.iload 5, 2) := dk_21 5 (dk_at dksX3_isAround_1 15 rfl rfl)
theorem dX3_isAround_41 : decode cX3_isAround 41 = .ok (.if_icmp .eq 14, 3) := dk_159 0 14 (dk_at dksX3_isAround_1 17 rfl rfl)
theorem dX3_isAround_44 : decode cX3_isAround 44 = .ok (.iload 5, 2) := dk_21 5 (dk_at dksX3_isAround_1 20 rfl rfl)
theorem dX3_isAround_46 : decode cX3_isAround 46 = .ok (.ifCond .ne 7, 3) := dk_154 0 7 (dk_at dksX3_isAround_2 0 rfl rfl)
theorem dX3_isAround_49 : decode cX3_isAround 49 = .ok (.iconst 1, 1) := dk_4 (dk_at dksX3_isAround_2 3 rfl rfl)
theorem dX3_isAround_50 : decode cX3_isAround 50 = .ok (.goto 4, 3) := dk_167 0 4 (dk_at dksX3_isAround_2 4 rfl rfl)
theorem dX3_isAround_53 : decode cX3_isAround 53 = .ok (.iconst 0, 1) := dk_3 (dk_at dksX3_isAround_2 7 rfl rfl)
theorem dX3_isAround_54 : decode cX3_isAround 54 = .ok (.ireturn, 1) := dk_172 (dk_at dksX3_isAround_2 8 rfl rfl)
theorem dX3_isAround_55 : decode cX3_isAround 55 = .ok (.iinc 7 1, 3) := dk_132 7 1 (dk_at dksX3_isAround_2 9 rfl rfl)
theorem dX3_isAround_58 : decode cX3_isAround 58 = .ok (.goto (-37), 3) := dk_167 255 219 (dk_at dksX3_isAround_2 12 rfl rfl)
theorem dX3_isAround_61 : decode cX3_isAround 61 = .ok (.iinc 6 1, 3) := dk_132 6 1 (dk_at dksX3_isAround_2 15 rfl rfl)
theorem dX3_isAround_64 : decode cX3_isAround 64 = .ok (.goto (-58), 3) := dk_167 255 198 (dk_at dksX3_isAround_2 18 rfl rfl)
theorem dX3_isAround_67 : decode cX3_isAround 67 = .ok (.iload 5, 2) := dk_21 5 (dk_at dksX3_isAround_2 21 rfl rfl)
theorem dX3_isAround_69 : decode cX3_isAround 69 = .ok (.ireturn, 1) := dk_172 (dk_at dksX3_isAround_2 23 rfl rfl)
abbrev cX3_has : ByteArray := prog_22_method_8_code
def yX3_has : MethodName := ⟨RX3, "has", "(III)Z"⟩
def dkwX3_has_1 : List UInt8 := [167, 0, 4, 3, 172]
abbrev dktX3_has_1 : List UInt8 := dkwX3_has_1 ++ []
def dkwX3_has_0 : List UInt8 := [28, 29, 184, 0, 54, 153, 0, 21, 42, 27, 29, 182, 0, 58, 28, 122, 4, 126, 4, 160, 0, 7, 4]
abbrev dktX3_has_0 : List UInt8 := dkwX3_has_0 ++ dktX3_has_1
theorem dksX3_has_0 : cX3_has.data.toList.drop 0 = dktX3_has_0 := by decide +kernel
theorem dksX3_has_1 : cX3_has.data.toList.drop 23 = dktX3_has_1 := dk_seg dksX3_has_0 23 rfl rfl
theorem dX3_has_0 : decode cX3_has 0 = .ok (.iload_n 2, 1) := dk_28 (dk_at dksX3_has_0 0 rfl rfl)
theorem dX3_has_1 : decode cX3_has 1 = .ok (.iload_n 3, 1) := dk_29 (dk_at dksX3_has_0 1 rfl rfl)
theorem dX3_has_2 : decode cX3_has 2 = .ok (.invokestatic 54, 3) := dk_184 0 54 (dk_at dksX3_has_0 2 rfl rfl)
theorem dX3_has_5 : decode cX3_has 5 = .ok (.ifCond .eq 21, 3) := dk_153 0 21 (dk_at dksX3_has_0 5 rfl rfl)
theorem dX3_has_8 : decode cX3_has 8 = .ok (.aload_n 0, 1) := dk_42 (dk_at dksX3_has_0 8 rfl rfl)
theorem dX3_has_9 : decode cX3_has 9 = .ok (.iload_n 1, 1) := dk_27 (dk_at dksX3_has_0 9 rfl rfl)
theorem dX3_has_10 : decode cX3_has 10 = .ok (.iload_n 3, 1) := dk_29 (dk_at dksX3_has_0 10 rfl rfl)
theorem dX3_has_11 : decode cX3_has 11 = .ok (.invokevirtual 58, 3) := dk_182 0 58 (dk_at dksX3_has_0 11 rfl rfl)
theorem dX3_has_14 : decode cX3_has 14 = .ok (.iload_n 2, 1) := dk_28 (dk_at dksX3_has_0 14 rfl rfl)
theorem dX3_has_15 : decode cX3_has 15 = .ok (.ishr, 1) := dk_122 (dk_at dksX3_has_0 15 rfl rfl)
theorem dX3_has_16 : decode cX3_has 16 = .ok (.iconst 1, 1) := dk_4 (dk_at dksX3_has_0 16 rfl rfl)
theorem dX3_has_17 : decode cX3_has 17 = .ok (.iand, 1) := dk_126 (dk_at dksX3_has_0 17 rfl rfl)
theorem dX3_has_18 : decode cX3_has 18 = .ok (.iconst 1, 1) := dk_4 (dk_at dksX3_has_0 18 rfl rfl)
theorem dX3_has_19 : decode cX3_has 19 = .ok (.if_icmp .ne 7, 3) := dk_160 0 7 (dk_at dksX3_has_0 19 rfl rfl)
theorem dX3_has_22 : decode cX3_has 22 = .ok (.iconst 1, 1) := dk_4 (dk_at dksX3_has_0 22 rfl rfl)
theorem dX3_has_23 : decode cX3_has 23 = .ok (.goto 4, 3) := dk_167 0 4 (dk_at dksX3_has_1 0 rfl rfl)
theorem dX3_has_26 : decode cX3_has 26 = .ok (.iconst 0, 1) := dk_3 (dk_at dksX3_has_1 3 rfl rfl)
theorem dX3_has_27 : decode cX3_has 27 = .ok (.ireturn, 1) := dk_172 (dk_at dksX3_has_1 4 rfl rfl)
abbrev cX3_isCell : ByteArray := prog_22_method_6_code
def yX3_isCell : MethodName := ⟨RX3, "isCell", "(II)Z"⟩
def dkwX3_isCell_1 : List UInt8 := [3, 172]
abbrev dktX3_isCell_1 : List UInt8 := dkwX3_isCell_1 ++ []
def dkwX3_isCell_0 : List UInt8 := [26, 3, 16, 23, 184, 0, 50, 153, 0, 17, 27, 3, 16, 23, 184, 0, 50, 153, 0, 7, 4, 167, 0, 4]
abbrev dktX3_isCell_0 : List UInt8 := dkwX3_isCell_0 ++ dktX3_isCell_1
theorem dksX3_isCell_0 : cX3_isCell.data.toList.drop 0 = dktX3_isCell_0 := by decide +kernel
theorem dksX3_isCell_1 : cX3_isCell.data.toList.drop 24 = dktX3_isCell_1 := dk_seg dksX3_isCell_0 24 rfl rfl
theorem dX3_isCell_0 : decode cX3_isCell 0 = .ok (.iload_n 0, 1) := dk_26 (dk_at dksX3_isCell_0 0 rfl rfl)
theorem dX3_isCell_1 : decode cX3_isCell 1 = .ok (.iconst 0, 1) := dk_3 (dk_at dksX3_isCell_0 1 rfl rfl)
theorem dX3_isCell_2 : decode cX3_isCell 2 = .ok (.bipush 23, 2) := dk_16 23 (dk_at dksX3_isCell_0 2 rfl rfl)
theorem dX3_isCell_4 : decode cX3_isCell 4 = .ok (.invokestatic 50, 3) := dk_184 0 50 (dk_at dksX3_isCell_0 4 rfl rfl)
theorem dX3_isCell_7 : decode cX3_isCell 7 = .ok (.ifCond .eq 17, 3) := dk_153 0 17 (dk_at dksX3_isCell_0 7 rfl rfl)
theorem dX3_isCell_10 : decode cX3_isCell 10 = .ok (.iload_n 1, 1) := dk_27 (dk_at dksX3_isCell_0 10 rfl rfl)
theorem dX3_isCell_11 : decode cX3_isCell 11 = .ok (.iconst 0, 1) := dk_3 (dk_at dksX3_isCell_0 11 rfl rfl)
theorem dX3_isCell_12 : decode cX3_isCell 12 = .ok (.bipush 23, 2) := dk_16 23 (dk_at dksX3_isCell_0 12 rfl rfl)
theorem dX3_isCell_14 : decode cX3_isCell 14 = .ok (.invokestatic 50, 3) := dk_184 0 50 (dk_at dksX3_isCell_0 14 rfl rfl)
theorem dX3_isCell_17 : decode cX3_isCell 17 = .ok (.ifCond .eq 7, 3) := dk_153 0 7 (dk_at dksX3_isCell_0 17 rfl rfl)
theorem dX3_isCell_20 : decode cX3_isCell 20 = .ok (.iconst 1, 1) := dk_4 (dk_at dksX3_isCell_0 20 rfl rfl)
theorem dX3_isCell_21 : decode cX3_isCell 21 = .ok (.goto 4, 3) := dk_167 0 4 (dk_at dksX3_isCell_0 21 rfl rfl)
theorem dX3_isCell_24 : decode cX3_isCell 24 = .ok (.iconst 0, 1) := dk_3 (dk_at dksX3_isCell_1 0 rfl rfl)
theorem dX3_isCell_25 : decode cX3_isCell 25 = .ok (.ireturn, 1) := dk_172 (dk_at dksX3_isCell_1 1 rfl rfl)
abbrev cX3_shrink : ByteArray := prog_22_method_28_code
def yX3_shrink : MethodName := ⟨RX3, "shrink", "(III)I"⟩
def dkwX3_shrink_0 : List UInt8 := [42, 27, 28, 29, 182, 0, 105, 153, 0, 14, 42, 27, 28, 29, 4, 182, 0, 108, 167, 0, 4, 3, 172]
abbrev dktX3_shrink_0 : List UInt8 := dkwX3_shrink_0 ++ []
theorem dksX3_shrink_0 : cX3_shrink.data.toList.drop 0 = dktX3_shrink_0 := by decide +kernel
theorem dX3_shrink_0 : decode cX3_shrink 0 = .ok (.aload_n 0, 1) := dk_42 (dk_at dksX3_shrink_0 0 rfl rfl)
theorem dX3_shrink_1 : decode cX3_shrink 1 = .ok (.iload_n 1, 1) := dk_27 (dk_at dksX3_shrink_0 1 rfl rfl)
theorem dX3_shrink_2 : decode cX3_shrink 2 = .ok (.iload_n 2, 1) := dk_28 (dk_at dksX3_shrink_0 2 rfl rfl)
theorem dX3_shrink_3 : decode cX3_shrink 3 = .ok (.iload_n 3, 1) := dk_29 (dk_at dksX3_shrink_0 3 rfl rfl)
theorem dX3_shrink_4 : decode cX3_shrink 4 = .ok (.invokevirtual 105, 3) := dk_182 0 105 (dk_at dksX3_shrink_0 4 rfl rfl)
theorem dX3_shrink_7 : decode cX3_shrink 7 = .ok (.ifCond .eq 14, 3) := dk_153 0 14 (dk_at dksX3_shrink_0 7 rfl rfl)
theorem dX3_shrink_10 : decode cX3_shrink 10 = .ok (.aload_n 0, 1) := dk_42 (dk_at dksX3_shrink_0 10 rfl rfl)
theorem dX3_shrink_11 : decode cX3_shrink 11 = .ok (.iload_n 1, 1) := dk_27 (dk_at dksX3_shrink_0 11 rfl rfl)
theorem dX3_shrink_12 : decode cX3_shrink 12 = .ok (.iload_n 2, 1) := dk_28 (dk_at dksX3_shrink_0 12 rfl rfl)
theorem dX3_shrink_13 : decode cX3_shrink 13 = .ok (.iload_n 3, 1) := dk_29 (dk_at dksX3_shrink_0 13 rfl rfl)
theorem dX3_shrink_14 : decode cX3_shrink 14 = .ok (.iconst 1, 1) := dk_4 (dk_at dksX3_shrink_0 14 rfl rfl)
theorem dX3_shrink_15 : decode cX3_shrink 15 = .ok (.invokevirtual 108, 3) := dk_182 0 108 (dk_at dksX3_shrink_0 15 rfl rfl)
theorem dX3_shrink_18 : decode cX3_shrink 18 = .ok (.goto 4, 3) := dk_167 0 4 (dk_at dksX3_shrink_0 18 rfl rfl)
theorem dX3_shrink_21 : decode cX3_shrink 21 = .ok (.iconst 0, 1) := dk_3 (dk_at dksX3_shrink_0 21 rfl rfl)
theorem dX3_shrink_22 : decode cX3_shrink 22 = .ok (.ireturn, 1) := dk_172 (dk_at dksX3_shrink_0 22 rfl rfl)
abbrev cX3_move : ByteArray := prog_22_method_29_code
def yX3_move : MethodName := ⟨RX3, "move", "(IIII)I"⟩
def dkwX3_move_5 : List UInt8 := [182, 0, 95, 172]
abbrev dktX3_move_5 : List UInt8 := dkwX3_move_5 ++ []
def dkwX3_move_4 : List UInt8 := [20, 0, 112, 127, 136, 167, 0, 8, 21, 6, 28, 116, 122, 79, 132, 5, 1, 167, 255, 206, 42, 21, 4]
abbrev dktX3_move_4 : List UInt8 := dkwX3_move_4 ++ dktX3_move_5
def dkwX3_move_3 : List UInt8 := [21, 5, 29, 100, 182, 0, 58, 54, 6, 42, 180, 0, 13, 21, 5, 28, 155, 0, 16, 21, 6, 133, 28, 121]
abbrev dktX3_move_3 : List UInt8 := dkwX3_move_3 ++ dktX3_move_4
def dkwX3_move_2 : List UInt8 := [181, 0, 46, 42, 180, 0, 46, 153, 0, 5, 3, 172, 3, 54, 5, 21, 5, 16, 24, 162, 0, 49, 42, 27]
abbrev dktX3_move_2 : List UInt8 := dkwX3_move_2 ++ dktX3_move_3
def dkwX3_move_1 : List UInt8 := [16, 24, 184, 0, 50, 153, 0, 14, 29, 16, 232, 16, 24, 184, 0, 50, 154, 0, 7, 5, 167, 0, 4, 3]
abbrev dktX3_move_1 : List UInt8 := dkwX3_move_1 ++ dktX3_move_2
def dkwX3_move_0 : List UInt8 := [42, 27, 184, 0, 69, 153, 0, 11, 21, 4, 184, 0, 69, 154, 0, 7, 4, 167, 0, 30, 28, 16, 232]
abbrev dktX3_move_0 : List UInt8 := dkwX3_move_0 ++ dktX3_move_1
theorem dksX3_move_0 : cX3_move.data.toList.drop 0 = dktX3_move_0 := by decide +kernel
theorem dksX3_move_1 : cX3_move.data.toList.drop 23 = dktX3_move_1 := dk_seg dksX3_move_0 23 rfl rfl
theorem dksX3_move_2 : cX3_move.data.toList.drop 47 = dktX3_move_2 := dk_seg dksX3_move_1 24 rfl rfl
theorem dksX3_move_3 : cX3_move.data.toList.drop 71 = dktX3_move_3 := dk_seg dksX3_move_2 24 rfl rfl
theorem dksX3_move_4 : cX3_move.data.toList.drop 95 = dktX3_move_4 := dk_seg dksX3_move_3 24 rfl rfl
theorem dksX3_move_5 : cX3_move.data.toList.drop 118 = dktX3_move_5 := dk_seg dksX3_move_4 23 rfl rfl
theorem dX3_move_0 : decode cX3_move 0 = .ok (.aload_n 0, 1) := dk_42 (dk_at dksX3_move_0 0 rfl rfl)
theorem dX3_move_1 : decode cX3_move 1 = .ok (.iload_n 1, 1) := dk_27 (dk_at dksX3_move_0 1 rfl rfl)
theorem dX3_move_2 : decode cX3_move 2 = .ok (.invokestatic 69, 3) := dk_184 0 69 (dk_at dksX3_move_0 2 rfl rfl)
theorem dX3_move_5 : decode cX3_move 5 = .ok (.ifCond .eq 11, 3) := dk_153 0 11 (dk_at dksX3_move_0 5 rfl rfl)
theorem dX3_move_8 : decode cX3_move 8 = .ok (.iload 4, 2) := dk_21 4 (dk_at dksX3_move_0 8 rfl rfl)
theorem dX3_move_10 : decode cX3_move 10 = .ok (.invokestatic 69, 3) := dk_184 0 69 (dk_at dksX3_move_0 10 rfl rfl)
theorem dX3_move_13 : decode cX3_move 13 = .ok (.ifCond .ne 7, 3) := dk_154 0 7 (dk_at dksX3_move_0 13 rfl rfl)
theorem dX3_move_16 : decode cX3_move 16 = .ok (.iconst 1, 1) := dk_4 (dk_at dksX3_move_0 16 rfl rfl)
theorem dX3_move_17 : decode cX3_move 17 = .ok (.goto 30, 3) := dk_167 0 30 (dk_at dksX3_move_0 17 rfl rfl)
theorem dX3_move_20 : decode cX3_move 20 = .ok (.iload_n 2, 1) := dk_28 (dk_at dksX3_move_0 20 rfl rfl)
theorem dX3_move_21 : decode cX3_move 21 = .ok (.bipush (-24), 2) := dk_16 232 (dk_at dksX3_move_0 21 rfl rfl)
theorem dX3_move_23 : decode cX3_move 23 = .ok (.bipush 24, 2) := dk_16 24 (dk_at dksX3_move_1 0 rfl rfl)
theorem dX3_move_25 : decode cX3_move 25 = .ok (.invokestatic 50, 3) := dk_184 0 50 (dk_at dksX3_move_1 2 rfl rfl)
theorem dX3_move_28 : decode cX3_move 28 = .ok (.ifCond .eq 14, 3) := dk_153 0 14 (dk_at dksX3_move_1 5 rfl rfl)
theorem dX3_move_31 : decode cX3_move 31 = .ok (.iload_n 3, 1) := dk_29 (dk_at dksX3_move_1 8 rfl rfl)
theorem dX3_move_32 : decode cX3_move 32 = .ok (.bipush (-24), 2) := dk_16 232 (dk_at dksX3_move_1 9 rfl rfl)
theorem dX3_move_34 : decode cX3_move 34 = .ok (.bipush 24, 2) := dk_16 24 (dk_at dksX3_move_1 11 rfl rfl)
theorem dX3_move_36 : decode cX3_move 36 = .ok (.invokestatic 50, 3) := dk_184 0 50 (dk_at dksX3_move_1 13 rfl rfl)
theorem dX3_move_39 : decode cX3_move 39 = .ok (.ifCond .ne 7, 3) := dk_154 0 7 (dk_at dksX3_move_1 16 rfl rfl)
theorem dX3_move_42 : decode cX3_move 42 = .ok (.iconst 2, 1) := dk_5 (dk_at dksX3_move_1 19 rfl rfl)
theorem dX3_move_43 : decode cX3_move 43 = .ok (.goto 4, 3) := dk_167 0 4 (dk_at dksX3_move_1 20 rfl rfl)
theorem dX3_move_46 : decode cX3_move 46 = .ok (.iconst 0, 1) := dk_3 (dk_at dksX3_move_1 23 rfl rfl)
theorem dX3_move_47 : decode cX3_move 47 = .ok (.putfield 46, 3) := dk_181 0 46 (dk_at dksX3_move_2 0 rfl rfl)
theorem dX3_move_50 : decode cX3_move 50 = .ok (.aload_n 0, 1) := dk_42 (dk_at dksX3_move_2 3 rfl rfl)
theorem dX3_move_51 : decode cX3_move 51 = .ok (.getfield 46, 3) := dk_180 0 46 (dk_at dksX3_move_2 4 rfl rfl)
theorem dX3_move_54 : decode cX3_move 54 = .ok (.ifCond .eq 5, 3) := dk_153 0 5 (dk_at dksX3_move_2 7 rfl rfl)
theorem dX3_move_57 : decode cX3_move 57 = .ok (.iconst 0, 1) := dk_3 (dk_at dksX3_move_2 10 rfl rfl)
theorem dX3_move_58 : decode cX3_move 58 = .ok (.ireturn, 1) := dk_172 (dk_at dksX3_move_2 11 rfl rfl)
theorem dX3_move_59 : decode cX3_move 59 = .ok (.iconst 0, 1) := dk_3 (dk_at dksX3_move_2 12 rfl rfl)
theorem dX3_move_60 : decode cX3_move 60 = .ok (.istore 5, 2) := dk_54 5 (dk_at dksX3_move_2 13 rfl rfl)
theorem dX3_move_62 : decode cX3_move 62 = .ok (.iload 5, 2) := dk_21 5 (dk_at dksX3_move_2 15 rfl rfl)
theorem dX3_move_64 : decode cX3_move 64 = .ok (.bipush 24, 2) := dk_16 24 (dk_at dksX3_move_2 17 rfl rfl)
theorem dX3_move_66 : decode cX3_move 66 = .ok (.if_icmp .ge 49, 3) := dk_162 0 49 (dk_at dksX3_move_2 19 rfl rfl)
theorem dX3_move_69 : decode cX3_move 69 = .ok (.aload_n 0, 1) := dk_42 (dk_at dksX3_move_2 22 rfl rfl)
theorem dX3_move_70 : decode cX3_move 70 = .ok (.iload_n 1, 1) := dk_27 (dk_at dksX3_move_2 23 rfl rfl)
theorem dX3_move_71 : decode cX3_move 71 = .ok (.iload 5, 2) := dk_21 5 (dk_at dksX3_move_3 0 rfl rfl)
theorem dX3_move_73 : decode cX3_move 73 = .ok (.iload_n 3, 1) := dk_29 (dk_at dksX3_move_3 2 rfl rfl)
theorem dX3_move_74 : decode cX3_move 74 = .ok (.isub, 1) := dk_100 (dk_at dksX3_move_3 3 rfl rfl)
theorem dX3_move_75 : decode cX3_move 75 = .ok (.invokevirtual 58, 3) := dk_182 0 58 (dk_at dksX3_move_3 4 rfl rfl)
theorem dX3_move_78 : decode cX3_move 78 = .ok (.istore 6, 2) := dk_54 6 (dk_at dksX3_move_3 7 rfl rfl)
theorem dX3_move_80 : decode cX3_move 80 = .ok (.aload_n 0, 1) := dk_42 (dk_at dksX3_move_3 9 rfl rfl)
theorem dX3_move_81 : decode cX3_move 81 = .ok (.getfield 13, 3) := dk_180 0 13 (dk_at dksX3_move_3 10 rfl rfl)
theorem dX3_move_84 : decode cX3_move 84 = .ok (.iload 5, 2) := dk_21 5 (dk_at dksX3_move_3 13 rfl rfl)
theorem dX3_move_86 : decode cX3_move 86 = .ok (.iload_n 2, 1) := dk_28 (dk_at dksX3_move_3 15 rfl rfl)
theorem dX3_move_87 : decode cX3_move 87 = .ok (.ifCond .lt 16, 3) := dk_155 0 16 (dk_at dksX3_move_3 16 rfl rfl)
theorem dX3_move_90 : decode cX3_move 90 = .ok (.iload 6, 2) := dk_21 6 (dk_at dksX3_move_3 19 rfl rfl)
theorem dX3_move_92 : decode cX3_move 92 = .ok (.i2l, 1) := dk_133 (dk_at dksX3_move_3 21 rfl rfl)
theorem dX3_move_93 : decode cX3_move 93 = .ok (.iload_n 2, 1) := dk_28 (dk_at dksX3_move_3 22 rfl rfl)
theorem dX3_move_94 : decode cX3_move 94 = .ok (.lshl, 1) := dk_121 (dk_at dksX3_move_3 23 rfl rfl)
theorem dX3_move_95 : decode cX3_move 95 = .ok (.ldc2_w 112, 3) := dk_20 0 112 (dk_at dksX3_move_4 0 rfl rfl)
theorem dX3_move_98 : decode cX3_move 98 = .ok (.land, 1) := dk_127 (dk_at dksX3_move_4 3 rfl rfl)
theorem dX3_move_99 : decode cX3_move 99 = .ok (.l2i, 1) := dk_136 (dk_at dksX3_move_4 4 rfl rfl)
theorem dX3_move_100 : decode cX3_move 100 = .ok (.goto 8, 3) := dk_167 0 8 (dk_at dksX3_move_4 5 rfl rfl)
theorem dX3_move_103 : decode cX3_move 103 = .ok (.iload 6, 2) := dk_21 6 (dk_at dksX3_move_4 8 rfl rfl)
theorem dX3_move_105 : decode cX3_move 105 = .ok (.iload_n 2, 1) := dk_28 (dk_at dksX3_move_4 10 rfl rfl)
theorem dX3_move_106 : decode cX3_move 106 = .ok (.ineg, 1) := dk_116 (dk_at dksX3_move_4 11 rfl rfl)
theorem dX3_move_107 : decode cX3_move 107 = .ok (.ishr, 1) := dk_122 (dk_at dksX3_move_4 12 rfl rfl)
theorem dX3_move_108 : decode cX3_move 108 = .ok (.iastore, 1) := dk_79 (dk_at dksX3_move_4 13 rfl rfl)
theorem dX3_move_109 : decode cX3_move 109 = .ok (.iinc 5 1, 3) := dk_132 5 1 (dk_at dksX3_move_4 14 rfl rfl)
theorem dX3_move_112 : decode cX3_move 112 = .ok (.goto (-50), 3) := dk_167 255 206 (dk_at dksX3_move_4 17 rfl rfl)
theorem dX3_move_115 : decode cX3_move 115 = .ok (.aload_n 0, 1) := dk_42 (dk_at dksX3_move_4 20 rfl rfl)
theorem dX3_move_116 : decode cX3_move 116 = .ok (.iload 4, 2) := dk_21 4 (dk_at dksX3_move_4 21 rfl rfl)
theorem dX3_move_118 : decode cX3_move 118 = .ok (.invokevirtual 95, 3) := dk_182 0 95 (dk_at dksX3_move_5 0 rfl rfl)
theorem dX3_move_121 : decode cX3_move 121 = .ok (.ireturn, 1) := dk_172 (dk_at dksX3_move_5 3 rfl rfl)
abbrev cX3_turn : ByteArray := prog_22_method_30_code
def yX3_turn : MethodName := ⟨RX3, "turn", "(II)I"⟩
def dkwX3_turn_4 : List UInt8 := [42, 28, 182, 0, 95, 172]
abbrev dktX3_turn_4 : List UInt8 := dkwX3_turn_4 ++ []
def dkwX3_turn_3 : List UInt8 := [180, 0, 13, 29, 92, 46, 4, 21, 4, 120, 128, 79, 132, 4, 1, 167, 255, 219, 132, 3, 1, 167, 255, 197]
abbrev dktX3_turn_3 : List UInt8 := dkwX3_turn_3 ++ dktX3_turn_4
def dkwX3_turn_2 : List UInt8 := [54, 4, 21, 4, 16, 24, 162, 0, 36, 42, 27, 29, 16, 23, 21, 4, 100, 182, 0, 98, 153, 0, 16, 42]
abbrev dktX3_turn_2 : List UInt8 := dkwX3_turn_2 ++ dktX3_turn_3
def dkwX3_turn_1 : List UInt8 := [180, 0, 46, 153, 0, 5, 3, 172, 3, 62, 29, 16, 24, 162, 0, 59, 42, 180, 0, 13, 29, 3, 79, 3]
abbrev dktX3_turn_1 : List UInt8 := dkwX3_turn_1 ++ dktX3_turn_2
def dkwX3_turn_0 : List UInt8 := [42, 27, 184, 0, 69, 153, 0, 10, 28, 184, 0, 69, 154, 0, 7, 4, 167, 0, 4, 3, 181, 0, 46, 42]
abbrev dktX3_turn_0 : List UInt8 := dkwX3_turn_0 ++ dktX3_turn_1
theorem dksX3_turn_0 : cX3_turn.data.toList.drop 0 = dktX3_turn_0 := by decide +kernel
theorem dksX3_turn_1 : cX3_turn.data.toList.drop 24 = dktX3_turn_1 := dk_seg dksX3_turn_0 24 rfl rfl
theorem dksX3_turn_2 : cX3_turn.data.toList.drop 48 = dktX3_turn_2 := dk_seg dksX3_turn_1 24 rfl rfl
theorem dksX3_turn_3 : cX3_turn.data.toList.drop 72 = dktX3_turn_3 := dk_seg dksX3_turn_2 24 rfl rfl
theorem dksX3_turn_4 : cX3_turn.data.toList.drop 96 = dktX3_turn_4 := dk_seg dksX3_turn_3 24 rfl rfl
theorem dX3_turn_0 : decode cX3_turn 0 = .ok (.aload_n 0, 1) := dk_42 (dk_at dksX3_turn_0 0 rfl rfl)
theorem dX3_turn_1 : decode cX3_turn 1 = .ok (.iload_n 1, 1) := dk_27 (dk_at dksX3_turn_0 1 rfl rfl)
theorem dX3_turn_2 : decode cX3_turn 2 = .ok (.invokestatic 69, 3) := dk_184 0 69 (dk_at dksX3_turn_0 2 rfl rfl)
theorem dX3_turn_5 : decode cX3_turn 5 = .ok (.ifCond .eq 10, 3) := dk_153 0 10 (dk_at dksX3_turn_0 5 rfl rfl)
theorem dX3_turn_8 : decode cX3_turn 8 = .ok (.iload_n 2, 1) := dk_28 (dk_at dksX3_turn_0 8 rfl rfl)
theorem dX3_turn_9 : decode cX3_turn 9 = .ok (.invokestatic 69, 3) := dk_184 0 69 (dk_at dksX3_turn_0 9 rfl rfl)
theorem dX3_turn_12 : decode cX3_turn 12 = .ok (.ifCond .ne 7, 3) := dk_154 0 7 (dk_at dksX3_turn_0 12 rfl rfl)
theorem dX3_turn_15 : decode cX3_turn 15 = .ok (.iconst 1, 1) := dk_4 (dk_at dksX3_turn_0 15 rfl rfl)
theorem dX3_turn_16 : decode cX3_turn 16 = .ok (.goto 4, 3) := dk_167 0 4 (dk_at dksX3_turn_0 16 rfl rfl)
theorem dX3_turn_19 : decode cX3_turn 19 = .ok (.iconst 0, 1) := dk_3 (dk_at dksX3_turn_0 19 rfl rfl)
theorem dX3_turn_20 : decode cX3_turn 20 = .ok (.putfield 46, 3) := dk_181 0 46 (dk_at dksX3_turn_0 20 rfl rfl)
theorem dX3_turn_23 : decode cX3_turn 23 = .ok (.aload_n 0, 1) := dk_42 (dk_at dksX3_turn_0 23 rfl rfl)
theorem dX3_turn_24 : decode cX3_turn 24 = .ok (.getfield 46, 3) := dk_180 0 46 (dk_at dksX3_turn_1 0 rfl rfl)
theorem dX3_turn_27 : decode cX3_turn 27 = .ok (.ifCond .eq 5, 3) := dk_153 0 5 (dk_at dksX3_turn_1 3 rfl rfl)
theorem dX3_turn_30 : decode cX3_turn 30 = .ok (.iconst 0, 1) := dk_3 (dk_at dksX3_turn_1 6 rfl rfl)
theorem dX3_turn_31 : decode cX3_turn 31 = .ok (.ireturn, 1) := dk_172 (dk_at dksX3_turn_1 7 rfl rfl)
theorem dX3_turn_32 : decode cX3_turn 32 = .ok (.iconst 0, 1) := dk_3 (dk_at dksX3_turn_1 8 rfl rfl)
theorem dX3_turn_33 : decode cX3_turn 33 = .ok (.istore_n 3, 1) := dk_62 (dk_at dksX3_turn_1 9 rfl rfl)
theorem dX3_turn_34 : decode cX3_turn 34 = .ok (.iload_n 3, 1) := dk_29 (dk_at dksX3_turn_1 10 rfl rfl)
theorem dX3_turn_35 : decode cX3_turn 35 = .ok (.bipush 24, 2) := dk_16 24 (dk_at dksX3_turn_1 11 rfl rfl)
theorem dX3_turn_37 : decode cX3_turn 37 = .ok (.if_icmp .ge 59, 3) := dk_162 0 59 (dk_at dksX3_turn_1 13 rfl rfl)
theorem dX3_turn_40 : decode cX3_turn 40 = .ok (.aload_n 0, 1) := dk_42 (dk_at dksX3_turn_1 16 rfl rfl)
theorem dX3_turn_41 : decode cX3_turn 41 = .ok (.getfield 13, 3) := dk_180 0 13 (dk_at dksX3_turn_1 17 rfl rfl)
theorem dX3_turn_44 : decode cX3_turn 44 = .ok (.iload_n 3, 1) := dk_29 (dk_at dksX3_turn_1 20 rfl rfl)
theorem dX3_turn_45 : decode cX3_turn 45 = .ok (.iconst 0, 1) := dk_3 (dk_at dksX3_turn_1 21 rfl rfl)
theorem dX3_turn_46 : decode cX3_turn 46 = .ok (.iastore, 1) := dk_79 (dk_at dksX3_turn_1 22 rfl rfl)
theorem dX3_turn_47 : decode cX3_turn 47 = .ok (.iconst 0, 1) := dk_3 (dk_at dksX3_turn_1 23 rfl rfl)
theorem dX3_turn_48 : decode cX3_turn 48 = .ok (.istore 4, 2) := dk_54 4 (dk_at dksX3_turn_2 0 rfl rfl)
theorem dX3_turn_50 : decode cX3_turn 50 = .ok (.iload 4, 2) := dk_21 4 (dk_at dksX3_turn_2 2 rfl rfl)
theorem dX3_turn_52 : decode cX3_turn 52 = .ok (.bipush 24, 2) := dk_16 24 (dk_at dksX3_turn_2 4 rfl rfl)
theorem dX3_turn_54 : decode cX3_turn 54 = .ok (.if_icmp .ge 36, 3) := dk_162 0 36 (dk_at dksX3_turn_2 6 rfl rfl)
theorem dX3_turn_57 : decode cX3_turn 57 = .ok (.aload_n 0, 1) := dk_42 (dk_at dksX3_turn_2 9 rfl rfl)
theorem dX3_turn_58 : decode cX3_turn 58 = .ok (.iload_n 1, 1) := dk_27 (dk_at dksX3_turn_2 10 rfl rfl)
theorem dX3_turn_59 : decode cX3_turn 59 = .ok (.iload_n 3, 1) := dk_29 (dk_at dksX3_turn_2 11 rfl rfl)
theorem dX3_turn_60 : decode cX3_turn 60 = .ok (.bipush 23, 2) := dk_16 23 (dk_at dksX3_turn_2 12 rfl rfl)
theorem dX3_turn_62 : decode cX3_turn 62 = .ok (.iload 4, 2) := dk_21 4 (dk_at dksX3_turn_2 14 rfl rfl)
theorem dX3_turn_64 : decode cX3_turn 64 = .ok (.isub, 1) := dk_100 (dk_at dksX3_turn_2 16 rfl rfl)
theorem dX3_turn_65 : decode cX3_turn 65 = .ok (.invokevirtual 98, 3) := dk_182 0 98 (dk_at dksX3_turn_2 17 rfl rfl)
theorem dX3_turn_68 : decode cX3_turn 68 = .ok (.ifCond .eq 16, 3) := dk_153 0 16 (dk_at dksX3_turn_2 20 rfl rfl)
theorem dX3_turn_71 : decode cX3_turn 71 = .ok (.aload_n 0, 1) := dk_42 (dk_at dksX3_turn_2 23 rfl rfl)
theorem dX3_turn_72 : decode cX3_turn 72 = .ok (.getfield 13, 3) := dk_180 0 13 (dk_at dksX3_turn_3 0 rfl rfl)
theorem dX3_turn_75 : decode cX3_turn 75 = .ok (.iload_n 3, 1) := dk_29 (dk_at dksX3_turn_3 3 rfl rfl)
theorem dX3_turn_76 : decode cX3_turn 76 = .ok (.dup2, 1) := dk_92 (dk_at dksX3_turn_3 4 rfl rfl)
theorem dX3_turn_77 : decode cX3_turn 77 = .ok (.iaload, 1) := dk_46 (dk_at dksX3_turn_3 5 rfl rfl)
theorem dX3_turn_78 : decode cX3_turn 78 = .ok (.iconst 1, 1) := dk_4 (dk_at dksX3_turn_3 6 rfl rfl)
theorem dX3_turn_79 : decode cX3_turn 79 = .ok (.iload 4, 2) := dk_21 4 (dk_at dksX3_turn_3 7 rfl rfl)
theorem dX3_turn_81 : decode cX3_turn 81 = .ok (.ishl, 1) := dk_120 (dk_at dksX3_turn_3 9 rfl rfl)
theorem dX3_turn_82 : decode cX3_turn 82 = .ok (.ior, 1) := dk_128 (dk_at dksX3_turn_3 10 rfl rfl)
theorem dX3_turn_83 : decode cX3_turn 83 = .ok (.iastore, 1) := dk_79 (dk_at dksX3_turn_3 11 rfl rfl)
theorem dX3_turn_84 : decode cX3_turn 84 = .ok (.iinc 4 1, 3) := dk_132 4 1 (dk_at dksX3_turn_3 12 rfl rfl)
theorem dX3_turn_87 : decode cX3_turn 87 = .ok (.goto (-37), 3) := dk_167 255 219 (dk_at dksX3_turn_3 15 rfl rfl)
theorem dX3_turn_90 : decode cX3_turn 90 = .ok (.iinc 3 1, 3) := dk_132 3 1 (dk_at dksX3_turn_3 18 rfl rfl)
theorem dX3_turn_93 : decode cX3_turn 93 = .ok (.goto (-59), 3) := dk_167 255 197 (dk_at dksX3_turn_3 21 rfl rfl)
theorem dX3_turn_96 : decode cX3_turn 96 = .ok (.aload_n 0, 1) := dk_42 (dk_at dksX3_turn_4 0 rfl rfl)
theorem dX3_turn_97 : decode cX3_turn 97 = .ok (.iload_n 2, 1) := dk_28 (dk_at dksX3_turn_4 1 rfl rfl)
theorem dX3_turn_98 : decode cX3_turn 98 = .ok (.invokevirtual 95, 3) := dk_182 0 95 (dk_at dksX3_turn_4 2 rfl rfl)
theorem dX3_turn_101 : decode cX3_turn 101 = .ok (.ireturn, 1) := dk_172 (dk_at dksX3_turn_4 5 rfl rfl)
abbrev cX3_mirror : ByteArray := prog_22_method_31_code
def yX3_mirror : MethodName := ⟨RX3, "mirror", "(II)I"⟩
def dkwX3_mirror_4 : List UInt8 := [42, 28, 182, 0, 95, 172]
abbrev dktX3_mirror_4 : List UInt8 := dkwX3_mirror_4 ++ []
def dkwX3_mirror_3 : List UInt8 := [180, 0, 13, 29, 92, 46, 4, 21, 4, 120, 128, 79, 132, 4, 1, 167, 255, 219, 132, 3, 1, 167, 255, 197]
abbrev dktX3_mirror_3 : List UInt8 := dkwX3_mirror_3 ++ dktX3_mirror_4
def dkwX3_mirror_2 : List UInt8 := [54, 4, 21, 4, 16, 24, 162, 0, 36, 42, 27, 16, 23, 21, 4, 100, 29, 182, 0, 98, 153, 0, 16, 42]
abbrev dktX3_mirror_2 : List UInt8 := dkwX3_mirror_2 ++ dktX3_mirror_3
def dkwX3_mirror_1 : List UInt8 := [180, 0, 46, 153, 0, 5, 3, 172, 3, 62, 29, 16, 24, 162, 0, 59, 42, 180, 0, 13, 29, 3, 79, 3]
abbrev dktX3_mirror_1 : List UInt8 := dkwX3_mirror_1 ++ dktX3_mirror_2
def dkwX3_mirror_0 : List UInt8 := [42, 27, 184, 0, 69, 153, 0, 10, 28, 184, 0, 69, 154, 0, 7, 4, 167, 0, 4, 3, 181, 0, 46, 42]
abbrev dktX3_mirror_0 : List UInt8 := dkwX3_mirror_0 ++ dktX3_mirror_1
theorem dksX3_mirror_0 : cX3_mirror.data.toList.drop 0 = dktX3_mirror_0 := by decide +kernel
theorem dksX3_mirror_1 : cX3_mirror.data.toList.drop 24 = dktX3_mirror_1 := dk_seg dksX3_mirror_0 24 rfl rfl
theorem dksX3_mirror_2 : cX3_mirror.data.toList.drop 48 = dktX3_mirror_2 := dk_seg dksX3_mirror_1 24 rfl rfl
theorem dksX3_mirror_3 : cX3_mirror.data.toList.drop 72 = dktX3_mirror_3 := dk_seg dksX3_mirror_2 24 rfl rfl
theorem dksX3_mirror_4 : cX3_mirror.data.toList.drop 96 = dktX3_mirror_4 := dk_seg dksX3_mirror_3 24 rfl rfl
theorem dX3_mirror_0 : decode cX3_mirror 0 = .ok (.aload_n 0, 1) := dk_42 (dk_at dksX3_mirror_0 0 rfl rfl)
theorem dX3_mirror_1 : decode cX3_mirror 1 = .ok (.iload_n 1, 1) := dk_27 (dk_at dksX3_mirror_0 1 rfl rfl)
theorem dX3_mirror_2 : decode cX3_mirror 2 = .ok (.invokestatic 69, 3) := dk_184 0 69 (dk_at dksX3_mirror_0 2 rfl rfl)
theorem dX3_mirror_5 : decode cX3_mirror 5 = .ok (.ifCond .eq 10, 3) := dk_153 0 10 (dk_at dksX3_mirror_0 5 rfl rfl)
theorem dX3_mirror_8 : decode cX3_mirror 8 = .ok (.iload_n 2, 1) := dk_28 (dk_at dksX3_mirror_0 8 rfl rfl)
theorem dX3_mirror_9 : decode cX3_mirror 9 = .ok (.invokestatic 69, 3) := dk_184 0 69 (dk_at dksX3_mirror_0 9 rfl rfl)
theorem dX3_mirror_12 : decode cX3_mirror 12 = .ok (.ifCond .ne 7, 3) := dk_154 0 7 (dk_at dksX3_mirror_0 12 rfl rfl)
theorem dX3_mirror_15 : decode cX3_mirror 15 = .ok (.iconst 1, 1) := dk_4 (dk_at dksX3_mirror_0 15 rfl rfl)
theorem dX3_mirror_16 : decode cX3_mirror 16 = .ok (.goto 4, 3) := dk_167 0 4 (dk_at dksX3_mirror_0 16 rfl rfl)
theorem dX3_mirror_19 : decode cX3_mirror 19 = .ok (.iconst 0, 1) := dk_3 (dk_at dksX3_mirror_0 19 rfl rfl)
theorem dX3_mirror_20 : decode cX3_mirror 20 = .ok (.putfield 46, 3) := dk_181 0 46 (dk_at dksX3_mirror_0 20 rfl rfl)
theorem dX3_mirror_23 : decode cX3_mirror 23 = .ok (.aload_n 0, 1) := dk_42 (dk_at dksX3_mirror_0 23 rfl rfl)
theorem dX3_mirror_24 : decode cX3_mirror 24 = .ok (.getfield 46, 3) := dk_180 0 46 (dk_at dksX3_mirror_1 0 rfl rfl)
theorem dX3_mirror_27 : decode cX3_mirror 27 = .ok (.ifCond .eq 5, 3) := dk_153 0 5 (dk_at dksX3_mirror_1 3 rfl rfl)
theorem dX3_mirror_30 : decode cX3_mirror 30 = .ok (.iconst 0, 1) := dk_3 (dk_at dksX3_mirror_1 6 rfl rfl)
theorem dX3_mirror_31 : decode cX3_mirror 31 = .ok (.ireturn, 1) := dk_172 (dk_at dksX3_mirror_1 7 rfl rfl)
theorem dX3_mirror_32 : decode cX3_mirror 32 = .ok (.iconst 0, 1) := dk_3 (dk_at dksX3_mirror_1 8 rfl rfl)
theorem dX3_mirror_33 : decode cX3_mirror 33 = .ok (.istore_n 3, 1) := dk_62 (dk_at dksX3_mirror_1 9 rfl rfl)
theorem dX3_mirror_34 : decode cX3_mirror 34 = .ok (.iload_n 3, 1) := dk_29 (dk_at dksX3_mirror_1 10 rfl rfl)
theorem dX3_mirror_35 : decode cX3_mirror 35 = .ok (.bipush 24, 2) := dk_16 24 (dk_at dksX3_mirror_1 11 rfl rfl)
theorem dX3_mirror_37 : decode cX3_mirror 37 = .ok (.if_icmp .ge 59, 3) := dk_162 0 59 (dk_at dksX3_mirror_1 13 rfl rfl)
theorem dX3_mirror_40 : decode cX3_mirror 40 = .ok (.aload_n 0, 1) := dk_42 (dk_at dksX3_mirror_1 16 rfl rfl)
theorem dX3_mirror_41 : decode cX3_mirror 41 = .ok (.getfield 13, 3) := dk_180 0 13 (dk_at dksX3_mirror_1 17 rfl rfl)
theorem dX3_mirror_44 : decode cX3_mirror 44 = .ok (.iload_n 3, 1) := dk_29 (dk_at dksX3_mirror_1 20 rfl rfl)
theorem dX3_mirror_45 : decode cX3_mirror 45 = .ok (.iconst 0, 1) := dk_3 (dk_at dksX3_mirror_1 21 rfl rfl)
theorem dX3_mirror_46 : decode cX3_mirror 46 = .ok (.iastore, 1) := dk_79 (dk_at dksX3_mirror_1 22 rfl rfl)
theorem dX3_mirror_47 : decode cX3_mirror 47 = .ok (.iconst 0, 1) := dk_3 (dk_at dksX3_mirror_1 23 rfl rfl)
theorem dX3_mirror_48 : decode cX3_mirror 48 = .ok (.istore 4, 2) := dk_54 4 (dk_at dksX3_mirror_2 0 rfl rfl)
theorem dX3_mirror_50 : decode cX3_mirror 50 = .ok (.iload 4, 2) := dk_21 4 (dk_at dksX3_mirror_2 2 rfl rfl)
theorem dX3_mirror_52 : decode cX3_mirror 52 = .ok (.bipush 24, 2) := dk_16 24 (dk_at dksX3_mirror_2 4 rfl rfl)
theorem dX3_mirror_54 : decode cX3_mirror 54 = .ok (.if_icmp .ge 36, 3) := dk_162 0 36 (dk_at dksX3_mirror_2 6 rfl rfl)
theorem dX3_mirror_57 : decode cX3_mirror 57 = .ok (.aload_n 0, 1) := dk_42 (dk_at dksX3_mirror_2 9 rfl rfl)
theorem dX3_mirror_58 : decode cX3_mirror 58 = .ok (.iload_n 1, 1) := dk_27 (dk_at dksX3_mirror_2 10 rfl rfl)
theorem dX3_mirror_59 : decode cX3_mirror 59 = .ok (.bipush 23, 2) := dk_16 23 (dk_at dksX3_mirror_2 11 rfl rfl)
theorem dX3_mirror_61 : decode cX3_mirror 61 = .ok (.iload 4, 2) := dk_21 4 (dk_at dksX3_mirror_2 13 rfl rfl)
theorem dX3_mirror_63 : decode cX3_mirror 63 = .ok (.isub, 1) := dk_100 (dk_at dksX3_mirror_2 15 rfl rfl)
theorem dX3_mirror_64 : decode cX3_mirror 64 = .ok (.iload_n 3, 1) := dk_29 (dk_at dksX3_mirror_2 16 rfl rfl)
theorem dX3_mirror_65 : decode cX3_mirror 65 = .ok (.invokevirtual 98, 3) := dk_182 0 98 (dk_at dksX3_mirror_2 17 rfl rfl)
theorem dX3_mirror_68 : decode cX3_mirror 68 = .ok (.ifCond .eq 16, 3) := dk_153 0 16 (dk_at dksX3_mirror_2 20 rfl rfl)
theorem dX3_mirror_71 : decode cX3_mirror 71 = .ok (.aload_n 0, 1) := dk_42 (dk_at dksX3_mirror_2 23 rfl rfl)
theorem dX3_mirror_72 : decode cX3_mirror 72 = .ok (.getfield 13, 3) := dk_180 0 13 (dk_at dksX3_mirror_3 0 rfl rfl)
theorem dX3_mirror_75 : decode cX3_mirror 75 = .ok (.iload_n 3, 1) := dk_29 (dk_at dksX3_mirror_3 3 rfl rfl)
theorem dX3_mirror_76 : decode cX3_mirror 76 = .ok (.dup2, 1) := dk_92 (dk_at dksX3_mirror_3 4 rfl rfl)
theorem dX3_mirror_77 : decode cX3_mirror 77 = .ok (.iaload, 1) := dk_46 (dk_at dksX3_mirror_3 5 rfl rfl)
theorem dX3_mirror_78 : decode cX3_mirror 78 = .ok (.iconst 1, 1) := dk_4 (dk_at dksX3_mirror_3 6 rfl rfl)
theorem dX3_mirror_79 : decode cX3_mirror 79 = .ok (.iload 4, 2) := dk_21 4 (dk_at dksX3_mirror_3 7 rfl rfl)
theorem dX3_mirror_81 : decode cX3_mirror 81 = .ok (.ishl, 1) := dk_120 (dk_at dksX3_mirror_3 9 rfl rfl)
theorem dX3_mirror_82 : decode cX3_mirror 82 = .ok (.ior, 1) := dk_128 (dk_at dksX3_mirror_3 10 rfl rfl)
theorem dX3_mirror_83 : decode cX3_mirror 83 = .ok (.iastore, 1) := dk_79 (dk_at dksX3_mirror_3 11 rfl rfl)
theorem dX3_mirror_84 : decode cX3_mirror 84 = .ok (.iinc 4 1, 3) := dk_132 4 1 (dk_at dksX3_mirror_3 12 rfl rfl)
theorem dX3_mirror_87 : decode cX3_mirror 87 = .ok (.goto (-37), 3) := dk_167 255 219 (dk_at dksX3_mirror_3 15 rfl rfl)
theorem dX3_mirror_90 : decode cX3_mirror 90 = .ok (.iinc 3 1, 3) := dk_132 3 1 (dk_at dksX3_mirror_3 18 rfl rfl)
theorem dX3_mirror_93 : decode cX3_mirror 93 = .ok (.goto (-59), 3) := dk_167 255 197 (dk_at dksX3_mirror_3 21 rfl rfl)
theorem dX3_mirror_96 : decode cX3_mirror 96 = .ok (.aload_n 0, 1) := dk_42 (dk_at dksX3_mirror_4 0 rfl rfl)
theorem dX3_mirror_97 : decode cX3_mirror 97 = .ok (.iload_n 2, 1) := dk_28 (dk_at dksX3_mirror_4 1 rfl rfl)
theorem dX3_mirror_98 : decode cX3_mirror 98 = .ok (.invokevirtual 95, 3) := dk_182 0 95 (dk_at dksX3_mirror_4 2 rfl rfl)
theorem dX3_mirror_101 : decode cX3_mirror 101 = .ok (.ireturn, 1) := dk_172 (dk_at dksX3_mirror_4 5 rfl rfl)
abbrev cX3_fillHoles : ByteArray := prog_22_method_36_code
def yX3_fillHoles : MethodName := ⟨RX3, "fillHoles", "(II)I"⟩
def dkwX3_fillHoles_3 : List UInt8 := [96, 46, 4, 122, 2, 130, 18, 126, 126, 79, 132, 3, 1, 167, 255, 226, 42, 28, 182, 0, 95, 172]
abbrev dktX3_fillHoles_3 : List UInt8 := dkwX3_fillHoles_3 ++ []
def dkwX3_fillHoles_2 : List UInt8 := [42, 4, 182, 0, 122, 3, 62, 29, 16, 24, 162, 0, 30, 42, 180, 0, 13, 29, 42, 180, 0, 16, 29, 4]
abbrev dktX3_fillHoles_2 : List UInt8 := dkwX3_fillHoles_2 ++ dktX3_fillHoles_3
def dkwX3_fillHoles_1 : List UInt8 := [180, 0, 46, 153, 0, 5, 3, 172, 42, 27, 182, 0, 115, 42, 182, 0, 119, 42, 180, 0, 16, 3, 4, 79]
abbrev dktX3_fillHoles_1 : List UInt8 := dkwX3_fillHoles_1 ++ dktX3_fillHoles_2
def dkwX3_fillHoles_0 : List UInt8 := [42, 27, 184, 0, 69, 153, 0, 10, 28, 184, 0, 69, 154, 0, 7, 4, 167, 0, 4, 3, 181, 0, 46, 42]
abbrev dktX3_fillHoles_0 : List UInt8 := dkwX3_fillHoles_0 ++ dktX3_fillHoles_1
theorem dksX3_fillHoles_0 : cX3_fillHoles.data.toList.drop 0 = dktX3_fillHoles_0 := by decide +kernel
theorem dksX3_fillHoles_1 : cX3_fillHoles.data.toList.drop 24 = dktX3_fillHoles_1 := dk_seg dksX3_fillHoles_0 24 rfl rfl
theorem dksX3_fillHoles_2 : cX3_fillHoles.data.toList.drop 48 = dktX3_fillHoles_2 := dk_seg dksX3_fillHoles_1 24 rfl rfl
theorem dksX3_fillHoles_3 : cX3_fillHoles.data.toList.drop 72 = dktX3_fillHoles_3 := dk_seg dksX3_fillHoles_2 24 rfl rfl
theorem dX3_fillHoles_0 : decode cX3_fillHoles 0 = .ok (.aload_n 0, 1) := dk_42 (dk_at dksX3_fillHoles_0 0 rfl rfl)
theorem dX3_fillHoles_1 : decode cX3_fillHoles 1 = .ok (.iload_n 1, 1) := dk_27 (dk_at dksX3_fillHoles_0 1 rfl rfl)
theorem dX3_fillHoles_2 : decode cX3_fillHoles 2 = .ok (.invokestatic 69, 3) := dk_184 0 69 (dk_at dksX3_fillHoles_0 2 rfl rfl)
theorem dX3_fillHoles_5 : decode cX3_fillHoles 5 = .ok (.ifCond .eq 10, 3) := dk_153 0 10 (dk_at dksX3_fillHoles_0 5 rfl rfl)
theorem dX3_fillHoles_8 : decode cX3_fillHoles 8 = .ok (.iload_n 2, 1) := dk_28 (dk_at dksX3_fillHoles_0 8 rfl rfl)
theorem dX3_fillHoles_9 : decode cX3_fillHoles 9 = .ok (.invokestatic 69, 3) := dk_184 0 69 (dk_at dksX3_fillHoles_0 9 rfl rfl)
theorem dX3_fillHoles_12 : decode cX3_fillHoles 12 = .ok (.ifCond .ne 7, 3) := dk_154 0 7 (dk_at dksX3_fillHoles_0 12 rfl rfl)
theorem dX3_fillHoles_15 : decode cX3_fillHoles 15 = .ok (.iconst 1, 1) := dk_4 (dk_at dksX3_fillHoles_0 15 rfl rfl)
theorem dX3_fillHoles_16 : decode cX3_fillHoles 16 = .ok (.goto 4, 3) := dk_167 0 4 (dk_at dksX3_fillHoles_0 16 rfl rfl)
theorem dX3_fillHoles_19 : decode cX3_fillHoles 19 = .ok (.iconst 0, 1) := dk_3 (dk_at dksX3_fillHoles_0 19 rfl rfl)
theorem dX3_fillHoles_20 : decode cX3_fillHoles 20 = .ok (.putfield 46, 3) := dk_181 0 46 (dk_at dksX3_fillHoles_0 20 rfl rfl)
theorem dX3_fillHoles_23 : decode cX3_fillHoles 23 = .ok (.aload_n 0, 1) := dk_42 (dk_at dksX3_fillHoles_0 23 rfl rfl)
theorem dX3_fillHoles_24 : decode cX3_fillHoles 24 = .ok (.getfield 46, 3) := dk_180 0 46 (dk_at dksX3_fillHoles_1 0 rfl rfl)
theorem dX3_fillHoles_27 : decode cX3_fillHoles 27 = .ok (.ifCond .eq 5, 3) := dk_153 0 5 (dk_at dksX3_fillHoles_1 3 rfl rfl)
theorem dX3_fillHoles_30 : decode cX3_fillHoles 30 = .ok (.iconst 0, 1) := dk_3 (dk_at dksX3_fillHoles_1 6 rfl rfl)
theorem dX3_fillHoles_31 : decode cX3_fillHoles 31 = .ok (.ireturn, 1) := dk_172 (dk_at dksX3_fillHoles_1 7 rfl rfl)
theorem dX3_fillHoles_32 : decode cX3_fillHoles 32 = .ok (.aload_n 0, 1) := dk_42 (dk_at dksX3_fillHoles_1 8 rfl rfl)
theorem dX3_fillHoles_33 : decode cX3_fillHoles 33 = .ok (.iload_n 1, 1) := dk_27 (dk_at dksX3_fillHoles_1 9 rfl rfl)
theorem dX3_fillHoles_34 : decode cX3_fillHoles 34 = .ok (.invokevirtual 115, 3) := dk_182 0 115 (dk_at dksX3_fillHoles_1 10 rfl rfl)
theorem dX3_fillHoles_37 : decode cX3_fillHoles 37 = .ok (.aload_n 0, 1) := dk_42 (dk_at dksX3_fillHoles_1 13 rfl rfl)
theorem dX3_fillHoles_38 : decode cX3_fillHoles 38 = .ok (.invokevirtual 119, 3) := dk_182 0 119 (dk_at dksX3_fillHoles_1 14 rfl rfl)
theorem dX3_fillHoles_41 : decode cX3_fillHoles 41 = .ok (.aload_n 0, 1) := dk_42 (dk_at dksX3_fillHoles_1 17 rfl rfl)
theorem dX3_fillHoles_42 : decode cX3_fillHoles 42 = .ok (.getfield 16, 3) := dk_180 0 16 (dk_at dksX3_fillHoles_1 18 rfl rfl)
theorem dX3_fillHoles_45 : decode cX3_fillHoles 45 = .ok (.iconst 0, 1) := dk_3 (dk_at dksX3_fillHoles_1 21 rfl rfl)
theorem dX3_fillHoles_46 : decode cX3_fillHoles 46 = .ok (.iconst 1, 1) := dk_4 (dk_at dksX3_fillHoles_1 22 rfl rfl)
theorem dX3_fillHoles_47 : decode cX3_fillHoles 47 = .ok (.iastore, 1) := dk_79 (dk_at dksX3_fillHoles_1 23 rfl rfl)
theorem dX3_fillHoles_48 : decode cX3_fillHoles 48 = .ok (.aload_n 0, 1) := dk_42 (dk_at dksX3_fillHoles_2 0 rfl rfl)
theorem dX3_fillHoles_49 : decode cX3_fillHoles 49 = .ok (.iconst 1, 1) := dk_4 (dk_at dksX3_fillHoles_2 1 rfl rfl)
theorem dX3_fillHoles_50 : decode cX3_fillHoles 50 = .ok (.invokevirtual 122, 3) := dk_182 0 122 (dk_at dksX3_fillHoles_2 2 rfl rfl)
theorem dX3_fillHoles_53 : decode cX3_fillHoles 53 = .ok (.iconst 0, 1) := dk_3 (dk_at dksX3_fillHoles_2 5 rfl rfl)
theorem dX3_fillHoles_54 : decode cX3_fillHoles 54 = .ok (.istore_n 3, 1) := dk_62 (dk_at dksX3_fillHoles_2 6 rfl rfl)
theorem dX3_fillHoles_55 : decode cX3_fillHoles 55 = .ok (.iload_n 3, 1) := dk_29 (dk_at dksX3_fillHoles_2 7 rfl rfl)
theorem dX3_fillHoles_56 : decode cX3_fillHoles 56 = .ok (.bipush 24, 2) := dk_16 24 (dk_at dksX3_fillHoles_2 8 rfl rfl)
theorem dX3_fillHoles_58 : decode cX3_fillHoles 58 = .ok (.if_icmp .ge 30, 3) := dk_162 0 30 (dk_at dksX3_fillHoles_2 10 rfl rfl)
theorem dX3_fillHoles_61 : decode cX3_fillHoles 61 = .ok (.aload_n 0, 1) := dk_42 (dk_at dksX3_fillHoles_2 13 rfl rfl)
theorem dX3_fillHoles_62 : decode cX3_fillHoles 62 = .ok (.getfield 13, 3) := dk_180 0 13 (dk_at dksX3_fillHoles_2 14 rfl rfl)
theorem dX3_fillHoles_65 : decode cX3_fillHoles 65 = .ok (.iload_n 3, 1) := dk_29 (dk_at dksX3_fillHoles_2 17 rfl rfl)
theorem dX3_fillHoles_66 : decode cX3_fillHoles 66 = .ok (.aload_n 0, 1) := dk_42 (dk_at dksX3_fillHoles_2 18 rfl rfl)
theorem dX3_fillHoles_67 : decode cX3_fillHoles 67 = .ok (.getfield 16, 3) := dk_180 0 16 (dk_at dksX3_fillHoles_2 19 rfl rfl)
theorem dX3_fillHoles_70 : decode cX3_fillHoles 70 = .ok (.iload_n 3, 1) := dk_29 (dk_at dksX3_fillHoles_2 22 rfl rfl)
theorem dX3_fillHoles_71 : decode cX3_fillHoles 71 = .ok (.iconst 1, 1) := dk_4 (dk_at dksX3_fillHoles_2 23 rfl rfl)
theorem dX3_fillHoles_72 : decode cX3_fillHoles 72 = .ok (.iadd, 1) := dk_96 (dk_at dksX3_fillHoles_3 0 rfl rfl)
theorem dX3_fillHoles_73 : decode cX3_fillHoles 73 = .ok (.iaload, 1) := dk_46 (dk_at dksX3_fillHoles_3 1 rfl rfl)
theorem dX3_fillHoles_74 : decode cX3_fillHoles 74 = .ok (.iconst 1, 1) := dk_4 (dk_at dksX3_fillHoles_3 2 rfl rfl)
theorem dX3_fillHoles_75 : decode cX3_fillHoles 75 = .ok (.ishr, 1) := dk_122 (dk_at dksX3_fillHoles_3 3 rfl rfl)
theorem dX3_fillHoles_76 : decode cX3_fillHoles 76 = .ok (.iconst (-1), 1) := dk_2 (dk_at dksX3_fillHoles_3 4 rfl rfl)
theorem dX3_fillHoles_77 : decode cX3_fillHoles 77 = .ok (.ixor, 1) := dk_130 (dk_at dksX3_fillHoles_3 5 rfl rfl)
theorem dX3_fillHoles_78 : decode cX3_fillHoles 78 = .ok (.ldc 126, 2) := dk_18 126 (dk_at dksX3_fillHoles_3 6 rfl rfl)
theorem dX3_fillHoles_80 : decode cX3_fillHoles 80 = .ok (.iand, 1) := dk_126 (dk_at dksX3_fillHoles_3 8 rfl rfl)
theorem dX3_fillHoles_81 : decode cX3_fillHoles 81 = .ok (.iastore, 1) := dk_79 (dk_at dksX3_fillHoles_3 9 rfl rfl)
theorem dX3_fillHoles_82 : decode cX3_fillHoles 82 = .ok (.iinc 3 1, 3) := dk_132 3 1 (dk_at dksX3_fillHoles_3 10 rfl rfl)
theorem dX3_fillHoles_85 : decode cX3_fillHoles 85 = .ok (.goto (-30), 3) := dk_167 255 226 (dk_at dksX3_fillHoles_3 13 rfl rfl)
theorem dX3_fillHoles_88 : decode cX3_fillHoles 88 = .ok (.aload_n 0, 1) := dk_42 (dk_at dksX3_fillHoles_3 16 rfl rfl)
theorem dX3_fillHoles_89 : decode cX3_fillHoles 89 = .ok (.iload_n 2, 1) := dk_28 (dk_at dksX3_fillHoles_3 17 rfl rfl)
theorem dX3_fillHoles_90 : decode cX3_fillHoles 90 = .ok (.invokevirtual 95, 3) := dk_182 0 95 (dk_at dksX3_fillHoles_3 18 rfl rfl)
theorem dX3_fillHoles_93 : decode cX3_fillHoles 93 = .ok (.ireturn, 1) := dk_172 (dk_at dksX3_fillHoles_3 21 rfl rfl)
abbrev cX3_outside : ByteArray := prog_22_method_34_code
def yX3_outside : MethodName := ⟨RX3, "outside", "(I)V"⟩
def dkwX3_outside_1 : List UInt8 := [120, 2, 130, 126, 79, 132, 2, 1, 167, 255, 226, 177]
abbrev dktX3_outside_1 : List UInt8 := dkwX3_outside_1 ++ []
def dkwX3_outside_0 : List UInt8 := [3, 61, 28, 16, 26, 162, 0, 30, 42, 180, 0, 19, 28, 18, 114, 42, 27, 28, 4, 100, 182, 0, 58, 4]
abbrev dktX3_outside_0 : List UInt8 := dkwX3_outside_0 ++ dktX3_outside_1
theorem dksX3_outside_0 : cX3_outside.data.toList.drop 0 = dktX3_outside_0 := by decide +kernel
theorem dksX3_outside_1 : cX3_outside.data.toList.drop 24 = dktX3_outside_1 := dk_seg dksX3_outside_0 24 rfl rfl
theorem dX3_outside_0 : decode cX3_outside 0 = .ok (.iconst 0, 1) := dk_3 (dk_at dksX3_outside_0 0 rfl rfl)
theorem dX3_outside_1 : decode cX3_outside 1 = .ok (.istore_n 2, 1) := dk_61 (dk_at dksX3_outside_0 1 rfl rfl)
theorem dX3_outside_2 : decode cX3_outside 2 = .ok (.iload_n 2, 1) := dk_28 (dk_at dksX3_outside_0 2 rfl rfl)
theorem dX3_outside_3 : decode cX3_outside 3 = .ok (.bipush 26, 2) := dk_16 26 (dk_at dksX3_outside_0 3 rfl rfl)
theorem dX3_outside_5 : decode cX3_outside 5 = .ok (.if_icmp .ge 30, 3) := dk_162 0 30 (dk_at dksX3_outside_0 5 rfl rfl)
theorem dX3_outside_8 : decode cX3_outside 8 = .ok (.aload_n 0, 1) := dk_42 (dk_at dksX3_outside_0 8 rfl rfl)
theorem dX3_outside_9 : decode cX3_outside 9 = .ok (.getfield 19, 3) := dk_180 0 19 (dk_at dksX3_outside_0 9 rfl rfl)
theorem dX3_outside_12 : decode cX3_outside 12 = .ok (.iload_n 2, 1) := dk_28 (dk_at dksX3_outside_0 12 rfl rfl)
theorem dX3_outside_13 : decode cX3_outside 13 = .ok (.ldc 114, 2) := dk_18 114 (dk_at dksX3_outside_0 13 rfl rfl)
theorem dX3_outside_15 : decode cX3_outside 15 = .ok (.aload_n 0, 1) := dk_42 (dk_at dksX3_outside_0 15 rfl rfl)
theorem dX3_outside_16 : decode cX3_outside 16 = .ok (.iload_n 1, 1) := dk_27 (dk_at dksX3_outside_0 16 rfl rfl)
theorem dX3_outside_17 : decode cX3_outside 17 = .ok (.iload_n 2, 1) := dk_28 (dk_at dksX3_outside_0 17 rfl rfl)
theorem dX3_outside_18 : decode cX3_outside 18 = .ok (.iconst 1, 1) := dk_4 (dk_at dksX3_outside_0 18 rfl rfl)
theorem dX3_outside_19 : decode cX3_outside 19 = .ok (.isub, 1) := dk_100 (dk_at dksX3_outside_0 19 rfl rfl)
theorem dX3_outside_20 : decode cX3_outside 20 = .ok (.invokevirtual 58, 3) := dk_182 0 58 (dk_at dksX3_outside_0 20 rfl rfl)
theorem dX3_outside_23 : decode cX3_outside 23 = .ok (.iconst 1, 1) := dk_4 (dk_at dksX3_outside_0 23 rfl rfl)
theorem dX3_outside_24 : decode cX3_outside 24 = .ok (.ishl, 1) := dk_120 (dk_at dksX3_outside_1 0 rfl rfl)
theorem dX3_outside_25 : decode cX3_outside 25 = .ok (.iconst (-1), 1) := dk_2 (dk_at dksX3_outside_1 1 rfl rfl)
theorem dX3_outside_26 : decode cX3_outside 26 = .ok (.ixor, 1) := dk_130 (dk_at dksX3_outside_1 2 rfl rfl)
theorem dX3_outside_27 : decode cX3_outside 27 = .ok (.iand, 1) := dk_126 (dk_at dksX3_outside_1 3 rfl rfl)
theorem dX3_outside_28 : decode cX3_outside 28 = .ok (.iastore, 1) := dk_79 (dk_at dksX3_outside_1 4 rfl rfl)
theorem dX3_outside_29 : decode cX3_outside 29 = .ok (.iinc 2 1, 3) := dk_132 2 1 (dk_at dksX3_outside_1 5 rfl rfl)
theorem dX3_outside_32 : decode cX3_outside 32 = .ok (.goto (-30), 3) := dk_167 255 226 (dk_at dksX3_outside_1 8 rfl rfl)
theorem dX3_outside_35 : decode cX3_outside 35 = .ok (.return_, 1) := dk_177 (dk_at dksX3_outside_1 11 rfl rfl)
abbrev cX3_empties : ByteArray := prog_22_method_33_code
def yX3_empties : MethodName := ⟨RX3, "empties", "()V"⟩
def dkwX3_empties_0 : List UInt8 := [3, 60, 27, 16, 26, 162, 0, 16, 42, 180, 0, 16, 27, 3, 79, 132, 1, 1, 167, 255, 240, 177]
abbrev dktX3_empties_0 : List UInt8 := dkwX3_empties_0 ++ []
theorem dksX3_empties_0 : cX3_empties.data.toList.drop 0 = dktX3_empties_0 := by decide +kernel
theorem dX3_empties_0 : decode cX3_empties 0 = .ok (.iconst 0, 1) := dk_3 (dk_at dksX3_empties_0 0 rfl rfl)
theorem dX3_empties_1 : decode cX3_empties 1 = .ok (.istore_n 1, 1) := dk_60 (dk_at dksX3_empties_0 1 rfl rfl)
theorem dX3_empties_2 : decode cX3_empties 2 = .ok (.iload_n 1, 1) := dk_27 (dk_at dksX3_empties_0 2 rfl rfl)
theorem dX3_empties_3 : decode cX3_empties 3 = .ok (.bipush 26, 2) := dk_16 26 (dk_at dksX3_empties_0 3 rfl rfl)
theorem dX3_empties_5 : decode cX3_empties 5 = .ok (.if_icmp .ge 16, 3) := dk_162 0 16 (dk_at dksX3_empties_0 5 rfl rfl)
theorem dX3_empties_8 : decode cX3_empties 8 = .ok (.aload_n 0, 1) := dk_42 (dk_at dksX3_empties_0 8 rfl rfl)
theorem dX3_empties_9 : decode cX3_empties 9 = .ok (.getfield 16, 3) := dk_180 0 16 (dk_at dksX3_empties_0 9 rfl rfl)
theorem dX3_empties_12 : decode cX3_empties 12 = .ok (.iload_n 1, 1) := dk_27 (dk_at dksX3_empties_0 12 rfl rfl)
theorem dX3_empties_13 : decode cX3_empties 13 = .ok (.iconst 0, 1) := dk_3 (dk_at dksX3_empties_0 13 rfl rfl)
theorem dX3_empties_14 : decode cX3_empties 14 = .ok (.iastore, 1) := dk_79 (dk_at dksX3_empties_0 14 rfl rfl)
theorem dX3_empties_15 : decode cX3_empties 15 = .ok (.iinc 1 1, 3) := dk_132 1 1 (dk_at dksX3_empties_0 15 rfl rfl)
theorem dX3_empties_18 : decode cX3_empties 18 = .ok (.goto (-16), 3) := dk_167 255 240 (dk_at dksX3_empties_0 18 rfl rfl)
theorem dX3_empties_21 : decode cX3_empties 21 = .ok (.return_, 1) := dk_177 (dk_at dksX3_empties_0 21 rfl rfl)
abbrev cX3_spreads : ByteArray := prog_22_method_32_code
def yX3_spreads : MethodName := ⟨RX3, "spreads", "(Z)V"⟩
def dkwX3_spreads_6 : List UInt8 := [132, 3, 1, 167, 255, 123, 167, 255, 112, 177]
abbrev dktX3_spreads_6 : List UInt8 := dkwX3_spreads_6 ++ []
def dkwX3_spreads_5 : List UInt8 := [21, 8, 21, 6, 159, 0, 7, 4, 167, 0, 4, 3, 128, 61, 42, 180, 0, 16, 29, 21, 8, 79]
abbrev dktX3_spreads_5 : List UInt8 := dkwX3_spreads_5 ++ dktX3_spreads_6
def dkwX3_spreads_4 : List UInt8 := [21, 4, 21, 5, 128, 4, 122, 128, 128, 54, 7, 21, 7, 42, 180, 0, 19, 29, 46, 126, 54, 8, 28]
abbrev dktX3_spreads_4 : List UInt8 := dkwX3_spreads_4 ++ dktX3_spreads_5
def dkwX3_spreads_3 : List UInt8 := [122, 128, 21, 4, 128, 21, 5, 128, 54, 7, 27, 153, 0, 23, 21, 7, 21, 4, 21, 5, 128, 4, 120]
abbrev dktX3_spreads_3 : List UInt8 := dkwX3_spreads_3 ++ dktX3_spreads_4
def dkwX3_spreads_2 : List UInt8 := [167, 0, 4, 3, 54, 5, 42, 180, 0, 16, 29, 46, 54, 6, 21, 6, 21, 6, 4, 120, 128, 21, 6, 4]
abbrev dktX3_spreads_2 : List UInt8 := dkwX3_spreads_2 ++ dktX3_spreads_3
def dkwX3_spreads_1 : List UInt8 := [29, 4, 100, 46, 167, 0, 4, 3, 54, 4, 29, 16, 25, 162, 0, 14, 42, 180, 0, 16, 29, 4, 96, 46]
abbrev dktX3_spreads_1 : List UInt8 := dkwX3_spreads_1 ++ dktX3_spreads_2
def dkwX3_spreads_0 : List UInt8 := [4, 61, 28, 153, 0, 146, 3, 61, 3, 62, 29, 16, 26, 162, 0, 133, 29, 158, 0, 14, 42, 180, 0, 16]
abbrev dktX3_spreads_0 : List UInt8 := dkwX3_spreads_0 ++ dktX3_spreads_1
theorem dksX3_spreads_0 : cX3_spreads.data.toList.drop 0 = dktX3_spreads_0 := by decide +kernel
theorem dksX3_spreads_1 : cX3_spreads.data.toList.drop 24 = dktX3_spreads_1 := dk_seg dksX3_spreads_0 24 rfl rfl
theorem dksX3_spreads_2 : cX3_spreads.data.toList.drop 48 = dktX3_spreads_2 := dk_seg dksX3_spreads_1 24 rfl rfl
theorem dksX3_spreads_3 : cX3_spreads.data.toList.drop 72 = dktX3_spreads_3 := dk_seg dksX3_spreads_2 24 rfl rfl
theorem dksX3_spreads_4 : cX3_spreads.data.toList.drop 95 = dktX3_spreads_4 := dk_seg dksX3_spreads_3 23 rfl rfl
theorem dksX3_spreads_5 : cX3_spreads.data.toList.drop 118 = dktX3_spreads_5 := dk_seg dksX3_spreads_4 23 rfl rfl
theorem dksX3_spreads_6 : cX3_spreads.data.toList.drop 140 = dktX3_spreads_6 := dk_seg dksX3_spreads_5 22 rfl rfl
theorem dX3_spreads_0 : decode cX3_spreads 0 = .ok (.iconst 1, 1) := dk_4 (dk_at dksX3_spreads_0 0 rfl rfl)
theorem dX3_spreads_1 : decode cX3_spreads 1 = .ok (.istore_n 2, 1) := dk_61 (dk_at dksX3_spreads_0 1 rfl rfl)
theorem dX3_spreads_2 : decode cX3_spreads 2 = .ok (.iload_n 2, 1) := dk_28 (dk_at dksX3_spreads_0 2 rfl rfl)
theorem dX3_spreads_3 : decode cX3_spreads 3 = .ok (.ifCond .eq 146, 3) := dk_153 0 146 (dk_at dksX3_spreads_0 3 rfl rfl)
theorem dX3_spreads_6 : decode cX3_spreads 6 = .ok (.iconst 0, 1) := dk_3 (dk_at dksX3_spreads_0 6 rfl rfl)
theorem dX3_spreads_7 : decode cX3_spreads 7 = .ok (.istore_n 2, 1) := dk_61 (dk_at dksX3_spreads_0 7 rfl rfl)
theorem dX3_spreads_8 : decode cX3_spreads 8 = .ok (.iconst 0, 1) := dk_3 (dk_at dksX3_spreads_0 8 rfl rfl)
theorem dX3_spreads_9 : decode cX3_spreads 9 = .ok (.istore_n 3, 1) := dk_62 (dk_at dksX3_spreads_0 9 rfl rfl)
theorem dX3_spreads_10 : decode cX3_spreads 10 = .ok (.iload_n 3, 1) := dk_29 (dk_at dksX3_spreads_0 10 rfl rfl)
theorem dX3_spreads_11 : decode cX3_spreads 11 = .ok (.bipush 26, 2) := dk_16 26 (dk_at dksX3_spreads_0 11 rfl rfl)
theorem dX3_spreads_13 : decode cX3_spreads 13 = .ok (.if_icmp .ge 133, 3) := dk_162 0 133 (dk_at dksX3_spreads_0 13 rfl rfl)
theorem dX3_spreads_16 : decode cX3_spreads 16 = .ok (.iload_n 3, 1) := dk_29 (dk_at dksX3_spreads_0 16 rfl rfl)
theorem dX3_spreads_17 : decode cX3_spreads 17 = .ok (.ifCond .le 14, 3) := dk_158 0 14 (dk_at dksX3_spreads_0 17 rfl rfl)
theorem dX3_spreads_20 : decode cX3_spreads 20 = .ok (.aload_n 0, 1) := dk_42 (dk_at dksX3_spreads_0 20 rfl rfl)
theorem dX3_spreads_21 : decode cX3_spreads 21 = .ok (.getfield 16, 3) := dk_180 0 16 (dk_at dksX3_spreads_0 21 rfl rfl)
theorem dX3_spreads_24 : decode cX3_spreads 24 = .ok (.iload_n 3, 1) := dk_29 (dk_at dksX3_spreads_1 0 rfl rfl)
theorem dX3_spreads_25 : decode cX3_spreads 25 = .ok (.iconst 1, 1) := dk_4 (dk_at dksX3_spreads_1 1 rfl rfl)
theorem dX3_spreads_26 : decode cX3_spreads 26 = .ok (.isub, 1) := dk_100 (dk_at dksX3_spreads_1 2 rfl rfl)
theorem dX3_spreads_27 : decode cX3_spreads 27 = .ok (.iaload, 1) := dk_46 (dk_at dksX3_spreads_1 3 rfl rfl)
theorem dX3_spreads_28 : decode cX3_spreads 28 = .ok (.goto 4, 3) := dk_167 0 4 (dk_at dksX3_spreads_1 4 rfl rfl)
theorem dX3_spreads_31 : decode cX3_spreads 31 = .ok (.iconst 0, 1) := dk_3 (dk_at dksX3_spreads_1 7 rfl rfl)
theorem dX3_spreads_32 : decode cX3_spreads 32 = .ok (.istore 4, 2) := dk_54 4 (dk_at dksX3_spreads_1 8 rfl rfl)
theorem dX3_spreads_34 : decode cX3_spreads 34 = .ok (.iload_n 3, 1) := dk_29 (dk_at dksX3_spreads_1 10 rfl rfl)
theorem dX3_spreads_35 : decode cX3_spreads 35 = .ok (.bipush 25, 2) := dk_16 25 (dk_at dksX3_spreads_1 11 rfl rfl)
theorem dX3_spreads_37 : decode cX3_spreads 37 = .ok (.if_icmp .ge 14, 3) := dk_162 0 14 (dk_at dksX3_spreads_1 13 rfl rfl)
theorem dX3_spreads_40 : decode cX3_spreads 40 = .ok (.aload_n 0, 1) := dk_42 (dk_at dksX3_spreads_1 16 rfl rfl)
theorem dX3_spreads_41 : decode cX3_spreads 41 = .ok (.getfield 16, 3) := dk_180 0 16 (dk_at dksX3_spreads_1 17 rfl rfl)
theorem dX3_spreads_44 : decode cX3_spreads 44 = .ok (.iload_n 3, 1) := dk_29 (dk_at dksX3_spreads_1 20 rfl rfl)
theorem dX3_spreads_45 : decode cX3_spreads 45 = .ok (.iconst 1, 1) := dk_4 (dk_at dksX3_spreads_1 21 rfl rfl)
theorem dX3_spreads_46 : decode cX3_spreads 46 = .ok (.iadd, 1) := dk_96 (dk_at dksX3_spreads_1 22 rfl rfl)
theorem dX3_spreads_47 : decode cX3_spreads 47 = .ok (.iaload, 1) := dk_46 (dk_at dksX3_spreads_1 23 rfl rfl)
theorem dX3_spreads_48 : decode cX3_spreads 48 = .ok (.goto 4, 3) := dk_167 0 4 (dk_at dksX3_spreads_2 0 rfl rfl)
theorem dX3_spreads_51 : decode cX3_spreads 51 = .ok (.iconst 0, 1) := dk_3 (dk_at dksX3_spreads_2 3 rfl rfl)
theorem dX3_spreads_52 : decode cX3_spreads 52 = .ok (.istore 5, 2) := dk_54 5 (dk_at dksX3_spreads_2 4 rfl rfl)
theorem dX3_spreads_54 : decode cX3_spreads 54 = .ok (.aload_n 0, 1) := dk_42 (dk_at dksX3_spreads_2 6 rfl rfl)
theorem dX3_spreads_55 : decode cX3_spreads 55 = .ok (.getfield 16, 3) := dk_180 0 16 (dk_at dksX3_spreads_2 7 rfl rfl)
theorem dX3_spreads_58 : decode cX3_spreads 58 = .ok (.iload_n 3, 1) := dk_29 (dk_at dksX3_spreads_2 10 rfl rfl)
theorem dX3_spreads_59 : decode cX3_spreads 59 = .ok (.iaload, 1) := dk_46 (dk_at dksX3_spreads_2 11 rfl rfl)
theorem dX3_spreads_60 : decode cX3_spreads 60 = .ok (.istore 6, 2) := dk_54 6 (dk_at dksX3_spreads_2 12 rfl rfl)
theorem dX3_spreads_62 : decode cX3_spreads 62 = .ok (.iload 6, 2) := dk_21 6 (dk_at dksX3_spreads_2 14 rfl rfl)
theorem dX3_spreads_64 : decode cX3_spreads 64 = .ok (.iload 6, 2) := dk_21 6 (dk_at dksX3_spreads_2 16 rfl rfl)
theorem dX3_spreads_66 : decode cX3_spreads 66 = .ok (.iconst 1, 1) := dk_4 (dk_at dksX3_spreads_2 18 rfl rfl)
theorem dX3_spreads_67 : decode cX3_spreads 67 = .ok (.ishl, 1) := dk_120 (dk_at dksX3_spreads_2 19 rfl rfl)
theorem dX3_spreads_68 : decode cX3_spreads 68 = .ok (.ior, 1) := dk_128 (dk_at dksX3_spreads_2 20 rfl rfl)
theorem dX3_spreads_69 : decode cX3_spreads 69 = .ok (.iload 6, 2) := dk_21 6 (dk_at dksX3_spreads_2 21 rfl rfl)
theorem dX3_spreads_71 : decode cX3_spreads 71 = .ok (.iconst 1, 1) := dk_4 (dk_at dksX3_spreads_2 23 rfl rfl)
theorem dX3_spreads_72 : decode cX3_spreads 72 = .ok (.ishr, 1) := dk_122 (dk_at dksX3_spreads_3 0 rfl rfl)
theorem dX3_spreads_73 : decode cX3_spreads 73 = .ok (.ior, 1) := dk_128 (dk_at dksX3_spreads_3 1 rfl rfl)
theorem dX3_spreads_74 : decode cX3_spreads 74 = .ok (.iload 4, 2) := dk_21 4 (dk_at dksX3_spreads_3 2 rfl rfl)
theorem dX3_spreads_76 : decode cX3_spreads 76 = .ok (.ior, 1) := dk_128 (dk_at dksX3_spreads_3 4 rfl rfl)
theorem dX3_spreads_77 : decode cX3_spreads 77 = .ok (.iload 5, 2) := dk_21 5 (dk_at dksX3_spreads_3 5 rfl rfl)
theorem dX3_spreads_79 : decode cX3_spreads 79 = .ok (.ior, 1) := dk_128 (dk_at dksX3_spreads_3 7 rfl rfl)
theorem dX3_spreads_80 : decode cX3_spreads 80 = .ok (.istore 7, 2) := dk_54 7 (dk_at dksX3_spreads_3 8 rfl rfl)
theorem dX3_spreads_82 : decode cX3_spreads 82 = .ok (.iload_n 1, 1) := dk_27 (dk_at dksX3_spreads_3 10 rfl rfl)
theorem dX3_spreads_83 : decode cX3_spreads 83 = .ok (.ifCond .eq 23, 3) := dk_153 0 23 (dk_at dksX3_spreads_3 11 rfl rfl)
theorem dX3_spreads_86 : decode cX3_spreads 86 = .ok (.iload 7, 2) := dk_21 7 (dk_at dksX3_spreads_3 14 rfl rfl)
theorem dX3_spreads_88 : decode cX3_spreads 88 = .ok (.iload 4, 2) := dk_21 4 (dk_at dksX3_spreads_3 16 rfl rfl)
theorem dX3_spreads_90 : decode cX3_spreads 90 = .ok (.iload 5, 2) := dk_21 5 (dk_at dksX3_spreads_3 18 rfl rfl)
theorem dX3_spreads_92 : decode cX3_spreads 92 = .ok (.ior, 1) := dk_128 (dk_at dksX3_spreads_3 20 rfl rfl)
theorem dX3_spreads_93 : decode cX3_spreads 93 = .ok (.iconst 1, 1) := dk_4 (dk_at dksX3_spreads_3 21 rfl rfl)
theorem dX3_spreads_94 : decode cX3_spreads 94 = .ok (.ishl, 1) := dk_120 (dk_at dksX3_spreads_3 22 rfl rfl)
theorem dX3_spreads_95 : decode cX3_spreads 95 = .ok (.iload 4, 2) := dk_21 4 (dk_at dksX3_spreads_4 0 rfl rfl)
theorem dX3_spreads_97 : decode cX3_spreads 97 = .ok (.iload 5, 2) := dk_21 5 (dk_at dksX3_spreads_4 2 rfl rfl)
theorem dX3_spreads_99 : decode cX3_spreads 99 = .ok (.ior, 1) := dk_128 (dk_at dksX3_spreads_4 4 rfl rfl)
theorem dX3_spreads_100 : decode cX3_spreads 100 = .ok (.iconst 1, 1) := dk_4 (dk_at dksX3_spreads_4 5 rfl rfl)
theorem dX3_spreads_101 : decode cX3_spreads 101 = .ok (.ishr, 1) := dk_122 (dk_at dksX3_spreads_4 6 rfl rfl)
theorem dX3_spreads_102 : decode cX3_spreads 102 = .ok (.ior, 1) := dk_128 (dk_at dksX3_spreads_4 7 rfl rfl)
theorem dX3_spreads_103 : decode cX3_spreads 103 = .ok (.ior, 1) := dk_128 (dk_at dksX3_spreads_4 8 rfl rfl)
theorem dX3_spreads_104 : decode cX3_spreads 104 = .ok (.istore 7, 2) := dk_54 7 (dk_at dksX3_spreads_4 9 rfl rfl)
theorem dX3_spreads_106 : decode cX3_spreads 106 = .ok (.iload 7, 2) := dk_21 7 (dk_at dksX3_spreads_4 11 rfl rfl)
theorem dX3_spreads_108 : decode cX3_spreads 108 = .ok (.aload_n 0, 1) := dk_42 (dk_at dksX3_spreads_4 13 rfl rfl)
theorem dX3_spreads_109 : decode cX3_spreads 109 = .ok (.getfield 19, 3) := dk_180 0 19 (dk_at dksX3_spreads_4 14 rfl rfl)
theorem dX3_spreads_112 : decode cX3_spreads 112 = .ok (.iload_n 3, 1) := dk_29 (dk_at dksX3_spreads_4 17 rfl rfl)
theorem dX3_spreads_113 : decode cX3_spreads 113 = .ok (.iaload, 1) := dk_46 (dk_at dksX3_spreads_4 18 rfl rfl)
theorem dX3_spreads_114 : decode cX3_spreads 114 = .ok (.iand, 1) := dk_126 (dk_at dksX3_spreads_4 19 rfl rfl)
theorem dX3_spreads_115 : decode cX3_spreads 115 = .ok (.istore 8, 2) := dk_54 8 (dk_at dksX3_spreads_4 20 rfl rfl)
theorem dX3_spreads_117 : decode cX3_spreads 117 = .ok (.iload_n 2, 1) := dk_28 (dk_at dksX3_spreads_4 22 rfl rfl)
theorem dX3_spreads_118 : decode cX3_spreads 118 = .ok (.iload 8, 2) := dk_21 8 (dk_at dksX3_spreads_5 0 rfl rfl)
theorem dX3_spreads_120 : decode cX3_spreads 120 = .ok (.iload 6, 2) := dk_21 6 (dk_at dksX3_spreads_5 2 rfl rfl)
theorem dX3_spreads_122 : decode cX3_spreads 122 = .ok (.if_icmp .eq 7, 3) := dk_159 0 7 (dk_at dksX3_spreads_5 4 rfl rfl)
theorem dX3_spreads_125 : decode cX3_spreads 125 = .ok (.iconst 1, 1) := dk_4 (dk_at dksX3_spreads_5 7 rfl rfl)
theorem dX3_spreads_126 : decode cX3_spreads 126 = .ok (.goto 4, 3) := dk_167 0 4 (dk_at dksX3_spreads_5 8 rfl rfl)
theorem dX3_spreads_129 : decode cX3_spreads 129 = .ok (.iconst 0, 1) := dk_3 (dk_at dksX3_spreads_5 11 rfl rfl)
theorem dX3_spreads_130 : decode cX3_spreads 130 = .ok (.ior, 1) := dk_128 (dk_at dksX3_spreads_5 12 rfl rfl)
theorem dX3_spreads_131 : decode cX3_spreads 131 = .ok (.istore_n 2, 1) := dk_61 (dk_at dksX3_spreads_5 13 rfl rfl)
theorem dX3_spreads_132 : decode cX3_spreads 132 = .ok (.aload_n 0, 1) := dk_42 (dk_at dksX3_spreads_5 14 rfl rfl)
theorem dX3_spreads_133 : decode cX3_spreads 133 = .ok (.getfield 16, 3) := dk_180 0 16 (dk_at dksX3_spreads_5 15 rfl rfl)
theorem dX3_spreads_136 : decode cX3_spreads 136 = .ok (.iload_n 3, 1) := dk_29 (dk_at dksX3_spreads_5 18 rfl rfl)
theorem dX3_spreads_137 : decode cX3_spreads 137 = .ok (.iload 8, 2) := dk_21 8 (dk_at dksX3_spreads_5 19 rfl rfl)
theorem dX3_spreads_139 : decode cX3_spreads 139 = .ok (.iastore, 1) := dk_79 (dk_at dksX3_spreads_5 21 rfl rfl)
theorem dX3_spreads_140 : decode cX3_spreads 140 = .ok (.iinc 3 1, 3) := dk_132 3 1 (dk_at dksX3_spreads_6 0 rfl rfl)
theorem dX3_spreads_143 : decode cX3_spreads 143 = .ok (.goto (-133), 3) := dk_167 255 123 (dk_at dksX3_spreads_6 3 rfl rfl)
theorem dX3_spreads_146 : decode cX3_spreads 146 = .ok (.goto (-144), 3) := dk_167 255 112 (dk_at dksX3_spreads_6 6 rfl rfl)
theorem dX3_spreads_149 : decode cX3_spreads 149 = .ok (.return_, 1) := dk_177 (dk_at dksX3_spreads_6 9 rfl rfl)
abbrev cX3_keepPart : ByteArray := prog_22_method_37_code
def yX3_keepPart : MethodName := ⟨RX3, "keepPart", "(IIII)I"⟩
def dkwX3_keepPart_5 : List UInt8 := [167, 255, 228, 42, 21, 4, 182, 0, 95, 172]
abbrev dktX3_keepPart_5 : List UInt8 := dkwX3_keepPart_5 ++ []
def dkwX3_keepPart_4 : List UInt8 := [162, 0, 27, 42, 180, 0, 13, 21, 5, 42, 180, 0, 16, 21, 5, 4, 96, 46, 4, 122, 79, 132, 5, 1]
abbrev dktX3_keepPart_4 : List UInt8 := dkwX3_keepPart_4 ++ dktX3_keepPart_5
def dkwX3_keepPart_3 : List UInt8 := [180, 0, 16, 29, 4, 96, 5, 28, 120, 79, 42, 3, 182, 0, 122, 3, 54, 5, 21, 5, 16, 24]
abbrev dktX3_keepPart_3 : List UInt8 := dkwX3_keepPart_3 ++ dktX3_keepPart_4
def dkwX3_keepPart_2 : List UInt8 := [3, 181, 0, 46, 42, 180, 0, 46, 153, 0, 5, 3, 172, 42, 27, 182, 0, 127, 42, 182, 0, 119, 42]
abbrev dktX3_keepPart_2 : List UInt8 := dkwX3_keepPart_2 ++ dktX3_keepPart_3
def dkwX3_keepPart_1 : List UInt8 := [184, 0, 54, 154, 0, 7, 5, 167, 0, 18, 42, 27, 28, 29, 182, 0, 98, 154, 0, 7, 6, 167, 0, 4]
abbrev dktX3_keepPart_1 : List UInt8 := dkwX3_keepPart_1 ++ dktX3_keepPart_2
def dkwX3_keepPart_0 : List UInt8 := [42, 27, 184, 0, 69, 153, 0, 11, 21, 4, 184, 0, 69, 154, 0, 7, 4, 167, 0, 30, 28, 29]
abbrev dktX3_keepPart_0 : List UInt8 := dkwX3_keepPart_0 ++ dktX3_keepPart_1
theorem dksX3_keepPart_0 : cX3_keepPart.data.toList.drop 0 = dktX3_keepPart_0 := by decide +kernel
theorem dksX3_keepPart_1 : cX3_keepPart.data.toList.drop 22 = dktX3_keepPart_1 := dk_seg dksX3_keepPart_0 22 rfl rfl
theorem dksX3_keepPart_2 : cX3_keepPart.data.toList.drop 46 = dktX3_keepPart_2 := dk_seg dksX3_keepPart_1 24 rfl rfl
theorem dksX3_keepPart_3 : cX3_keepPart.data.toList.drop 69 = dktX3_keepPart_3 := dk_seg dksX3_keepPart_2 23 rfl rfl
theorem dksX3_keepPart_4 : cX3_keepPart.data.toList.drop 91 = dktX3_keepPart_4 := dk_seg dksX3_keepPart_3 22 rfl rfl
theorem dksX3_keepPart_5 : cX3_keepPart.data.toList.drop 115 = dktX3_keepPart_5 := dk_seg dksX3_keepPart_4 24 rfl rfl
theorem dX3_keepPart_0 : decode cX3_keepPart 0 = .ok (.aload_n 0, 1) := dk_42 (dk_at dksX3_keepPart_0 0 rfl rfl)
theorem dX3_keepPart_1 : decode cX3_keepPart 1 = .ok (.iload_n 1, 1) := dk_27 (dk_at dksX3_keepPart_0 1 rfl rfl)
theorem dX3_keepPart_2 : decode cX3_keepPart 2 = .ok (.invokestatic 69, 3) := dk_184 0 69 (dk_at dksX3_keepPart_0 2 rfl rfl)
theorem dX3_keepPart_5 : decode cX3_keepPart 5 = .ok (.ifCond .eq 11, 3) := dk_153 0 11 (dk_at dksX3_keepPart_0 5 rfl rfl)
theorem dX3_keepPart_8 : decode cX3_keepPart 8 = .ok (.iload 4, 2) := dk_21 4 (dk_at dksX3_keepPart_0 8 rfl rfl)
theorem dX3_keepPart_10 : decode cX3_keepPart 10 = .ok (.invokestatic 69, 3) := dk_184 0 69 (dk_at dksX3_keepPart_0 10 rfl rfl)
theorem dX3_keepPart_13 : decode cX3_keepPart 13 = .ok (.ifCond .ne 7, 3) := dk_154 0 7 (dk_at dksX3_keepPart_0 13 rfl rfl)
theorem dX3_keepPart_16 : decode cX3_keepPart 16 = .ok (.iconst 1, 1) := dk_4 (dk_at dksX3_keepPart_0 16 rfl rfl)
theorem dX3_keepPart_17 : decode cX3_keepPart 17 = .ok (.goto 30, 3) := dk_167 0 30 (dk_at dksX3_keepPart_0 17 rfl rfl)
theorem dX3_keepPart_20 : decode cX3_keepPart 20 = .ok (.iload_n 2, 1) := dk_28 (dk_at dksX3_keepPart_0 20 rfl rfl)
theorem dX3_keepPart_21 : decode cX3_keepPart 21 = .ok (.iload_n 3, 1) := dk_29 (dk_at dksX3_keepPart_0 21 rfl rfl)
theorem dX3_keepPart_22 : decode cX3_keepPart 22 = .ok (.invokestatic 54, 3) := dk_184 0 54 (dk_at dksX3_keepPart_1 0 rfl rfl)
theorem dX3_keepPart_25 : decode cX3_keepPart 25 = .ok (.ifCond .ne 7, 3) := dk_154 0 7 (dk_at dksX3_keepPart_1 3 rfl rfl)
theorem dX3_keepPart_28 : decode cX3_keepPart 28 = .ok (.iconst 2, 1) := dk_5 (dk_at dksX3_keepPart_1 6 rfl rfl)
theorem dX3_keepPart_29 : decode cX3_keepPart 29 = .ok (.goto 18, 3) := dk_167 0 18 (dk_at dksX3_keepPart_1 7 rfl rfl)
theorem dX3_keepPart_32 : decode cX3_keepPart 32 = .ok (.aload_n 0, 1) := dk_42 (dk_at dksX3_keepPart_1 10 rfl rfl)
theorem dX3_keepPart_33 : decode cX3_keepPart 33 = .ok (.iload_n 1, 1) := dk_27 (dk_at dksX3_keepPart_1 11 rfl rfl)
theorem dX3_keepPart_34 : decode cX3_keepPart 34 = .ok (.iload_n 2, 1) := dk_28 (dk_at dksX3_keepPart_1 12 rfl rfl)
theorem dX3_keepPart_35 : decode cX3_keepPart 35 = .ok (.iload_n 3, 1) := dk_29 (dk_at dksX3_keepPart_1 13 rfl rfl)
theorem dX3_keepPart_36 : decode cX3_keepPart 36 = .ok (.invokevirtual 98, 3) := dk_182 0 98 (dk_at dksX3_keepPart_1 14 rfl rfl)
theorem dX3_keepPart_39 : decode cX3_keepPart 39 = .ok (.ifCond .ne 7, 3) := dk_154 0 7 (dk_at dksX3_keepPart_1 17 rfl rfl)
theorem dX3_keepPart_42 : decode cX3_keepPart 42 = .ok (.iconst 3, 1) := dk_6 (dk_at dksX3_keepPart_1 20 rfl rfl)
theorem dX3_keepPart_43 : decode cX3_keepPart 43 = .ok (.goto 4, 3) := dk_167 0 4 (dk_at dksX3_keepPart_1 21 rfl rfl)
theorem dX3_keepPart_46 : decode cX3_keepPart 46 = .ok (.iconst 0, 1) := dk_3 (dk_at dksX3_keepPart_2 0 rfl rfl)
theorem dX3_keepPart_47 : decode cX3_keepPart 47 = .ok (.putfield 46, 3) := dk_181 0 46 (dk_at dksX3_keepPart_2 1 rfl rfl)
theorem dX3_keepPart_50 : decode cX3_keepPart 50 = .ok (.aload_n 0, 1) := dk_42 (dk_at dksX3_keepPart_2 4 rfl rfl)
theorem dX3_keepPart_51 : decode cX3_keepPart 51 = .ok (.getfield 46, 3) := dk_180 0 46 (dk_at dksX3_keepPart_2 5 rfl rfl)
theorem dX3_keepPart_54 : decode cX3_keepPart 54 = .ok (.ifCond .eq 5, 3) := dk_153 0 5 (dk_at dksX3_keepPart_2 8 rfl rfl)
theorem dX3_keepPart_57 : decode cX3_keepPart 57 = .ok (.iconst 0, 1) := dk_3 (dk_at dksX3_keepPart_2 11 rfl rfl)
theorem dX3_keepPart_58 : decode cX3_keepPart 58 = .ok (.ireturn, 1) := dk_172 (dk_at dksX3_keepPart_2 12 rfl rfl)
theorem dX3_keepPart_59 : decode cX3_keepPart 59 = .ok (.aload_n 0, 1) := dk_42 (dk_at dksX3_keepPart_2 13 rfl rfl)
theorem dX3_keepPart_60 : decode cX3_keepPart 60 = .ok (.iload_n 1, 1) := dk_27 (dk_at dksX3_keepPart_2 14 rfl rfl)
theorem dX3_keepPart_61 : decode cX3_keepPart 61 = .ok (.invokevirtual 127, 3) := dk_182 0 127 (dk_at dksX3_keepPart_2 15 rfl rfl)
theorem dX3_keepPart_64 : decode cX3_keepPart 64 = .ok (.aload_n 0, 1) := dk_42 (dk_at dksX3_keepPart_2 18 rfl rfl)
theorem dX3_keepPart_65 : decode cX3_keepPart 65 = .ok (.invokevirtual 119, 3) := dk_182 0 119 (dk_at dksX3_keepPart_2 19 rfl rfl)
theorem dX3_keepPart_68 : decode cX3_keepPart 68 = .ok (.aload_n 0, 1) := dk_42 (dk_at dksX3_keepPart_2 22 rfl rfl)
theorem dX3_keepPart_69 : decode cX3_keepPart 69 = .ok (.getfield 16, 3) := dk_180 0 16 (dk_at dksX3_keepPart_3 0 rfl rfl)
theorem dX3_keepPart_72 : decode cX3_keepPart 72 = .ok (.iload_n 3, 1) := dk_29 (dk_at dksX3_keepPart_3 3 rfl rfl)
theorem dX3_keepPart_73 : decode cX3_keepPart 73 = .ok (.iconst 1, 1) := dk_4 (dk_at dksX3_keepPart_3 4 rfl rfl)
theorem dX3_keepPart_74 : decode cX3_keepPart 74 = .ok (.iadd, 1) := dk_96 (dk_at dksX3_keepPart_3 5 rfl rfl)
theorem dX3_keepPart_75 : decode cX3_keepPart 75 = .ok (.iconst 2, 1) := dk_5 (dk_at dksX3_keepPart_3 6 rfl rfl)
theorem dX3_keepPart_76 : decode cX3_keepPart 76 = .ok (.iload_n 2, 1) := dk_28 (dk_at dksX3_keepPart_3 7 rfl rfl)
theorem dX3_keepPart_77 : decode cX3_keepPart 77 = .ok (.ishl, 1) := dk_120 (dk_at dksX3_keepPart_3 8 rfl rfl)
theorem dX3_keepPart_78 : decode cX3_keepPart 78 = .ok (.iastore, 1) := dk_79 (dk_at dksX3_keepPart_3 9 rfl rfl)
theorem dX3_keepPart_79 : decode cX3_keepPart 79 = .ok (.aload_n 0, 1) := dk_42 (dk_at dksX3_keepPart_3 10 rfl rfl)
theorem dX3_keepPart_80 : decode cX3_keepPart 80 = .ok (.iconst 0, 1) := dk_3 (dk_at dksX3_keepPart_3 11 rfl rfl)
theorem dX3_keepPart_81 : decode cX3_keepPart 81 = .ok (.invokevirtual 122, 3) := dk_182 0 122 (dk_at dksX3_keepPart_3 12 rfl rfl)
theorem dX3_keepPart_84 : decode cX3_keepPart 84 = .ok (.iconst 0, 1) := dk_3 (dk_at dksX3_keepPart_3 15 rfl rfl)
theorem dX3_keepPart_85 : decode cX3_keepPart 85 = .ok (.istore 5, 2) := dk_54 5 (dk_at dksX3_keepPart_3 16 rfl rfl)
theorem dX3_keepPart_87 : decode cX3_keepPart 87 = .ok (.iload 5, 2) := dk_21 5 (dk_at dksX3_keepPart_3 18 rfl rfl)
theorem dX3_keepPart_89 : decode cX3_keepPart 89 = .ok (.bipush 24, 2) := dk_16 24 (dk_at dksX3_keepPart_3 20 rfl rfl)
theorem dX3_keepPart_91 : decode cX3_keepPart 91 = .ok (.if_icmp .ge 27, 3) := dk_162 0 27 (dk_at dksX3_keepPart_4 0 rfl rfl)
theorem dX3_keepPart_94 : decode cX3_keepPart 94 = .ok (.aload_n 0, 1) := dk_42 (dk_at dksX3_keepPart_4 3 rfl rfl)
theorem dX3_keepPart_95 : decode cX3_keepPart 95 = .ok (.getfield 13, 3) := dk_180 0 13 (dk_at dksX3_keepPart_4 4 rfl rfl)
theorem dX3_keepPart_98 : decode cX3_keepPart 98 = .ok (.iload 5, 2) := dk_21 5 (dk_at dksX3_keepPart_4 7 rfl rfl)
theorem dX3_keepPart_100 : decode cX3_keepPart 100 = .ok (.aload_n 0, 1) := dk_42 (dk_at dksX3_keepPart_4 9 rfl rfl)
theorem dX3_keepPart_101 : decode cX3_keepPart 101 = .ok (.getfield 16, 3) := dk_180 0 16 (dk_at dksX3_keepPart_4 10 rfl rfl)
theorem dX3_keepPart_104 : decode cX3_keepPart 104 = .ok (.iload 5, 2) := dk_21 5 (dk_at dksX3_keepPart_4 13 rfl rfl)
theorem dX3_keepPart_106 : decode cX3_keepPart 106 = .ok (.iconst 1, 1) := dk_4 (dk_at dksX3_keepPart_4 15 rfl rfl)
theorem dX3_keepPart_107 : decode cX3_keepPart 107 = .ok (.iadd, 1) := dk_96 (dk_at dksX3_keepPart_4 16 rfl rfl)
theorem dX3_keepPart_108 : decode cX3_keepPart 108 = .ok (.iaload, 1) := dk_46 (dk_at dksX3_keepPart_4 17 rfl rfl)
theorem dX3_keepPart_109 : decode cX3_keepPart 109 = .ok (.iconst 1, 1) := dk_4 (dk_at dksX3_keepPart_4 18 rfl rfl)
theorem dX3_keepPart_110 : decode cX3_keepPart 110 = .ok (.ishr, 1) := dk_122 (dk_at dksX3_keepPart_4 19 rfl rfl)
theorem dX3_keepPart_111 : decode cX3_keepPart 111 = .ok (.iastore, 1) := dk_79 (dk_at dksX3_keepPart_4 20 rfl rfl)
theorem dX3_keepPart_112 : decode cX3_keepPart 112 = .ok (.iinc 5 1, 3) := dk_132 5 1 (dk_at dksX3_keepPart_4 21 rfl rfl)
theorem dX3_keepPart_115 : decode cX3_keepPart 115 = .ok (.goto (-28), 3) := dk_167 255 228 (dk_at dksX3_keepPart_5 0 rfl rfl)
theorem dX3_keepPart_118 : decode cX3_keepPart 118 = .ok (.aload_n 0, 1) := dk_42 (dk_at dksX3_keepPart_5 3 rfl rfl)
theorem dX3_keepPart_119 : decode cX3_keepPart 119 = .ok (.iload 4, 2) := dk_21 4 (dk_at dksX3_keepPart_5 4 rfl rfl)
theorem dX3_keepPart_121 : decode cX3_keepPart 121 = .ok (.invokevirtual 95, 3) := dk_182 0 95 (dk_at dksX3_keepPart_5 6 rfl rfl)
theorem dX3_keepPart_124 : decode cX3_keepPart 124 = .ok (.ireturn, 1) := dk_172 (dk_at dksX3_keepPart_5 9 rfl rfl)
abbrev cX3_inside : ByteArray := prog_22_method_35_code
def yX3_inside : MethodName := ⟨RX3, "inside", "(I)V"⟩
def dkwX3_inside_1 : List UInt8 := [132, 2, 1, 167, 255, 231, 177]
abbrev dktX3_inside_1 : List UInt8 := dkwX3_inside_1 ++ []
def dkwX3_inside_0 : List UInt8 := [3, 61, 28, 16, 26, 162, 0, 25, 42, 180, 0, 19, 28, 42, 27, 28, 4, 100, 182, 0, 58, 4, 120, 79]
abbrev dktX3_inside_0 : List UInt8 := dkwX3_inside_0 ++ dktX3_inside_1
theorem dksX3_inside_0 : cX3_inside.data.toList.drop 0 = dktX3_inside_0 := by decide +kernel
theorem dksX3_inside_1 : cX3_inside.data.toList.drop 24 = dktX3_inside_1 := dk_seg dksX3_inside_0 24 rfl rfl
theorem dX3_inside_0 : decode cX3_inside 0 = .ok (.iconst 0, 1) := dk_3 (dk_at dksX3_inside_0 0 rfl rfl)
theorem dX3_inside_1 : decode cX3_inside 1 = .ok (.istore_n 2, 1) := dk_61 (dk_at dksX3_inside_0 1 rfl rfl)
theorem dX3_inside_2 : decode cX3_inside 2 = .ok (.iload_n 2, 1) := dk_28 (dk_at dksX3_inside_0 2 rfl rfl)
theorem dX3_inside_3 : decode cX3_inside 3 = .ok (.bipush 26, 2) := dk_16 26 (dk_at dksX3_inside_0 3 rfl rfl)
theorem dX3_inside_5 : decode cX3_inside 5 = .ok (.if_icmp .ge 25, 3) := dk_162 0 25 (dk_at dksX3_inside_0 5 rfl rfl)
theorem dX3_inside_8 : decode cX3_inside 8 = .ok (.aload_n 0, 1) := dk_42 (dk_at dksX3_inside_0 8 rfl rfl)
theorem dX3_inside_9 : decode cX3_inside 9 = .ok (.getfield 19, 3) := dk_180 0 19 (dk_at dksX3_inside_0 9 rfl rfl)
theorem dX3_inside_12 : decode cX3_inside 12 = .ok (.iload_n 2, 1) := dk_28 (dk_at dksX3_inside_0 12 rfl rfl)
theorem dX3_inside_13 : decode cX3_inside 13 = .ok (.aload_n 0, 1) := dk_42 (dk_at dksX3_inside_0 13 rfl rfl)
theorem dX3_inside_14 : decode cX3_inside 14 = .ok (.iload_n 1, 1) := dk_27 (dk_at dksX3_inside_0 14 rfl rfl)
theorem dX3_inside_15 : decode cX3_inside 15 = .ok (.iload_n 2, 1) := dk_28 (dk_at dksX3_inside_0 15 rfl rfl)
theorem dX3_inside_16 : decode cX3_inside 16 = .ok (.iconst 1, 1) := dk_4 (dk_at dksX3_inside_0 16 rfl rfl)
theorem dX3_inside_17 : decode cX3_inside 17 = .ok (.isub, 1) := dk_100 (dk_at dksX3_inside_0 17 rfl rfl)
theorem dX3_inside_18 : decode cX3_inside 18 = .ok (.invokevirtual 58, 3) := dk_182 0 58 (dk_at dksX3_inside_0 18 rfl rfl)
theorem dX3_inside_21 : decode cX3_inside 21 = .ok (.iconst 1, 1) := dk_4 (dk_at dksX3_inside_0 21 rfl rfl)
theorem dX3_inside_22 : decode cX3_inside 22 = .ok (.ishl, 1) := dk_120 (dk_at dksX3_inside_0 22 rfl rfl)
theorem dX3_inside_23 : decode cX3_inside 23 = .ok (.iastore, 1) := dk_79 (dk_at dksX3_inside_0 23 rfl rfl)
theorem dX3_inside_24 : decode cX3_inside 24 = .ok (.iinc 2 1, 3) := dk_132 2 1 (dk_at dksX3_inside_1 0 rfl rfl)
theorem dX3_inside_27 : decode cX3_inside 27 = .ok (.goto (-25), 3) := dk_167 255 231 (dk_at dksX3_inside_1 3 rfl rfl)
theorem dX3_inside_30 : decode cX3_inside 30 = .ok (.return_, 1) := dk_177 (dk_at dksX3_inside_1 6 rfl rfl)
abbrev cX3_pointCount : ByteArray := prog_22_method_39_code
def yX3_pointCount : MethodName := ⟨RX3, "pointCount", "()I"⟩
def dkwX3_pointCount_0 : List UInt8 := [42, 3, 181, 0, 46, 42, 180, 0, 83, 172]
abbrev dktX3_pointCount_0 : List UInt8 := dkwX3_pointCount_0 ++ []
theorem dksX3_pointCount_0 : cX3_pointCount.data.toList.drop 0 = dktX3_pointCount_0 := by decide +kernel
theorem dX3_pointCount_0 : decode cX3_pointCount 0 = .ok (.aload_n 0, 1) := dk_42 (dk_at dksX3_pointCount_0 0 rfl rfl)
theorem dX3_pointCount_1 : decode cX3_pointCount 1 = .ok (.iconst 0, 1) := dk_3 (dk_at dksX3_pointCount_0 1 rfl rfl)
theorem dX3_pointCount_2 : decode cX3_pointCount 2 = .ok (.putfield 46, 3) := dk_181 0 46 (dk_at dksX3_pointCount_0 2 rfl rfl)
theorem dX3_pointCount_5 : decode cX3_pointCount 5 = .ok (.aload_n 0, 1) := dk_42 (dk_at dksX3_pointCount_0 5 rfl rfl)
theorem dX3_pointCount_6 : decode cX3_pointCount 6 = .ok (.getfield 83, 3) := dk_180 0 83 (dk_at dksX3_pointCount_0 6 rfl rfl)
theorem dX3_pointCount_9 : decode cX3_pointCount 9 = .ok (.ireturn, 1) := dk_172 (dk_at dksX3_pointCount_0 9 rfl rfl)
abbrev cX3_contains : ByteArray := prog_22_method_40_code
def yX3_contains : MethodName := ⟨RX3, "contains", "(III)Z"⟩
def dkwX3_contains_2 : List UInt8 := [167, 0, 4, 3, 172]
abbrev dktX3_contains_2 : List UInt8 := dkwX3_contains_2 ++ []
def dkwX3_contains_1 : List UInt8 := [3, 181, 0, 46, 42, 180, 0, 46, 154, 0, 17, 42, 27, 28, 29, 182, 0, 98, 153, 0, 7, 4]
abbrev dktX3_contains_1 : List UInt8 := dkwX3_contains_1 ++ dktX3_contains_2
def dkwX3_contains_0 : List UInt8 := [42, 27, 184, 0, 69, 154, 0, 7, 4, 167, 0, 16, 28, 29, 184, 0, 54, 154, 0, 7, 5, 167, 0, 4]
abbrev dktX3_contains_0 : List UInt8 := dkwX3_contains_0 ++ dktX3_contains_1
theorem dksX3_contains_0 : cX3_contains.data.toList.drop 0 = dktX3_contains_0 := by decide +kernel
theorem dksX3_contains_1 : cX3_contains.data.toList.drop 24 = dktX3_contains_1 := dk_seg dksX3_contains_0 24 rfl rfl
theorem dksX3_contains_2 : cX3_contains.data.toList.drop 46 = dktX3_contains_2 := dk_seg dksX3_contains_1 22 rfl rfl
theorem dX3_contains_0 : decode cX3_contains 0 = .ok (.aload_n 0, 1) := dk_42 (dk_at dksX3_contains_0 0 rfl rfl)
theorem dX3_contains_1 : decode cX3_contains 1 = .ok (.iload_n 1, 1) := dk_27 (dk_at dksX3_contains_0 1 rfl rfl)
theorem dX3_contains_2 : decode cX3_contains 2 = .ok (.invokestatic 69, 3) := dk_184 0 69 (dk_at dksX3_contains_0 2 rfl rfl)
theorem dX3_contains_5 : decode cX3_contains 5 = .ok (.ifCond .ne 7, 3) := dk_154 0 7 (dk_at dksX3_contains_0 5 rfl rfl)
theorem dX3_contains_8 : decode cX3_contains 8 = .ok (.iconst 1, 1) := dk_4 (dk_at dksX3_contains_0 8 rfl rfl)
theorem dX3_contains_9 : decode cX3_contains 9 = .ok (.goto 16, 3) := dk_167 0 16 (dk_at dksX3_contains_0 9 rfl rfl)
theorem dX3_contains_12 : decode cX3_contains 12 = .ok (.iload_n 2, 1) := dk_28 (dk_at dksX3_contains_0 12 rfl rfl)
theorem dX3_contains_13 : decode cX3_contains 13 = .ok (.iload_n 3, 1) := dk_29 (dk_at dksX3_contains_0 13 rfl rfl)
theorem dX3_contains_14 : decode cX3_contains 14 = .ok (.invokestatic 54, 3) := dk_184 0 54 (dk_at dksX3_contains_0 14 rfl rfl)
theorem dX3_contains_17 : decode cX3_contains 17 = .ok (.ifCond .ne 7, 3) := dk_154 0 7 (dk_at dksX3_contains_0 17 rfl rfl)
theorem dX3_contains_20 : decode cX3_contains 20 = .ok (.iconst 2, 1) := dk_5 (dk_at dksX3_contains_0 20 rfl rfl)
theorem dX3_contains_21 : decode cX3_contains 21 = .ok (.goto 4, 3) := dk_167 0 4 (dk_at dksX3_contains_0 21 rfl rfl)
theorem dX3_contains_24 : decode cX3_contains 24 = .ok (.iconst 0, 1) := dk_3 (dk_at dksX3_contains_1 0 rfl rfl)
theorem dX3_contains_25 : decode cX3_contains 25 = .ok (.putfield 46, 3) := dk_181 0 46 (dk_at dksX3_contains_1 1 rfl rfl)
theorem dX3_contains_28 : decode cX3_contains 28 = .ok (.aload_n 0, 1) := dk_42 (dk_at dksX3_contains_1 4 rfl rfl)
theorem dX3_contains_29 : decode cX3_contains 29 = .ok (.getfield 46, 3) := dk_180 0 46 (dk_at dksX3_contains_1 5 rfl rfl)
theorem dX3_contains_32 : decode cX3_contains 32 = .ok (.ifCond .ne 17, 3) := dk_154 0 17 (dk_at dksX3_contains_1 8 rfl rfl)
theorem dX3_contains_35 : decode cX3_contains 35 = .ok (.aload_n 0, 1) := dk_42 (dk_at dksX3_contains_1 11 rfl rfl)
theorem dX3_contains_36 : decode cX3_contains 36 = .ok (.iload_n 1, 1) := dk_27 (dk_at dksX3_contains_1 12 rfl rfl)
theorem dX3_contains_37 : decode cX3_contains 37 = .ok (.iload_n 2, 1) := dk_28 (dk_at dksX3_contains_1 13 rfl rfl)
theorem dX3_contains_38 : decode cX3_contains 38 = .ok (.iload_n 3, 1) := dk_29 (dk_at dksX3_contains_1 14 rfl rfl)
theorem dX3_contains_39 : decode cX3_contains 39 = .ok (.invokevirtual 98, 3) := dk_182 0 98 (dk_at dksX3_contains_1 15 rfl rfl)
theorem dX3_contains_42 : decode cX3_contains 42 = .ok (.ifCond .eq 7, 3) := dk_153 0 7 (dk_at dksX3_contains_1 18 rfl rfl)
theorem dX3_contains_45 : decode cX3_contains 45 = .ok (.iconst 1, 1) := dk_4 (dk_at dksX3_contains_1 21 rfl rfl)
theorem dX3_contains_46 : decode cX3_contains 46 = .ok (.goto 4, 3) := dk_167 0 4 (dk_at dksX3_contains_2 0 rfl rfl)
theorem dX3_contains_49 : decode cX3_contains 49 = .ok (.iconst 0, 1) := dk_3 (dk_at dksX3_contains_2 3 rfl rfl)
theorem dX3_contains_50 : decode cX3_contains 50 = .ok (.ireturn, 1) := dk_172 (dk_at dksX3_contains_2 4 rfl rfl)
abbrev cX3_area : ByteArray := prog_22_method_41_code
def yX3_area : MethodName := ⟨RX3, "area", "(I)I"⟩
def dkwX3_area_0 : List UInt8 := [42, 27, 182, 0, 130, 153, 0, 11, 42, 27, 182, 0, 66, 167, 0, 4, 3, 172]
abbrev dktX3_area_0 : List UInt8 := dkwX3_area_0 ++ []
theorem dksX3_area_0 : cX3_area.data.toList.drop 0 = dktX3_area_0 := by decide +kernel
theorem dX3_area_0 : decode cX3_area 0 = .ok (.aload_n 0, 1) := dk_42 (dk_at dksX3_area_0 0 rfl rfl)
theorem dX3_area_1 : decode cX3_area 1 = .ok (.iload_n 1, 1) := dk_27 (dk_at dksX3_area_0 1 rfl rfl)
theorem dX3_area_2 : decode cX3_area 2 = .ok (.invokevirtual 130, 3) := dk_182 0 130 (dk_at dksX3_area_0 2 rfl rfl)
theorem dX3_area_5 : decode cX3_area 5 = .ok (.ifCond .eq 11, 3) := dk_153 0 11 (dk_at dksX3_area_0 5 rfl rfl)
theorem dX3_area_8 : decode cX3_area 8 = .ok (.aload_n 0, 1) := dk_42 (dk_at dksX3_area_0 8 rfl rfl)
theorem dX3_area_9 : decode cX3_area 9 = .ok (.iload_n 1, 1) := dk_27 (dk_at dksX3_area_0 9 rfl rfl)
theorem dX3_area_10 : decode cX3_area 10 = .ok (.invokevirtual 66, 3) := dk_182 0 66 (dk_at dksX3_area_0 10 rfl rfl)
theorem dX3_area_13 : decode cX3_area 13 = .ok (.goto 4, 3) := dk_167 0 4 (dk_at dksX3_area_0 13 rfl rfl)
theorem dX3_area_16 : decode cX3_area 16 = .ok (.iconst 0, 1) := dk_3 (dk_at dksX3_area_0 16 rfl rfl)
theorem dX3_area_17 : decode cX3_area 17 = .ok (.ireturn, 1) := dk_172 (dk_at dksX3_area_0 17 rfl rfl)
abbrev cX3_looks : ByteArray := prog_22_method_38_code
def yX3_looks : MethodName := ⟨RX3, "looks", "(I)Z"⟩
def dkwX3_looks_1 : List UInt8 := [167, 0, 4, 3, 172]
abbrev dktX3_looks_1 : List UInt8 := dkwX3_looks_1 ++ []
def dkwX3_looks_0 : List UInt8 := [42, 27, 184, 0, 69, 153, 0, 7, 3, 167, 0, 4, 4, 181, 0, 46, 42, 180, 0, 46, 154, 0, 7, 4]
abbrev dktX3_looks_0 : List UInt8 := dkwX3_looks_0 ++ dktX3_looks_1
theorem dksX3_looks_0 : cX3_looks.data.toList.drop 0 = dktX3_looks_0 := by decide +kernel
theorem dksX3_looks_1 : cX3_looks.data.toList.drop 24 = dktX3_looks_1 := dk_seg dksX3_looks_0 24 rfl rfl
theorem dX3_looks_0 : decode cX3_looks 0 = .ok (.aload_n 0, 1) := dk_42 (dk_at dksX3_looks_0 0 rfl rfl)
theorem dX3_looks_1 : decode cX3_looks 1 = .ok (.iload_n 1, 1) := dk_27 (dk_at dksX3_looks_0 1 rfl rfl)
theorem dX3_looks_2 : decode cX3_looks 2 = .ok (.invokestatic 69, 3) := dk_184 0 69 (dk_at dksX3_looks_0 2 rfl rfl)
theorem dX3_looks_5 : decode cX3_looks 5 = .ok (.ifCond .eq 7, 3) := dk_153 0 7 (dk_at dksX3_looks_0 5 rfl rfl)
theorem dX3_looks_8 : decode cX3_looks 8 = .ok (.iconst 0, 1) := dk_3 (dk_at dksX3_looks_0 8 rfl rfl)
theorem dX3_looks_9 : decode cX3_looks 9 = .ok (.goto 4, 3) := dk_167 0 4 (dk_at dksX3_looks_0 9 rfl rfl)
theorem dX3_looks_12 : decode cX3_looks 12 = .ok (.iconst 1, 1) := dk_4 (dk_at dksX3_looks_0 12 rfl rfl)
theorem dX3_looks_13 : decode cX3_looks 13 = .ok (.putfield 46, 3) := dk_181 0 46 (dk_at dksX3_looks_0 13 rfl rfl)
theorem dX3_looks_16 : decode cX3_looks 16 = .ok (.aload_n 0, 1) := dk_42 (dk_at dksX3_looks_0 16 rfl rfl)
theorem dX3_looks_17 : decode cX3_looks 17 = .ok (.getfield 46, 3) := dk_180 0 46 (dk_at dksX3_looks_0 17 rfl rfl)
theorem dX3_looks_20 : decode cX3_looks 20 = .ok (.ifCond .ne 7, 3) := dk_154 0 7 (dk_at dksX3_looks_0 20 rfl rfl)
theorem dX3_looks_23 : decode cX3_looks 23 = .ok (.iconst 1, 1) := dk_4 (dk_at dksX3_looks_0 23 rfl rfl)
theorem dX3_looks_24 : decode cX3_looks 24 = .ok (.goto 4, 3) := dk_167 0 4 (dk_at dksX3_looks_1 0 rfl rfl)
theorem dX3_looks_27 : decode cX3_looks 27 = .ok (.iconst 0, 1) := dk_3 (dk_at dksX3_looks_1 3 rfl rfl)
theorem dX3_looks_28 : decode cX3_looks 28 = .ok (.ireturn, 1) := dk_172 (dk_at dksX3_looks_1 4 rfl rfl)
abbrev cX3_areaByCells : ByteArray := prog_22_method_42_code
def yX3_areaByCells : MethodName := ⟨RX3, "areaByCells", "(I)I"⟩
def dkwX3_areaByCells_0 : List UInt8 := [42, 27, 182, 0, 133, 172]
abbrev dktX3_areaByCells_0 : List UInt8 := dkwX3_areaByCells_0 ++ []
theorem dksX3_areaByCells_0 : cX3_areaByCells.data.toList.drop 0 = dktX3_areaByCells_0 := by decide +kernel
theorem dX3_areaByCells_0 : decode cX3_areaByCells 0 = .ok (.aload_n 0, 1) := dk_42 (dk_at dksX3_areaByCells_0 0 rfl rfl)
theorem dX3_areaByCells_1 : decode cX3_areaByCells 1 = .ok (.iload_n 1, 1) := dk_27 (dk_at dksX3_areaByCells_0 1 rfl rfl)
theorem dX3_areaByCells_2 : decode cX3_areaByCells 2 = .ok (.invokevirtual 133, 3) := dk_182 0 133 (dk_at dksX3_areaByCells_0 2 rfl rfl)
theorem dX3_areaByCells_5 : decode cX3_areaByCells 5 = .ok (.ireturn, 1) := dk_172 (dk_at dksX3_areaByCells_0 5 rfl rfl)
abbrev cX3_perimeter : ByteArray := prog_22_method_43_code
def yX3_perimeter : MethodName := ⟨RX3, "perimeter", "(I)I"⟩
def dkwX3_perimeter_2 : List UInt8 := [4, 120, 130, 184, 0, 62, 96, 96, 61, 132, 3, 1, 167, 255, 211, 28, 172]
abbrev dktX3_perimeter_2 : List UInt8 := dkwX3_perimeter_2 ++ []
def dkwX3_perimeter_1 : List UInt8 := [182, 0, 58, 54, 4, 28, 21, 4, 42, 27, 29, 4, 100, 182, 0, 58, 130, 184, 0, 62, 21, 4, 21, 4]
abbrev dktX3_perimeter_1 : List UInt8 := dkwX3_perimeter_1 ++ dktX3_perimeter_2
def dkwX3_perimeter_0 : List UInt8 := [42, 27, 182, 0, 130, 154, 0, 5, 3, 172, 3, 61, 3, 62, 29, 16, 24, 163, 0, 45, 42, 27, 29]
abbrev dktX3_perimeter_0 : List UInt8 := dkwX3_perimeter_0 ++ dktX3_perimeter_1
theorem dksX3_perimeter_0 : cX3_perimeter.data.toList.drop 0 = dktX3_perimeter_0 := by decide +kernel
theorem dksX3_perimeter_1 : cX3_perimeter.data.toList.drop 23 = dktX3_perimeter_1 := dk_seg dksX3_perimeter_0 23 rfl rfl
theorem dksX3_perimeter_2 : cX3_perimeter.data.toList.drop 47 = dktX3_perimeter_2 := dk_seg dksX3_perimeter_1 24 rfl rfl
theorem dX3_perimeter_0 : decode cX3_perimeter 0 = .ok (.aload_n 0, 1) := dk_42 (dk_at dksX3_perimeter_0 0 rfl rfl)
theorem dX3_perimeter_1 : decode cX3_perimeter 1 = .ok (.iload_n 1, 1) := dk_27 (dk_at dksX3_perimeter_0 1 rfl rfl)
theorem dX3_perimeter_2 : decode cX3_perimeter 2 = .ok (.invokevirtual 130, 3) := dk_182 0 130 (dk_at dksX3_perimeter_0 2 rfl rfl)
theorem dX3_perimeter_5 : decode cX3_perimeter 5 = .ok (.ifCond .ne 5, 3) := dk_154 0 5 (dk_at dksX3_perimeter_0 5 rfl rfl)
theorem dX3_perimeter_8 : decode cX3_perimeter 8 = .ok (.iconst 0, 1) := dk_3 (dk_at dksX3_perimeter_0 8 rfl rfl)
theorem dX3_perimeter_9 : decode cX3_perimeter 9 = .ok (.ireturn, 1) := dk_172 (dk_at dksX3_perimeter_0 9 rfl rfl)
theorem dX3_perimeter_10 : decode cX3_perimeter 10 = .ok (.iconst 0, 1) := dk_3 (dk_at dksX3_perimeter_0 10 rfl rfl)
theorem dX3_perimeter_11 : decode cX3_perimeter 11 = .ok (.istore_n 2, 1) := dk_61 (dk_at dksX3_perimeter_0 11 rfl rfl)
theorem dX3_perimeter_12 : decode cX3_perimeter 12 = .ok (.iconst 0, 1) := dk_3 (dk_at dksX3_perimeter_0 12 rfl rfl)
theorem dX3_perimeter_13 : decode cX3_perimeter 13 = .ok (.istore_n 3, 1) := dk_62 (dk_at dksX3_perimeter_0 13 rfl rfl)
theorem dX3_perimeter_14 : decode cX3_perimeter 14 = .ok (.iload_n 3, 1) := dk_29 (dk_at dksX3_perimeter_0 14 rfl rfl)
theorem dX3_perimeter_15 : decode cX3_perimeter 15 = .ok (.bipush 24, 2) := dk_16 24 (dk_at dksX3_perimeter_0 15 rfl rfl)
theorem dX3_perimeter_17 : decode cX3_perimeter 17 = .ok (.if_icmp .gt 45, 3) := dk_163 0 45 (dk_at dksX3_perimeter_0 17 rfl rfl)
theorem dX3_perimeter_20 : decode cX3_perimeter 20 = .ok (.aload_n 0, 1) := dk_42 (dk_at dksX3_perimeter_0 20 rfl rfl)
theorem dX3_perimeter_21 : decode cX3_perimeter 21 = .ok (.iload_n 1, 1) := dk_27 (dk_at dksX3_perimeter_0 21 rfl rfl)
theorem dX3_perimeter_22 : decode cX3_perimeter 22 = .ok (.iload_n 3, 1) := dk_29 (dk_at dksX3_perimeter_0 22 rfl rfl)
theorem dX3_perimeter_23 : decode cX3_perimeter 23 = .ok (.invokevirtual 58, 3) := dk_182 0 58 (dk_at dksX3_perimeter_1 0 rfl rfl)
theorem dX3_perimeter_26 : decode cX3_perimeter 26 = .ok (.istore 4, 2) := dk_54 4 (dk_at dksX3_perimeter_1 3 rfl rfl)
theorem dX3_perimeter_28 : decode cX3_perimeter 28 = .ok (.iload_n 2, 1) := dk_28 (dk_at dksX3_perimeter_1 5 rfl rfl)
theorem dX3_perimeter_29 : decode cX3_perimeter 29 = .ok (.iload 4, 2) := dk_21 4 (dk_at dksX3_perimeter_1 6 rfl rfl)
theorem dX3_perimeter_31 : decode cX3_perimeter 31 = .ok (.aload_n 0, 1) := dk_42 (dk_at dksX3_perimeter_1 8 rfl rfl)
theorem dX3_perimeter_32 : decode cX3_perimeter 32 = .ok (.iload_n 1, 1) := dk_27 (dk_at dksX3_perimeter_1 9 rfl rfl)
theorem dX3_perimeter_33 : decode cX3_perimeter 33 = .ok (.iload_n 3, 1) := dk_29 (dk_at dksX3_perimeter_1 10 rfl rfl)
theorem dX3_perimeter_34 : decode cX3_perimeter 34 = .ok (.iconst 1, 1) := dk_4 (dk_at dksX3_perimeter_1 11 rfl rfl)
theorem dX3_perimeter_35 : decode cX3_perimeter 35 = .ok (.isub, 1) := dk_100 (dk_at dksX3_perimeter_1 12 rfl rfl)
theorem dX3_perimeter_36 : decode cX3_perimeter 36 = .ok (.invokevirtual 58, 3) := dk_182 0 58 (dk_at dksX3_perimeter_1 13 rfl rfl)
theorem dX3_perimeter_39 : decode cX3_perimeter 39 = .ok (.ixor, 1) := dk_130 (dk_at dksX3_perimeter_1 16 rfl rfl)
theorem dX3_perimeter_40 : decode cX3_perimeter 40 = .ok (.invokestatic 62, 3) := dk_184 0 62 (dk_at dksX3_perimeter_1 17 rfl rfl)
theorem dX3_perimeter_43 : decode cX3_perimeter 43 = .ok (.iload 4, 2) := dk_21 4 (dk_at dksX3_perimeter_1 20 rfl rfl)
theorem dX3_perimeter_45 : decode cX3_perimeter 45 = .ok (.iload 4, 2) := dk_21 4 (dk_at dksX3_perimeter_1 22 rfl rfl)
theorem dX3_perimeter_47 : decode cX3_perimeter 47 = .ok (.iconst 1, 1) := dk_4 (dk_at dksX3_perimeter_2 0 rfl rfl)
theorem dX3_perimeter_48 : decode cX3_perimeter 48 = .ok (.ishl, 1) := dk_120 (dk_at dksX3_perimeter_2 1 rfl rfl)
theorem dX3_perimeter_49 : decode cX3_perimeter 49 = .ok (.ixor, 1) := dk_130 (dk_at dksX3_perimeter_2 2 rfl rfl)
theorem dX3_perimeter_50 : decode cX3_perimeter 50 = .ok (.invokestatic 62, 3) := dk_184 0 62 (dk_at dksX3_perimeter_2 3 rfl rfl)
theorem dX3_perimeter_53 : decode cX3_perimeter 53 = .ok (.iadd, 1) := dk_96 (dk_at dksX3_perimeter_2 6 rfl rfl)
theorem dX3_perimeter_54 : decode cX3_perimeter 54 = .ok (.iadd, 1) := dk_96 (dk_at dksX3_perimeter_2 7 rfl rfl)
theorem dX3_perimeter_55 : decode cX3_perimeter 55 = .ok (.istore_n 2, 1) := dk_61 (dk_at dksX3_perimeter_2 8 rfl rfl)
theorem dX3_perimeter_56 : decode cX3_perimeter 56 = .ok (.iinc 3 1, 3) := dk_132 3 1 (dk_at dksX3_perimeter_2 9 rfl rfl)
theorem dX3_perimeter_59 : decode cX3_perimeter 59 = .ok (.goto (-45), 3) := dk_167 255 211 (dk_at dksX3_perimeter_2 12 rfl rfl)
theorem dX3_perimeter_62 : decode cX3_perimeter 62 = .ok (.iload_n 2, 1) := dk_28 (dk_at dksX3_perimeter_2 15 rfl rfl)
theorem dX3_perimeter_63 : decode cX3_perimeter 63 = .ok (.ireturn, 1) := dk_172 (dk_at dksX3_perimeter_2 16 rfl rfl)
abbrev cX3_perimeterByCells : ByteArray := prog_22_method_44_code
def yX3_perimeterByCells : MethodName := ⟨RX3, "perimeterByCells", "(I)I"⟩
def dkwX3_perimeterByCells_0 : List UInt8 := [42, 27, 182, 0, 136, 172]
abbrev dktX3_perimeterByCells_0 : List UInt8 := dkwX3_perimeterByCells_0 ++ []
theorem dksX3_perimeterByCells_0 : cX3_perimeterByCells.data.toList.drop 0 = dktX3_perimeterByCells_0 := by decide +kernel
theorem dX3_perimeterByCells_0 : decode cX3_perimeterByCells 0 = .ok (.aload_n 0, 1) := dk_42 (dk_at dksX3_perimeterByCells_0 0 rfl rfl)
theorem dX3_perimeterByCells_1 : decode cX3_perimeterByCells 1 = .ok (.iload_n 1, 1) := dk_27 (dk_at dksX3_perimeterByCells_0 1 rfl rfl)
theorem dX3_perimeterByCells_2 : decode cX3_perimeterByCells 2 = .ok (.invokevirtual 136, 3) := dk_182 0 136 (dk_at dksX3_perimeterByCells_0 2 rfl rfl)
theorem dX3_perimeterByCells_5 : decode cX3_perimeterByCells 5 = .ok (.ireturn, 1) := dk_172 (dk_at dksX3_perimeterByCells_0 5 rfl rfl)
abbrev cX3_bandCount : ByteArray := prog_22_method_45_code
def yX3_bandCount : MethodName := ⟨RX3, "bandCount", "(I)I"⟩
def dkwX3_bandCount_2 : List UInt8 := [167, 0, 4, 3, 96, 61, 132, 3, 1, 167, 255, 213, 28, 172]
abbrev dktX3_bandCount_2 : List UInt8 := dkwX3_bandCount_2 ++ []
def dkwX3_bandCount_1 : List UInt8 := [182, 0, 58, 153, 0, 24, 42, 27, 29, 182, 0, 58, 42, 27, 29, 4, 100, 182, 0, 58, 159, 0, 7, 4]
abbrev dktX3_bandCount_1 : List UInt8 := dkwX3_bandCount_1 ++ dktX3_bandCount_2
def dkwX3_bandCount_0 : List UInt8 := [42, 27, 182, 0, 130, 154, 0, 5, 3, 172, 3, 61, 3, 62, 29, 16, 24, 162, 0, 43, 28, 42, 27, 29]
abbrev dktX3_bandCount_0 : List UInt8 := dkwX3_bandCount_0 ++ dktX3_bandCount_1
theorem dksX3_bandCount_0 : cX3_bandCount.data.toList.drop 0 = dktX3_bandCount_0 := by decide +kernel
theorem dksX3_bandCount_1 : cX3_bandCount.data.toList.drop 24 = dktX3_bandCount_1 := dk_seg dksX3_bandCount_0 24 rfl rfl
theorem dksX3_bandCount_2 : cX3_bandCount.data.toList.drop 48 = dktX3_bandCount_2 := dk_seg dksX3_bandCount_1 24 rfl rfl
theorem dX3_bandCount_0 : decode cX3_bandCount 0 = .ok (.aload_n 0, 1) := dk_42 (dk_at dksX3_bandCount_0 0 rfl rfl)
theorem dX3_bandCount_1 : decode cX3_bandCount 1 = .ok (.iload_n 1, 1) := dk_27 (dk_at dksX3_bandCount_0 1 rfl rfl)
theorem dX3_bandCount_2 : decode cX3_bandCount 2 = .ok (.invokevirtual 130, 3) := dk_182 0 130 (dk_at dksX3_bandCount_0 2 rfl rfl)
theorem dX3_bandCount_5 : decode cX3_bandCount 5 = .ok (.ifCond .ne 5, 3) := dk_154 0 5 (dk_at dksX3_bandCount_0 5 rfl rfl)
theorem dX3_bandCount_8 : decode cX3_bandCount 8 = .ok (.iconst 0, 1) := dk_3 (dk_at dksX3_bandCount_0 8 rfl rfl)
theorem dX3_bandCount_9 : decode cX3_bandCount 9 = .ok (.ireturn, 1) := dk_172 (dk_at dksX3_bandCount_0 9 rfl rfl)
theorem dX3_bandCount_10 : decode cX3_bandCount 10 = .ok (.iconst 0, 1) := dk_3 (dk_at dksX3_bandCount_0 10 rfl rfl)
theorem dX3_bandCount_11 : decode cX3_bandCount 11 = .ok (.istore_n 2, 1) := dk_61 (dk_at dksX3_bandCount_0 11 rfl rfl)
theorem dX3_bandCount_12 : decode cX3_bandCount 12 = .ok (.iconst 0, 1) := dk_3 (dk_at dksX3_bandCount_0 12 rfl rfl)
theorem dX3_bandCount_13 : decode cX3_bandCount 13 = .ok (.istore_n 3, 1) := dk_62 (dk_at dksX3_bandCount_0 13 rfl rfl)
theorem dX3_bandCount_14 : decode cX3_bandCount 14 = .ok (.iload_n 3, 1) := dk_29 (dk_at dksX3_bandCount_0 14 rfl rfl)
theorem dX3_bandCount_15 : decode cX3_bandCount 15 = .ok (.bipush 24, 2) := dk_16 24 (dk_at dksX3_bandCount_0 15 rfl rfl)
theorem dX3_bandCount_17 : decode cX3_bandCount 17 = .ok (.if_icmp .ge 43, 3) := dk_162 0 43 (dk_at dksX3_bandCount_0 17 rfl rfl)
theorem dX3_bandCount_20 : decode cX3_bandCount 20 = .ok (.iload_n 2, 1) := dk_28 (dk_at dksX3_bandCount_0 20 rfl rfl)
theorem dX3_bandCount_21 : decode cX3_bandCount 21 = .ok (.aload_n 0, 1) := dk_42 (dk_at dksX3_bandCount_0 21 rfl rfl)
theorem dX3_bandCount_22 : decode cX3_bandCount 22 = .ok (.iload_n 1, 1) := dk_27 (dk_at dksX3_bandCount_0 22 rfl rfl)
theorem dX3_bandCount_23 : decode cX3_bandCount 23 = .ok (.iload_n 3, 1) := dk_29 (dk_at dksX3_bandCount_0 23 rfl rfl)
theorem dX3_bandCount_24 : decode cX3_bandCount 24 = .ok (.invokevirtual 58, 3) := dk_182 0 58 (dk_at dksX3_bandCount_1 0 rfl rfl)
theorem dX3_bandCount_27 : decode cX3_bandCount 27 = .ok (.ifCond .eq 24, 3) := dk_153 0 24 (dk_at dksX3_bandCount_1 3 rfl rfl)
theorem dX3_bandCount_30 : decode cX3_bandCount 30 = .ok (.aload_n 0, 1) := dk_42 (dk_at dksX3_bandCount_1 6 rfl rfl)
theorem dX3_bandCount_31 : decode cX3_bandCount 31 = .ok (.iload_n 1, 1) := dk_27 (dk_at dksX3_bandCount_1 7 rfl rfl)
theorem dX3_bandCount_32 : decode cX3_bandCount 32 = .ok (.iload_n 3, 1) := dk_29 (dk_at dksX3_bandCount_1 8 rfl rfl)
theorem dX3_bandCount_33 : decode cX3_bandCount 33 = .ok (.invokevirtual 58, 3) := dk_182 0 58 (dk_at dksX3_bandCount_1 9 rfl rfl)
theorem dX3_bandCount_36 : decode cX3_bandCount 36 = .ok (.aload_n 0, 1) := dk_42 (dk_at dksX3_bandCount_1 12 rfl rfl)
theorem dX3_bandCount_37 : decode cX3_bandCount 37 = .ok (.iload_n 1, 1) := dk_27 (dk_at dksX3_bandCount_1 13 rfl rfl)
theorem dX3_bandCount_38 : decode cX3_bandCount 38 = .ok (.iload_n 3, 1) := dk_29 (dk_at dksX3_bandCount_1 14 rfl rfl)
theorem dX3_bandCount_39 : decode cX3_bandCount 39 = .ok (.iconst 1, 1) := dk_4 (dk_at dksX3_bandCount_1 15 rfl rfl)
theorem dX3_bandCount_40 : decode cX3_bandCount 40 = .ok (.isub, 1) := dk_100 (dk_at dksX3_bandCount_1 16 rfl rfl)
theorem dX3_bandCount_41 : decode cX3_bandCount 41 = .ok (.invokevirtual 58, 3) := dk_182 0 58 (dk_at dksX3_bandCount_1 17 rfl rfl)
theorem dX3_bandCount_44 : decode cX3_bandCount 44 = .ok (.if_icmp .eq 7, 3) := dk_159 0 7 (dk_at dksX3_bandCount_1 20 rfl rfl)
theorem dX3_bandCount_47 : decode cX3_bandCount 47 = .ok (.iconst 1, 1) := dk_4 (dk_at dksX3_bandCount_1 23 rfl rfl)
theorem dX3_bandCount_48 : decode cX3_bandCount 48 = .ok (.goto 4, 3) := dk_167 0 4 (dk_at dksX3_bandCount_2 0 rfl rfl)
theorem dX3_bandCount_51 : decode cX3_bandCount 51 = .ok (.iconst 0, 1) := dk_3 (dk_at dksX3_bandCount_2 3 rfl rfl)
theorem dX3_bandCount_52 : decode cX3_bandCount 52 = .ok (.iadd, 1) := dk_96 (dk_at dksX3_bandCount_2 4 rfl rfl)
theorem dX3_bandCount_53 : decode cX3_bandCount 53 = .ok (.istore_n 2, 1) := dk_61 (dk_at dksX3_bandCount_2 5 rfl rfl)
theorem dX3_bandCount_54 : decode cX3_bandCount 54 = .ok (.iinc 3 1, 3) := dk_132 3 1 (dk_at dksX3_bandCount_2 6 rfl rfl)
theorem dX3_bandCount_57 : decode cX3_bandCount 57 = .ok (.goto (-43), 3) := dk_167 255 213 (dk_at dksX3_bandCount_2 9 rfl rfl)
theorem dX3_bandCount_60 : decode cX3_bandCount 60 = .ok (.iload_n 2, 1) := dk_28 (dk_at dksX3_bandCount_2 12 rfl rfl)
theorem dX3_bandCount_61 : decode cX3_bandCount 61 = .ok (.ireturn, 1) := dk_172 (dk_at dksX3_bandCount_2 13 rfl rfl)
abbrev cX3_rectangleCount : ByteArray := prog_22_method_46_code
def yX3_rectangleCount : MethodName := ⟨RX3, "rectangleCount", "(I)I"⟩
def dkwX3_rectangleCount_2 : List UInt8 := [21, 4, 21, 4, 4, 120, 2, 130, 126, 184, 0, 62, 96, 61, 132, 3, 1, 167, 255, 207, 28, 172]
abbrev dktX3_rectangleCount_2 : List UInt8 := dkwX3_rectangleCount_2 ++ []
def dkwX3_rectangleCount_1 : List UInt8 := [182, 0, 58, 54, 4, 28, 21, 4, 42, 27, 29, 4, 100, 182, 0, 58, 160, 0, 7, 3, 167, 0, 15]
abbrev dktX3_rectangleCount_1 : List UInt8 := dkwX3_rectangleCount_1 ++ dktX3_rectangleCount_2
def dkwX3_rectangleCount_0 : List UInt8 := [42, 27, 182, 0, 130, 154, 0, 5, 3, 172, 3, 61, 3, 62, 29, 16, 24, 162, 0, 49, 42, 27, 29]
abbrev dktX3_rectangleCount_0 : List UInt8 := dkwX3_rectangleCount_0 ++ dktX3_rectangleCount_1
theorem dksX3_rectangleCount_0 : cX3_rectangleCount.data.toList.drop 0 = dktX3_rectangleCount_0 := by decide +kernel
theorem dksX3_rectangleCount_1 : cX3_rectangleCount.data.toList.drop 23 = dktX3_rectangleCount_1 := dk_seg dksX3_rectangleCount_0 23 rfl rfl
theorem dksX3_rectangleCount_2 : cX3_rectangleCount.data.toList.drop 46 = dktX3_rectangleCount_2 := dk_seg dksX3_rectangleCount_1 23 rfl rfl
theorem dX3_rectangleCount_0 : decode cX3_rectangleCount 0 = .ok (.aload_n 0, 1) := dk_42 (dk_at dksX3_rectangleCount_0 0 rfl rfl)
theorem dX3_rectangleCount_1 : decode cX3_rectangleCount 1 = .ok (.iload_n 1, 1) := dk_27 (dk_at dksX3_rectangleCount_0 1 rfl rfl)
theorem dX3_rectangleCount_2 : decode cX3_rectangleCount 2 = .ok (.invokevirtual 130, 3) := dk_182 0 130 (dk_at dksX3_rectangleCount_0 2 rfl rfl)
theorem dX3_rectangleCount_5 : decode cX3_rectangleCount 5 = .ok (.ifCond .ne 5, 3) := dk_154 0 5 (dk_at dksX3_rectangleCount_0 5 rfl rfl)
theorem dX3_rectangleCount_8 : decode cX3_rectangleCount 8 = .ok (.iconst 0, 1) := dk_3 (dk_at dksX3_rectangleCount_0 8 rfl rfl)
theorem dX3_rectangleCount_9 : decode cX3_rectangleCount 9 = .ok (.ireturn, 1) := dk_172 (dk_at dksX3_rectangleCount_0 9 rfl rfl)
theorem dX3_rectangleCount_10 : decode cX3_rectangleCount 10 = .ok (.iconst 0, 1) := dk_3 (dk_at dksX3_rectangleCount_0 10 rfl rfl)
theorem dX3_rectangleCount_11 : decode cX3_rectangleCount 11 = .ok (.istore_n 2, 1) := dk_61 (dk_at dksX3_rectangleCount_0 11 rfl rfl)
theorem dX3_rectangleCount_12 : decode cX3_rectangleCount 12 = .ok (.iconst 0, 1) := dk_3 (dk_at dksX3_rectangleCount_0 12 rfl rfl)
theorem dX3_rectangleCount_13 : decode cX3_rectangleCount 13 = .ok (.istore_n 3, 1) := dk_62 (dk_at dksX3_rectangleCount_0 13 rfl rfl)
theorem dX3_rectangleCount_14 : decode cX3_rectangleCount 14 = .ok (.iload_n 3, 1) := dk_29 (dk_at dksX3_rectangleCount_0 14 rfl rfl)
theorem dX3_rectangleCount_15 : decode cX3_rectangleCount 15 = .ok (.bipush 24, 2) := dk_16 24 (dk_at dksX3_rectangleCount_0 15 rfl rfl)
theorem dX3_rectangleCount_17 : decode cX3_rectangleCount 17 = .ok (.if_icmp .ge 49, 3) := dk_162 0 49 (dk_at dksX3_rectangleCount_0 17 rfl rfl)
theorem dX3_rectangleCount_20 : decode cX3_rectangleCount 20 = .ok (.aload_n 0, 1) := dk_42 (dk_at dksX3_rectangleCount_0 20 rfl rfl)
theorem dX3_rectangleCount_21 : decode cX3_rectangleCount 21 = .ok (.iload_n 1, 1) := dk_27 (dk_at dksX3_rectangleCount_0 21 rfl rfl)
theorem dX3_rectangleCount_22 : decode cX3_rectangleCount 22 = .ok (.iload_n 3, 1) := dk_29 (dk_at dksX3_rectangleCount_0 22 rfl rfl)
theorem dX3_rectangleCount_23 : decode cX3_rectangleCount 23 = .ok (.invokevirtual 58, 3) := dk_182 0 58 (dk_at dksX3_rectangleCount_1 0 rfl rfl)
theorem dX3_rectangleCount_26 : decode cX3_rectangleCount 26 = .ok (.istore 4, 2) := dk_54 4 (dk_at dksX3_rectangleCount_1 3 rfl rfl)
theorem dX3_rectangleCount_28 : decode cX3_rectangleCount 28 = .ok (.iload_n 2, 1) := dk_28 (dk_at dksX3_rectangleCount_1 5 rfl rfl)
theorem dX3_rectangleCount_29 : decode cX3_rectangleCount 29 = .ok (.iload 4, 2) := dk_21 4 (dk_at dksX3_rectangleCount_1 6 rfl rfl)
theorem dX3_rectangleCount_31 : decode cX3_rectangleCount 31 = .ok (.aload_n 0, 1) := dk_42 (dk_at dksX3_rectangleCount_1 8 rfl rfl)
theorem dX3_rectangleCount_32 : decode cX3_rectangleCount 32 = .ok (.iload_n 1, 1) := dk_27 (dk_at dksX3_rectangleCount_1 9 rfl rfl)
theorem dX3_rectangleCount_33 : decode cX3_rectangleCount 33 = .ok (.iload_n 3, 1) := dk_29 (dk_at dksX3_rectangleCount_1 10 rfl rfl)
theorem dX3_rectangleCount_34 : decode cX3_rectangleCount 34 = .ok (.iconst 1, 1) := dk_4 (dk_at dksX3_rectangleCount_1 11 rfl rfl)
theorem dX3_rectangleCount_35 : decode cX3_rectangleCount 35 = .ok (.isub, 1) := dk_100 (dk_at dksX3_rectangleCount_1 12 rfl rfl)
theorem dX3_rectangleCount_36 : decode cX3_rectangleCount 36 = .ok (.invokevirtual 58, 3) := dk_182 0 58 (dk_at dksX3_rectangleCount_1 13 rfl rfl)
theorem dX3_rectangleCount_39 : decode cX3_rectangleCount 39 = .ok (.if_icmp .ne 7, 3) := dk_160 0 7 (dk_at dksX3_rectangleCount_1 16 rfl rfl)
theorem dX3_rectangleCount_42 : decode cX3_rectangleCount 42 = .ok (.iconst 0, 1) := dk_3 (dk_at dksX3_rectangleCount_1 19 rfl rfl)
theorem dX3_rectangleCount_43 : decode cX3_rectangleCount 43 = .ok (.goto 15, 3) := dk_167 0 15 (dk_at dksX3_rectangleCount_1 20 rfl rfl)
theorem dX3_rectangleCount_46 : decode cX3_rectangleCount 46 = .ok (.iload 4, 2) := dk_21 4 (dk_at dksX3_rectangleCount_2 0 rfl rfl)
theorem dX3_rectangleCount_48 : decode cX3_rectangleCount 48 = .ok (.iload 4, 2) := dk_21 4 (dk_at dksX3_rectangleCount_2 2 rfl rfl)
theorem dX3_rectangleCount_50 : decode cX3_rectangleCount 50 = .ok (.iconst 1, 1) := dk_4 (dk_at dksX3_rectangleCount_2 4 rfl rfl)
theorem dX3_rectangleCount_51 : decode cX3_rectangleCount 51 = .ok (.ishl, 1) := dk_120 (dk_at dksX3_rectangleCount_2 5 rfl rfl)
theorem dX3_rectangleCount_52 : decode cX3_rectangleCount 52 = .ok (.iconst (-1), 1) := dk_2 (dk_at dksX3_rectangleCount_2 6 rfl rfl)
theorem dX3_rectangleCount_53 : decode cX3_rectangleCount 53 = .ok (.ixor, 1) := dk_130 (dk_at dksX3_rectangleCount_2 7 rfl rfl)
theorem dX3_rectangleCount_54 : decode cX3_rectangleCount 54 = .ok (.iand, 1) := dk_126 (dk_at dksX3_rectangleCount_2 8 rfl rfl)
theorem dX3_rectangleCount_55 : decode cX3_rectangleCount 55 = .ok (.invokestatic 62, 3) := dk_184 0 62 (dk_at dksX3_rectangleCount_2 9 rfl rfl)
theorem dX3_rectangleCount_58 : decode cX3_rectangleCount 58 = .ok (.iadd, 1) := dk_96 (dk_at dksX3_rectangleCount_2 12 rfl rfl)
theorem dX3_rectangleCount_59 : decode cX3_rectangleCount 59 = .ok (.istore_n 2, 1) := dk_61 (dk_at dksX3_rectangleCount_2 13 rfl rfl)
theorem dX3_rectangleCount_60 : decode cX3_rectangleCount 60 = .ok (.iinc 3 1, 3) := dk_132 3 1 (dk_at dksX3_rectangleCount_2 14 rfl rfl)
theorem dX3_rectangleCount_63 : decode cX3_rectangleCount 63 = .ok (.goto (-49), 3) := dk_167 255 207 (dk_at dksX3_rectangleCount_2 17 rfl rfl)
theorem dX3_rectangleCount_66 : decode cX3_rectangleCount 66 = .ok (.iload_n 2, 1) := dk_28 (dk_at dksX3_rectangleCount_2 20 rfl rfl)
theorem dX3_rectangleCount_67 : decode cX3_rectangleCount 67 = .ok (.ireturn, 1) := dk_172 (dk_at dksX3_rectangleCount_2 21 rfl rfl)
abbrev cX3_partCount : ByteArray := prog_22_method_48_code
def yX3_partCount : MethodName := ⟨RX3, "partCount", "(I)I"⟩
def dkwX3_partCount_0 : List UInt8 := [42, 27, 182, 0, 130, 154, 0, 5, 3, 172, 42, 27, 182, 0, 127, 42, 3, 182, 0, 139, 172]
abbrev dktX3_partCount_0 : List UInt8 := dkwX3_partCount_0 ++ []
theorem dksX3_partCount_0 : cX3_partCount.data.toList.drop 0 = dktX3_partCount_0 := by decide +kernel
theorem dX3_partCount_0 : decode cX3_partCount 0 = .ok (.aload_n 0, 1) := dk_42 (dk_at dksX3_partCount_0 0 rfl rfl)
theorem dX3_partCount_1 : decode cX3_partCount 1 = .ok (.iload_n 1, 1) := dk_27 (dk_at dksX3_partCount_0 1 rfl rfl)
theorem dX3_partCount_2 : decode cX3_partCount 2 = .ok (.invokevirtual 130, 3) := dk_182 0 130 (dk_at dksX3_partCount_0 2 rfl rfl)
theorem dX3_partCount_5 : decode cX3_partCount 5 = .ok (.ifCond .ne 5, 3) := dk_154 0 5 (dk_at dksX3_partCount_0 5 rfl rfl)
theorem dX3_partCount_8 : decode cX3_partCount 8 = .ok (.iconst 0, 1) := dk_3 (dk_at dksX3_partCount_0 8 rfl rfl)
theorem dX3_partCount_9 : decode cX3_partCount 9 = .ok (.ireturn, 1) := dk_172 (dk_at dksX3_partCount_0 9 rfl rfl)
theorem dX3_partCount_10 : decode cX3_partCount 10 = .ok (.aload_n 0, 1) := dk_42 (dk_at dksX3_partCount_0 10 rfl rfl)
theorem dX3_partCount_11 : decode cX3_partCount 11 = .ok (.iload_n 1, 1) := dk_27 (dk_at dksX3_partCount_0 11 rfl rfl)
theorem dX3_partCount_12 : decode cX3_partCount 12 = .ok (.invokevirtual 127, 3) := dk_182 0 127 (dk_at dksX3_partCount_0 12 rfl rfl)
theorem dX3_partCount_15 : decode cX3_partCount 15 = .ok (.aload_n 0, 1) := dk_42 (dk_at dksX3_partCount_0 15 rfl rfl)
theorem dX3_partCount_16 : decode cX3_partCount 16 = .ok (.iconst 0, 1) := dk_3 (dk_at dksX3_partCount_0 16 rfl rfl)
theorem dX3_partCount_17 : decode cX3_partCount 17 = .ok (.invokevirtual 139, 3) := dk_182 0 139 (dk_at dksX3_partCount_0 17 rfl rfl)
theorem dX3_partCount_20 : decode cX3_partCount 20 = .ok (.ireturn, 1) := dk_172 (dk_at dksX3_partCount_0 20 rfl rfl)
abbrev cX3_pieces : ByteArray := prog_22_method_47_code
def yX3_pieces : MethodName := ⟨RX3, "pieces", "(Z)I"⟩
def dkwX3_pieces_4 : List UInt8 := [172]
abbrev dktX3_pieces_4 : List UInt8 := dkwX3_pieces_4 ++ []
def dkwX3_pieces_3 : List UInt8 := [46, 2, 130, 126, 79, 132, 4, 1, 167, 255, 227, 132, 2, 1, 167, 255, 180, 132, 3, 1, 167, 255, 168, 28]
abbrev dktX3_pieces_3 : List UInt8 := dkwX3_pieces_3 ++ dktX3_pieces_4
def dkwX3_pieces_2 : List UInt8 := [3, 54, 4, 21, 4, 16, 26, 162, 0, 28, 42, 180, 0, 19, 21, 4, 92, 46, 42, 180, 0, 16, 21, 4]
abbrev dktX3_pieces_2 : List UInt8 := dkwX3_pieces_2 ++ dktX3_pieces_3
def dkwX3_pieces_1 : List UInt8 := [180, 0, 16, 29, 42, 180, 0, 19, 29, 46, 42, 180, 0, 19, 29, 46, 116, 126, 79, 42, 27, 182, 0, 122]
abbrev dktX3_pieces_1 : List UInt8 := dkwX3_pieces_1 ++ dktX3_pieces_2
def dkwX3_pieces_0 : List UInt8 := [3, 61, 3, 62, 29, 16, 26, 162, 0, 88, 42, 180, 0, 19, 29, 46, 153, 0, 73, 42, 182, 0, 119, 42]
abbrev dktX3_pieces_0 : List UInt8 := dkwX3_pieces_0 ++ dktX3_pieces_1
theorem dksX3_pieces_0 : cX3_pieces.data.toList.drop 0 = dktX3_pieces_0 := by decide +kernel
theorem dksX3_pieces_1 : cX3_pieces.data.toList.drop 24 = dktX3_pieces_1 := dk_seg dksX3_pieces_0 24 rfl rfl
theorem dksX3_pieces_2 : cX3_pieces.data.toList.drop 48 = dktX3_pieces_2 := dk_seg dksX3_pieces_1 24 rfl rfl
theorem dksX3_pieces_3 : cX3_pieces.data.toList.drop 72 = dktX3_pieces_3 := dk_seg dksX3_pieces_2 24 rfl rfl
theorem dksX3_pieces_4 : cX3_pieces.data.toList.drop 96 = dktX3_pieces_4 := dk_seg dksX3_pieces_3 24 rfl rfl
theorem dX3_pieces_0 : decode cX3_pieces 0 = .ok (.iconst 0, 1) := dk_3 (dk_at dksX3_pieces_0 0 rfl rfl)
theorem dX3_pieces_1 : decode cX3_pieces 1 = .ok (.istore_n 2, 1) := dk_61 (dk_at dksX3_pieces_0 1 rfl rfl)
theorem dX3_pieces_2 : decode cX3_pieces 2 = .ok (.iconst 0, 1) := dk_3 (dk_at dksX3_pieces_0 2 rfl rfl)
theorem dX3_pieces_3 : decode cX3_pieces 3 = .ok (.istore_n 3, 1) := dk_62 (dk_at dksX3_pieces_0 3 rfl rfl)
theorem dX3_pieces_4 : decode cX3_pieces 4 = .ok (.iload_n 3, 1) := dk_29 (dk_at dksX3_pieces_0 4 rfl rfl)
theorem dX3_pieces_5 : decode cX3_pieces 5 = .ok (.bipush 26, 2) := dk_16 26 (dk_at dksX3_pieces_0 5 rfl rfl)
theorem dX3_pieces_7 : decode cX3_pieces 7 = .ok (.if_icmp .ge 88, 3) := dk_162 0 88 (dk_at dksX3_pieces_0 7 rfl rfl)
theorem dX3_pieces_10 : decode cX3_pieces 10 = .ok (.aload_n 0, 1) := dk_42 (dk_at dksX3_pieces_0 10 rfl rfl)
theorem dX3_pieces_11 : decode cX3_pieces 11 = .ok (.getfield 19, 3) := dk_180 0 19 (dk_at dksX3_pieces_0 11 rfl rfl)
theorem dX3_pieces_14 : decode cX3_pieces 14 = .ok (.iload_n 3, 1) := dk_29 (dk_at dksX3_pieces_0 14 rfl rfl)
theorem dX3_pieces_15 : decode cX3_pieces 15 = .ok (.iaload, 1) := dk_46 (dk_at dksX3_pieces_0 15 rfl rfl)
theorem dX3_pieces_16 : decode cX3_pieces 16 = .ok (.ifCond .eq 73, 3) := dk_153 0 73 (dk_at dksX3_pieces_0 16 rfl rfl)
theorem dX3_pieces_19 : decode cX3_pieces 19 = .ok (.aload_n 0, 1) := dk_42 (dk_at dksX3_pieces_0 19 rfl rfl)
theorem dX3_pieces_20 : decode cX3_pieces 20 = .ok (.invokevirtual 119, 3) := dk_182 0 119 (dk_at dksX3_pieces_0 20 rfl rfl)
theorem dX3_pieces_23 : decode cX3_pieces 23 = .ok (.aload_n 0, 1) := dk_42 (dk_at dksX3_pieces_0 23 rfl rfl)
theorem dX3_pieces_24 : decode cX3_pieces 24 = .ok (.getfield 16, 3) := dk_180 0 16 (dk_at dksX3_pieces_1 0 rfl rfl)
theorem dX3_pieces_27 : decode cX3_pieces 27 = .ok (.iload_n 3, 1) := dk_29 (dk_at dksX3_pieces_1 3 rfl rfl)
theorem dX3_pieces_28 : decode cX3_pieces 28 = .ok (.aload_n 0, 1) := dk_42 (dk_at dksX3_pieces_1 4 rfl rfl)
theorem dX3_pieces_29 : decode cX3_pieces 29 = .ok (.getfield 19, 3) := dk_180 0 19 (dk_at dksX3_pieces_1 5 rfl rfl)
theorem dX3_pieces_32 : decode cX3_pieces 32 = .ok (.iload_n 3, 1) := dk_29 (dk_at dksX3_pieces_1 8 rfl rfl)
theorem dX3_pieces_33 : decode cX3_pieces 33 = .ok (.iaload, 1) := dk_46 (dk_at dksX3_pieces_1 9 rfl rfl)
theorem dX3_pieces_34 : decode cX3_pieces 34 = .ok (.aload_n 0, 1) := dk_42 (dk_at dksX3_pieces_1 10 rfl rfl)
theorem dX3_pieces_35 : decode cX3_pieces 35 = .ok (.getfield 19, 3) := dk_180 0 19 (dk_at dksX3_pieces_1 11 rfl rfl)
theorem dX3_pieces_38 : decode cX3_pieces 38 = .ok (.iload_n 3, 1) := dk_29 (dk_at dksX3_pieces_1 14 rfl rfl)
theorem dX3_pieces_39 : decode cX3_pieces 39 = .ok (.iaload, 1) := dk_46 (dk_at dksX3_pieces_1 15 rfl rfl)
theorem dX3_pieces_40 : decode cX3_pieces 40 = .ok (.ineg, 1) := dk_116 (dk_at dksX3_pieces_1 16 rfl rfl)
theorem dX3_pieces_41 : decode cX3_pieces 41 = .ok (.iand, 1) := dk_126 (dk_at dksX3_pieces_1 17 rfl rfl)
theorem dX3_pieces_42 : decode cX3_pieces 42 = .ok (.iastore, 1) := dk_79 (dk_at dksX3_pieces_1 18 rfl rfl)
theorem dX3_pieces_43 : decode cX3_pieces 43 = .ok (.aload_n 0, 1) := dk_42 (dk_at dksX3_pieces_1 19 rfl rfl)
theorem dX3_pieces_44 : decode cX3_pieces 44 = .ok (.iload_n 1, 1) := dk_27 (dk_at dksX3_pieces_1 20 rfl rfl)
theorem dX3_pieces_45 : decode cX3_pieces 45 = .ok (.invokevirtual 122, 3) := dk_182 0 122 (dk_at dksX3_pieces_1 21 rfl rfl)
theorem dX3_pieces_48 : decode cX3_pieces 48 = .ok (.iconst 0, 1) := dk_3 (dk_at dksX3_pieces_2 0 rfl rfl)
theorem dX3_pieces_49 : decode cX3_pieces 49 = .ok (.istore 4, 2) := dk_54 4 (dk_at dksX3_pieces_2 1 rfl rfl)
theorem dX3_pieces_51 : decode cX3_pieces 51 = .ok (.iload 4, 2) := dk_21 4 (dk_at dksX3_pieces_2 3 rfl rfl)
theorem dX3_pieces_53 : decode cX3_pieces 53 = .ok (.bipush 26, 2) := dk_16 26 (dk_at dksX3_pieces_2 5 rfl rfl)
theorem dX3_pieces_55 : decode cX3_pieces 55 = .ok (.if_icmp .ge 28, 3) := dk_162 0 28 (dk_at dksX3_pieces_2 7 rfl rfl)
theorem dX3_pieces_58 : decode cX3_pieces 58 = .ok (.aload_n 0, 1) := dk_42 (dk_at dksX3_pieces_2 10 rfl rfl)
theorem dX3_pieces_59 : decode cX3_pieces 59 = .ok (.getfield 19, 3) := dk_180 0 19 (dk_at dksX3_pieces_2 11 rfl rfl)
theorem dX3_pieces_62 : decode cX3_pieces 62 = .ok (.iload 4, 2) := dk_21 4 (dk_at dksX3_pieces_2 14 rfl rfl)
theorem dX3_pieces_64 : decode cX3_pieces 64 = .ok (.dup2, 1) := dk_92 (dk_at dksX3_pieces_2 16 rfl rfl)
theorem dX3_pieces_65 : decode cX3_pieces 65 = .ok (.iaload, 1) := dk_46 (dk_at dksX3_pieces_2 17 rfl rfl)
theorem dX3_pieces_66 : decode cX3_pieces 66 = .ok (.aload_n 0, 1) := dk_42 (dk_at dksX3_pieces_2 18 rfl rfl)
theorem dX3_pieces_67 : decode cX3_pieces 67 = .ok (.getfield 16, 3) := dk_180 0 16 (dk_at dksX3_pieces_2 19 rfl rfl)
theorem dX3_pieces_70 : decode cX3_pieces 70 = .ok (.iload 4, 2) := dk_21 4 (dk_at dksX3_pieces_2 22 rfl rfl)
theorem dX3_pieces_72 : decode cX3_pieces 72 = .ok (.iaload, 1) := dk_46 (dk_at dksX3_pieces_3 0 rfl rfl)
theorem dX3_pieces_73 : decode cX3_pieces 73 = .ok (.iconst (-1), 1) := dk_2 (dk_at dksX3_pieces_3 1 rfl rfl)
theorem dX3_pieces_74 : decode cX3_pieces 74 = .ok (.ixor, 1) := dk_130 (dk_at dksX3_pieces_3 2 rfl rfl)
theorem dX3_pieces_75 : decode cX3_pieces 75 = .ok (.iand, 1) := dk_126 (dk_at dksX3_pieces_3 3 rfl rfl)
theorem dX3_pieces_76 : decode cX3_pieces 76 = .ok (.iastore, 1) := dk_79 (dk_at dksX3_pieces_3 4 rfl rfl)
theorem dX3_pieces_77 : decode cX3_pieces 77 = .ok (.iinc 4 1, 3) := dk_132 4 1 (dk_at dksX3_pieces_3 5 rfl rfl)
theorem dX3_pieces_80 : decode cX3_pieces 80 = .ok (.goto (-29), 3) := dk_167 255 227 (dk_at dksX3_pieces_3 8 rfl rfl)
theorem dX3_pieces_83 : decode cX3_pieces 83 = .ok (.iinc 2 1, 3) := dk_132 2 1 (dk_at dksX3_pieces_3 11 rfl rfl)
theorem dX3_pieces_86 : decode cX3_pieces 86 = .ok (.goto (-76), 3) := dk_167 255 180 (dk_at dksX3_pieces_3 14 rfl rfl)
theorem dX3_pieces_89 : decode cX3_pieces 89 = .ok (.iinc 3 1, 3) := dk_132 3 1 (dk_at dksX3_pieces_3 17 rfl rfl)
theorem dX3_pieces_92 : decode cX3_pieces 92 = .ok (.goto (-88), 3) := dk_167 255 168 (dk_at dksX3_pieces_3 20 rfl rfl)
theorem dX3_pieces_95 : decode cX3_pieces 95 = .ok (.iload_n 2, 1) := dk_28 (dk_at dksX3_pieces_3 23 rfl rfl)
theorem dX3_pieces_96 : decode cX3_pieces 96 = .ok (.ireturn, 1) := dk_172 (dk_at dksX3_pieces_4 0 rfl rfl)
abbrev cX3_partCountByCells : ByteArray := prog_22_method_49_code
def yX3_partCountByCells : MethodName := ⟨RX3, "partCountByCells", "(I)I"⟩
def dkwX3_partCountByCells_0 : List UInt8 := [42, 27, 182, 0, 143, 172]
abbrev dktX3_partCountByCells_0 : List UInt8 := dkwX3_partCountByCells_0 ++ []
theorem dksX3_partCountByCells_0 : cX3_partCountByCells.data.toList.drop 0 = dktX3_partCountByCells_0 := by decide +kernel
theorem dX3_partCountByCells_0 : decode cX3_partCountByCells 0 = .ok (.aload_n 0, 1) := dk_42 (dk_at dksX3_partCountByCells_0 0 rfl rfl)
theorem dX3_partCountByCells_1 : decode cX3_partCountByCells 1 = .ok (.iload_n 1, 1) := dk_27 (dk_at dksX3_partCountByCells_0 1 rfl rfl)
theorem dX3_partCountByCells_2 : decode cX3_partCountByCells 2 = .ok (.invokevirtual 143, 3) := dk_182 0 143 (dk_at dksX3_partCountByCells_0 2 rfl rfl)
theorem dX3_partCountByCells_5 : decode cX3_partCountByCells 5 = .ok (.ireturn, 1) := dk_172 (dk_at dksX3_partCountByCells_0 5 rfl rfl)
abbrev cX3_holeCount : ByteArray := prog_22_method_50_code
def yX3_holeCount : MethodName := ⟨RX3, "holeCount", "(I)I"⟩
def dkwX3_holeCount_0 : List UInt8 := [42, 27, 182, 0, 130, 154, 0, 5, 3, 172, 42, 27, 182, 0, 115, 42, 4, 182, 0, 139, 4, 100, 172]
abbrev dktX3_holeCount_0 : List UInt8 := dkwX3_holeCount_0 ++ []
theorem dksX3_holeCount_0 : cX3_holeCount.data.toList.drop 0 = dktX3_holeCount_0 := by decide +kernel
theorem dX3_holeCount_0 : decode cX3_holeCount 0 = .ok (.aload_n 0, 1) := dk_42 (dk_at dksX3_holeCount_0 0 rfl rfl)
theorem dX3_holeCount_1 : decode cX3_holeCount 1 = .ok (.iload_n 1, 1) := dk_27 (dk_at dksX3_holeCount_0 1 rfl rfl)
theorem dX3_holeCount_2 : decode cX3_holeCount 2 = .ok (.invokevirtual 130, 3) := dk_182 0 130 (dk_at dksX3_holeCount_0 2 rfl rfl)
theorem dX3_holeCount_5 : decode cX3_holeCount 5 = .ok (.ifCond .ne 5, 3) := dk_154 0 5 (dk_at dksX3_holeCount_0 5 rfl rfl)
theorem dX3_holeCount_8 : decode cX3_holeCount 8 = .ok (.iconst 0, 1) := dk_3 (dk_at dksX3_holeCount_0 8 rfl rfl)
theorem dX3_holeCount_9 : decode cX3_holeCount 9 = .ok (.ireturn, 1) := dk_172 (dk_at dksX3_holeCount_0 9 rfl rfl)
theorem dX3_holeCount_10 : decode cX3_holeCount 10 = .ok (.aload_n 0, 1) := dk_42 (dk_at dksX3_holeCount_0 10 rfl rfl)
theorem dX3_holeCount_11 : decode cX3_holeCount 11 = .ok (.iload_n 1, 1) := dk_27 (dk_at dksX3_holeCount_0 11 rfl rfl)
theorem dX3_holeCount_12 : decode cX3_holeCount 12 = .ok (.invokevirtual 115, 3) := dk_182 0 115 (dk_at dksX3_holeCount_0 12 rfl rfl)
theorem dX3_holeCount_15 : decode cX3_holeCount 15 = .ok (.aload_n 0, 1) := dk_42 (dk_at dksX3_holeCount_0 15 rfl rfl)
theorem dX3_holeCount_16 : decode cX3_holeCount 16 = .ok (.iconst 1, 1) := dk_4 (dk_at dksX3_holeCount_0 16 rfl rfl)
theorem dX3_holeCount_17 : decode cX3_holeCount 17 = .ok (.invokevirtual 139, 3) := dk_182 0 139 (dk_at dksX3_holeCount_0 17 rfl rfl)
theorem dX3_holeCount_20 : decode cX3_holeCount 20 = .ok (.iconst 1, 1) := dk_4 (dk_at dksX3_holeCount_0 20 rfl rfl)
theorem dX3_holeCount_21 : decode cX3_holeCount 21 = .ok (.isub, 1) := dk_100 (dk_at dksX3_holeCount_0 21 rfl rfl)
theorem dX3_holeCount_22 : decode cX3_holeCount 22 = .ok (.ireturn, 1) := dk_172 (dk_at dksX3_holeCount_0 22 rfl rfl)
abbrev cX3_holeCountByCells : ByteArray := prog_22_method_51_code
def yX3_holeCountByCells : MethodName := ⟨RX3, "holeCountByCells", "(I)I"⟩
def dkwX3_holeCountByCells_0 : List UInt8 := [42, 27, 182, 0, 146, 172]
abbrev dktX3_holeCountByCells_0 : List UInt8 := dkwX3_holeCountByCells_0 ++ []
theorem dksX3_holeCountByCells_0 : cX3_holeCountByCells.data.toList.drop 0 = dktX3_holeCountByCells_0 := by decide +kernel
theorem dX3_holeCountByCells_0 : decode cX3_holeCountByCells 0 = .ok (.aload_n 0, 1) := dk_42 (dk_at dksX3_holeCountByCells_0 0 rfl rfl)
theorem dX3_holeCountByCells_1 : decode cX3_holeCountByCells 1 = .ok (.iload_n 1, 1) := dk_27 (dk_at dksX3_holeCountByCells_0 1 rfl rfl)
theorem dX3_holeCountByCells_2 : decode cX3_holeCountByCells 2 = .ok (.invokevirtual 146, 3) := dk_182 0 146 (dk_at dksX3_holeCountByCells_0 2 rfl rfl)
theorem dX3_holeCountByCells_5 : decode cX3_holeCountByCells 5 = .ok (.ireturn, 1) := dk_172 (dk_at dksX3_holeCountByCells_0 5 rfl rfl)
abbrev cX3_isSame : ByteArray := prog_22_method_52_code
def yX3_isSame : MethodName := ⟨RX3, "isSame", "(II)Z"⟩
def dkwX3_isSame_3 : List UInt8 := [3, 62, 132, 4, 1, 167, 255, 219, 29, 172]
abbrev dktX3_isSame_3 : List UInt8 := dkwX3_isSame_3 ++ []
def dkwX3_isSame_2 : List UInt8 := [153, 0, 32, 42, 27, 21, 4, 182, 0, 58, 42, 28, 21, 4, 182, 0, 58, 160, 0, 7, 4, 167, 0, 4]
abbrev dktX3_isSame_2 : List UInt8 := dkwX3_isSame_2 ++ dktX3_isSame_3
def dkwX3_isSame_1 : List UInt8 := [180, 0, 46, 154, 0, 7, 4, 167, 0, 4, 3, 62, 3, 54, 4, 21, 4, 16, 24, 162, 0, 36, 29]
abbrev dktX3_isSame_1 : List UInt8 := dkwX3_isSame_1 ++ dktX3_isSame_2
def dkwX3_isSame_0 : List UInt8 := [42, 27, 184, 0, 69, 153, 0, 10, 28, 184, 0, 69, 154, 0, 7, 4, 167, 0, 4, 3, 181, 0, 46, 42]
abbrev dktX3_isSame_0 : List UInt8 := dkwX3_isSame_0 ++ dktX3_isSame_1
theorem dksX3_isSame_0 : cX3_isSame.data.toList.drop 0 = dktX3_isSame_0 := by decide +kernel
theorem dksX3_isSame_1 : cX3_isSame.data.toList.drop 24 = dktX3_isSame_1 := dk_seg dksX3_isSame_0 24 rfl rfl
theorem dksX3_isSame_2 : cX3_isSame.data.toList.drop 47 = dktX3_isSame_2 := dk_seg dksX3_isSame_1 23 rfl rfl
theorem dksX3_isSame_3 : cX3_isSame.data.toList.drop 71 = dktX3_isSame_3 := dk_seg dksX3_isSame_2 24 rfl rfl
theorem dX3_isSame_0 : decode cX3_isSame 0 = .ok (.aload_n 0, 1) := dk_42 (dk_at dksX3_isSame_0 0 rfl rfl)
theorem dX3_isSame_1 : decode cX3_isSame 1 = .ok (.iload_n 1, 1) := dk_27 (dk_at dksX3_isSame_0 1 rfl rfl)
theorem dX3_isSame_2 : decode cX3_isSame 2 = .ok (.invokestatic 69, 3) := dk_184 0 69 (dk_at dksX3_isSame_0 2 rfl rfl)
theorem dX3_isSame_5 : decode cX3_isSame 5 = .ok (.ifCond .eq 10, 3) := dk_153 0 10 (dk_at dksX3_isSame_0 5 rfl rfl)
theorem dX3_isSame_8 : decode cX3_isSame 8 = .ok (.iload_n 2, 1) := dk_28 (dk_at dksX3_isSame_0 8 rfl rfl)
theorem dX3_isSame_9 : decode cX3_isSame 9 = .ok (.invokestatic 69, 3) := dk_184 0 69 (dk_at dksX3_isSame_0 9 rfl rfl)
theorem dX3_isSame_12 : decode cX3_isSame 12 = .ok (.ifCond .ne 7, 3) := dk_154 0 7 (dk_at dksX3_isSame_0 12 rfl rfl)
theorem dX3_isSame_15 : decode cX3_isSame 15 = .ok (.iconst 1, 1) := dk_4 (dk_at dksX3_isSame_0 15 rfl rfl)
theorem dX3_isSame_16 : decode cX3_isSame 16 = .ok (.goto 4, 3) := dk_167 0 4 (dk_at dksX3_isSame_0 16 rfl rfl)
theorem dX3_isSame_19 : decode cX3_isSame 19 = .ok (.iconst 0, 1) := dk_3 (dk_at dksX3_isSame_0 19 rfl rfl)
theorem dX3_isSame_20 : decode cX3_isSame 20 = .ok (.putfield 46, 3) := dk_181 0 46 (dk_at dksX3_isSame_0 20 rfl rfl)
theorem dX3_isSame_23 : decode cX3_isSame 23 = .ok (.aload_n 0, 1) := dk_42 (dk_at dksX3_isSame_0 23 rfl rfl)
theorem dX3_isSame_24 : decode cX3_isSame 24 = .ok (.getfield 46, 3) := dk_180 0 46 (dk_at dksX3_isSame_1 0 rfl rfl)
theorem dX3_isSame_27 : decode cX3_isSame 27 = .ok (.ifCond .ne 7, 3) := dk_154 0 7 (dk_at dksX3_isSame_1 3 rfl rfl)
theorem dX3_isSame_30 : decode cX3_isSame 30 = .ok (.iconst 1, 1) := dk_4 (dk_at dksX3_isSame_1 6 rfl rfl)
theorem dX3_isSame_31 : decode cX3_isSame 31 = .ok (.goto 4, 3) := dk_167 0 4 (dk_at dksX3_isSame_1 7 rfl rfl)
theorem dX3_isSame_34 : decode cX3_isSame 34 = .ok (.iconst 0, 1) := dk_3 (dk_at dksX3_isSame_1 10 rfl rfl)
theorem dX3_isSame_35 : decode cX3_isSame 35 = .ok (.istore_n 3, 1) := dk_62 (dk_at dksX3_isSame_1 11 rfl rfl)
theorem dX3_isSame_36 : decode cX3_isSame 36 = .ok (.iconst 0, 1) := dk_3 (dk_at dksX3_isSame_1 12 rfl rfl)
theorem dX3_isSame_37 : decode cX3_isSame 37 = .ok (.istore 4, 2) := dk_54 4 (dk_at dksX3_isSame_1 13 rfl rfl)
theorem dX3_isSame_39 : decode cX3_isSame 39 = .ok (.iload 4, 2) := dk_21 4 (dk_at dksX3_isSame_1 15 rfl rfl)
theorem dX3_isSame_41 : decode cX3_isSame 41 = .ok (.bipush 24, 2) := dk_16 24 (dk_at dksX3_isSame_1 17 rfl rfl)
theorem dX3_isSame_43 : decode cX3_isSame 43 = .ok (.if_icmp .ge 36, 3) := dk_162 0 36 (dk_at dksX3_isSame_1 19 rfl rfl)
theorem dX3_isSame_46 : decode cX3_isSame 46 = .ok (.iload_n 3, 1) := dk_29 (dk_at dksX3_isSame_1 22 rfl rfl)
theorem dX3_isSame_47 : decode cX3_isSame 47 = .ok (.ifCond .eq 32, 3) := dk_153 0 32 (dk_at dksX3_isSame_2 0 rfl rfl)
theorem dX3_isSame_50 : decode cX3_isSame 50 = .ok (.aload_n 0, 1) := dk_42 (dk_at dksX3_isSame_2 3 rfl rfl)
theorem dX3_isSame_51 : decode cX3_isSame 51 = .ok (.iload_n 1, 1) := dk_27 (dk_at dksX3_isSame_2 4 rfl rfl)
theorem dX3_isSame_52 : decode cX3_isSame 52 = .ok (.iload 4, 2) := dk_21 4 (dk_at dksX3_isSame_2 5 rfl rfl)
theorem dX3_isSame_54 : decode cX3_isSame 54 = .ok (.invokevirtual 58, 3) := dk_182 0 58 (dk_at dksX3_isSame_2 7 rfl rfl)
theorem dX3_isSame_57 : decode cX3_isSame 57 = .ok (.aload_n 0, 1) := dk_42 (dk_at dksX3_isSame_2 10 rfl rfl)
theorem dX3_isSame_58 : decode cX3_isSame 58 = .ok (.iload_n 2, 1) := dk_28 (dk_at dksX3_isSame_2 11 rfl rfl)
theorem dX3_isSame_59 : decode cX3_isSame 59 = .ok (.iload 4, 2) := dk_21 4 (dk_at dksX3_isSame_2 12 rfl rfl)
theorem dX3_isSame_61 : decode cX3_isSame 61 = .ok (.invokevirtual 58, 3) := dk_182 0 58 (dk_at dksX3_isSame_2 14 rfl rfl)
theorem dX3_isSame_64 : decode cX3_isSame 64 = .ok (.if_icmp .ne 7, 3) := dk_160 0 7 (dk_at dksX3_isSame_2 17 rfl rfl)
theorem dX3_isSame_67 : decode cX3_isSame 67 = .ok (.iconst 1, 1) := dk_4 (dk_at dksX3_isSame_2 20 rfl rfl)
theorem dX3_isSame_68 : decode cX3_isSame 68 = .ok (.goto 4, 3) := dk_167 0 4 (dk_at dksX3_isSame_2 21 rfl rfl)
theorem dX3_isSame_71 : decode cX3_isSame 71 = .ok (.iconst 0, 1) := dk_3 (dk_at dksX3_isSame_3 0 rfl rfl)
theorem dX3_isSame_72 : decode cX3_isSame 72 = .ok (.istore_n 3, 1) := dk_62 (dk_at dksX3_isSame_3 1 rfl rfl)
theorem dX3_isSame_73 : decode cX3_isSame 73 = .ok (.iinc 4 1, 3) := dk_132 4 1 (dk_at dksX3_isSame_3 2 rfl rfl)
theorem dX3_isSame_76 : decode cX3_isSame 76 = .ok (.goto (-37), 3) := dk_167 255 219 (dk_at dksX3_isSame_3 5 rfl rfl)
theorem dX3_isSame_79 : decode cX3_isSame 79 = .ok (.iload_n 3, 1) := dk_29 (dk_at dksX3_isSame_3 8 rfl rfl)
theorem dX3_isSame_80 : decode cX3_isSame 80 = .ok (.ireturn, 1) := dk_172 (dk_at dksX3_isSame_3 9 rfl rfl)
abbrev cX3_covers : ByteArray := prog_22_method_53_code
def yX3_covers : MethodName := ⟨RX3, "covers", "(II)Z"⟩
def dkwX3_covers_3 : List UInt8 := [167, 0, 4, 3, 62, 132, 4, 1, 167, 255, 216, 29, 172]
abbrev dktX3_covers_3 : List UInt8 := dkwX3_covers_3 ++ []
def dkwX3_covers_2 : List UInt8 := [153, 0, 35, 42, 28, 21, 4, 182, 0, 58, 42, 27, 21, 4, 182, 0, 58, 2, 130, 126, 154, 0, 7, 4]
abbrev dktX3_covers_2 : List UInt8 := dkwX3_covers_2 ++ dktX3_covers_3
def dkwX3_covers_1 : List UInt8 := [180, 0, 46, 154, 0, 7, 4, 167, 0, 4, 3, 62, 3, 54, 4, 21, 4, 16, 24, 162, 0, 39, 29]
abbrev dktX3_covers_1 : List UInt8 := dkwX3_covers_1 ++ dktX3_covers_2
def dkwX3_covers_0 : List UInt8 := [42, 27, 184, 0, 69, 153, 0, 10, 28, 184, 0, 69, 154, 0, 7, 4, 167, 0, 4, 3, 181, 0, 46, 42]
abbrev dktX3_covers_0 : List UInt8 := dkwX3_covers_0 ++ dktX3_covers_1
theorem dksX3_covers_0 : cX3_covers.data.toList.drop 0 = dktX3_covers_0 := by decide +kernel
theorem dksX3_covers_1 : cX3_covers.data.toList.drop 24 = dktX3_covers_1 := dk_seg dksX3_covers_0 24 rfl rfl
theorem dksX3_covers_2 : cX3_covers.data.toList.drop 47 = dktX3_covers_2 := dk_seg dksX3_covers_1 23 rfl rfl
theorem dksX3_covers_3 : cX3_covers.data.toList.drop 71 = dktX3_covers_3 := dk_seg dksX3_covers_2 24 rfl rfl
theorem dX3_covers_0 : decode cX3_covers 0 = .ok (.aload_n 0, 1) := dk_42 (dk_at dksX3_covers_0 0 rfl rfl)
theorem dX3_covers_1 : decode cX3_covers 1 = .ok (.iload_n 1, 1) := dk_27 (dk_at dksX3_covers_0 1 rfl rfl)
theorem dX3_covers_2 : decode cX3_covers 2 = .ok (.invokestatic 69, 3) := dk_184 0 69 (dk_at dksX3_covers_0 2 rfl rfl)
theorem dX3_covers_5 : decode cX3_covers 5 = .ok (.ifCond .eq 10, 3) := dk_153 0 10 (dk_at dksX3_covers_0 5 rfl rfl)
theorem dX3_covers_8 : decode cX3_covers 8 = .ok (.iload_n 2, 1) := dk_28 (dk_at dksX3_covers_0 8 rfl rfl)
theorem dX3_covers_9 : decode cX3_covers 9 = .ok (.invokestatic 69, 3) := dk_184 0 69 (dk_at dksX3_covers_0 9 rfl rfl)
theorem dX3_covers_12 : decode cX3_covers 12 = .ok (.ifCond .ne 7, 3) := dk_154 0 7 (dk_at dksX3_covers_0 12 rfl rfl)
theorem dX3_covers_15 : decode cX3_covers 15 = .ok (.iconst 1, 1) := dk_4 (dk_at dksX3_covers_0 15 rfl rfl)
theorem dX3_covers_16 : decode cX3_covers 16 = .ok (.goto 4, 3) := dk_167 0 4 (dk_at dksX3_covers_0 16 rfl rfl)
theorem dX3_covers_19 : decode cX3_covers 19 = .ok (.iconst 0, 1) := dk_3 (dk_at dksX3_covers_0 19 rfl rfl)
theorem dX3_covers_20 : decode cX3_covers 20 = .ok (.putfield 46, 3) := dk_181 0 46 (dk_at dksX3_covers_0 20 rfl rfl)
theorem dX3_covers_23 : decode cX3_covers 23 = .ok (.aload_n 0, 1) := dk_42 (dk_at dksX3_covers_0 23 rfl rfl)
theorem dX3_covers_24 : decode cX3_covers 24 = .ok (.getfield 46, 3) := dk_180 0 46 (dk_at dksX3_covers_1 0 rfl rfl)
theorem dX3_covers_27 : decode cX3_covers 27 = .ok (.ifCond .ne 7, 3) := dk_154 0 7 (dk_at dksX3_covers_1 3 rfl rfl)
theorem dX3_covers_30 : decode cX3_covers 30 = .ok (.iconst 1, 1) := dk_4 (dk_at dksX3_covers_1 6 rfl rfl)
theorem dX3_covers_31 : decode cX3_covers 31 = .ok (.goto 4, 3) := dk_167 0 4 (dk_at dksX3_covers_1 7 rfl rfl)
theorem dX3_covers_34 : decode cX3_covers 34 = .ok (.iconst 0, 1) := dk_3 (dk_at dksX3_covers_1 10 rfl rfl)
theorem dX3_covers_35 : decode cX3_covers 35 = .ok (.istore_n 3, 1) := dk_62 (dk_at dksX3_covers_1 11 rfl rfl)
theorem dX3_covers_36 : decode cX3_covers 36 = .ok (.iconst 0, 1) := dk_3 (dk_at dksX3_covers_1 12 rfl rfl)
theorem dX3_covers_37 : decode cX3_covers 37 = .ok (.istore 4, 2) := dk_54 4 (dk_at dksX3_covers_1 13 rfl rfl)
theorem dX3_covers_39 : decode cX3_covers 39 = .ok (.iload 4, 2) := dk_21 4 (dk_at dksX3_covers_1 15 rfl rfl)
theorem dX3_covers_41 : decode cX3_covers 41 = .ok (.bipush 24, 2) := dk_16 24 (dk_at dksX3_covers_1 17 rfl rfl)
theorem dX3_covers_43 : decode cX3_covers 43 = .ok (.if_icmp .ge 39, 3) := dk_162 0 39 (dk_at dksX3_covers_1 19 rfl rfl)
theorem dX3_covers_46 : decode cX3_covers 46 = .ok (.iload_n 3, 1) := dk_29 (dk_at dksX3_covers_1 22 rfl rfl)
theorem dX3_covers_47 : decode cX3_covers 47 = .ok (.ifCond .eq 35, 3) := dk_153 0 35 (dk_at dksX3_covers_2 0 rfl rfl)
theorem dX3_covers_50 : decode cX3_covers 50 = .ok (.aload_n 0, 1) := dk_42 (dk_at dksX3_covers_2 3 rfl rfl)
theorem dX3_covers_51 : decode cX3_covers 51 = .ok (.iload_n 2, 1) := dk_28 (dk_at dksX3_covers_2 4 rfl rfl)
theorem dX3_covers_52 : decode cX3_covers 52 = .ok (.iload 4, 2) := dk_21 4 (dk_at dksX3_covers_2 5 rfl rfl)
theorem dX3_covers_54 : decode cX3_covers 54 = .ok (.invokevirtual 58, 3) := dk_182 0 58 (dk_at dksX3_covers_2 7 rfl rfl)
theorem dX3_covers_57 : decode cX3_covers 57 = .ok (.aload_n 0, 1) := dk_42 (dk_at dksX3_covers_2 10 rfl rfl)
theorem dX3_covers_58 : decode cX3_covers 58 = .ok (.iload_n 1, 1) := dk_27 (dk_at dksX3_covers_2 11 rfl rfl)
theorem dX3_covers_59 : decode cX3_covers 59 = .ok (.iload 4, 2) := dk_21 4 (dk_at dksX3_covers_2 12 rfl rfl)
theorem dX3_covers_61 : decode cX3_covers 61 = .ok (.invokevirtual 58, 3) := dk_182 0 58 (dk_at dksX3_covers_2 14 rfl rfl)
theorem dX3_covers_64 : decode cX3_covers 64 = .ok (.iconst (-1), 1) := dk_2 (dk_at dksX3_covers_2 17 rfl rfl)
theorem dX3_covers_65 : decode cX3_covers 65 = .ok (.ixor, 1) := dk_130 (dk_at dksX3_covers_2 18 rfl rfl)
theorem dX3_covers_66 : decode cX3_covers 66 = .ok (.iand, 1) := dk_126 (dk_at dksX3_covers_2 19 rfl rfl)
theorem dX3_covers_67 : decode cX3_covers 67 = .ok (.ifCond .ne 7, 3) := dk_154 0 7 (dk_at dksX3_covers_2 20 rfl rfl)
theorem dX3_covers_70 : decode cX3_covers 70 = .ok (.iconst 1, 1) := dk_4 (dk_at dksX3_covers_2 23 rfl rfl)
theorem dX3_covers_71 : decode cX3_covers 71 = .ok (.goto 4, 3) := dk_167 0 4 (dk_at dksX3_covers_3 0 rfl rfl)
theorem dX3_covers_74 : decode cX3_covers 74 = .ok (.iconst 0, 1) := dk_3 (dk_at dksX3_covers_3 3 rfl rfl)
theorem dX3_covers_75 : decode cX3_covers 75 = .ok (.istore_n 3, 1) := dk_62 (dk_at dksX3_covers_3 4 rfl rfl)
theorem dX3_covers_76 : decode cX3_covers 76 = .ok (.iinc 4 1, 3) := dk_132 4 1 (dk_at dksX3_covers_3 5 rfl rfl)
theorem dX3_covers_79 : decode cX3_covers 79 = .ok (.goto (-40), 3) := dk_167 255 216 (dk_at dksX3_covers_3 8 rfl rfl)
theorem dX3_covers_82 : decode cX3_covers 82 = .ok (.iload_n 3, 1) := dk_29 (dk_at dksX3_covers_3 11 rfl rfl)
theorem dX3_covers_83 : decode cX3_covers 83 = .ok (.ireturn, 1) := dk_172 (dk_at dksX3_covers_3 12 rfl rfl)
abbrev cX3_left : ByteArray := prog_22_method_56_code
def yX3_left : MethodName := ⟨RX3, "left", "(I)I"⟩
def dkwX3_left_1 : List UInt8 := [132, 2, 1, 167, 255, 241, 28, 172]
abbrev dktX3_left_1 : List UInt8 := dkwX3_left_1 ++ []
def dkwX3_left_0 : List UInt8 := [42, 27, 182, 0, 149, 154, 0, 5, 3, 172, 3, 61, 42, 27, 182, 0, 152, 28, 122, 4, 126, 154, 0, 9]
abbrev dktX3_left_0 : List UInt8 := dkwX3_left_0 ++ dktX3_left_1
theorem dksX3_left_0 : cX3_left.data.toList.drop 0 = dktX3_left_0 := by decide +kernel
theorem dksX3_left_1 : cX3_left.data.toList.drop 24 = dktX3_left_1 := dk_seg dksX3_left_0 24 rfl rfl
theorem dX3_left_0 : decode cX3_left 0 = .ok (.aload_n 0, 1) := dk_42 (dk_at dksX3_left_0 0 rfl rfl)
theorem dX3_left_1 : decode cX3_left 1 = .ok (.iload_n 1, 1) := dk_27 (dk_at dksX3_left_0 1 rfl rfl)
theorem dX3_left_2 : decode cX3_left 2 = .ok (.invokevirtual 149, 3) := dk_182 0 149 (dk_at dksX3_left_0 2 rfl rfl)
theorem dX3_left_5 : decode cX3_left 5 = .ok (.ifCond .ne 5, 3) := dk_154 0 5 (dk_at dksX3_left_0 5 rfl rfl)
theorem dX3_left_8 : decode cX3_left 8 = .ok (.iconst 0, 1) := dk_3 (dk_at dksX3_left_0 8 rfl rfl)
theorem dX3_left_9 : decode cX3_left 9 = .ok (.ireturn, 1) := dk_172 (dk_at dksX3_left_0 9 rfl rfl)
theorem dX3_left_10 : decode cX3_left 10 = .ok (.iconst 0, 1) := dk_3 (dk_at dksX3_left_0 10 rfl rfl)
theorem dX3_left_11 : decode cX3_left 11 = .ok (.istore_n 2, 1) := dk_61 (dk_at dksX3_left_0 11 rfl rfl)
theorem dX3_left_12 : decode cX3_left 12 = .ok (.aload_n 0, 1) := dk_42 (dk_at dksX3_left_0 12 rfl rfl)
theorem dX3_left_13 : decode cX3_left 13 = .ok (.iload_n 1, 1) := dk_27 (dk_at dksX3_left_0 13 rfl rfl)
theorem dX3_left_14 : decode cX3_left 14 = .ok (.invokevirtual 152, 3) := dk_182 0 152 (dk_at dksX3_left_0 14 rfl rfl)
theorem dX3_left_17 : decode cX3_left 17 = .ok (.iload_n 2, 1) := dk_28 (dk_at dksX3_left_0 17 rfl rfl)
theorem dX3_left_18 : decode cX3_left 18 = .ok (.ishr, 1) := dk_122 (dk_at dksX3_left_0 18 rfl rfl)
theorem dX3_left_19 : decode cX3_left 19 = .ok (.iconst 1, 1) := dk_4 (dk_at dksX3_left_0 19 rfl rfl)
theorem dX3_left_20 : decode cX3_left 20 = .ok (.iand, 1) := dk_126 (dk_at dksX3_left_0 20 rfl rfl)
theorem dX3_left_21 : decode cX3_left 21 = .ok (.ifCond .ne 9, 3) := dk_154 0 9 (dk_at dksX3_left_0 21 rfl rfl)
theorem dX3_left_24 : decode cX3_left 24 = .ok (.iinc 2 1, 3) := dk_132 2 1 (dk_at dksX3_left_1 0 rfl rfl)
theorem dX3_left_27 : decode cX3_left 27 = .ok (.goto (-15), 3) := dk_167 255 241 (dk_at dksX3_left_1 3 rfl rfl)
theorem dX3_left_30 : decode cX3_left 30 = .ok (.iload_n 2, 1) := dk_28 (dk_at dksX3_left_1 6 rfl rfl)
theorem dX3_left_31 : decode cX3_left 31 = .ok (.ireturn, 1) := dk_172 (dk_at dksX3_left_1 7 rfl rfl)
abbrev cX3_hasCells : ByteArray := prog_22_method_54_code
def yX3_hasCells : MethodName := ⟨RX3, "hasCells", "(I)Z"⟩
def dkwX3_hasCells_1 : List UInt8 := [3, 181, 0, 46, 42, 180, 0, 46, 154, 0, 7, 4, 167, 0, 4, 3, 172]
abbrev dktX3_hasCells_1 : List UInt8 := dkwX3_hasCells_1 ++ []
def dkwX3_hasCells_0 : List UInt8 := [42, 27, 184, 0, 69, 154, 0, 7, 4, 167, 0, 16, 42, 27, 182, 0, 66, 154, 0, 7, 5, 167, 0, 4]
abbrev dktX3_hasCells_0 : List UInt8 := dkwX3_hasCells_0 ++ dktX3_hasCells_1
theorem dksX3_hasCells_0 : cX3_hasCells.data.toList.drop 0 = dktX3_hasCells_0 := by decide +kernel
theorem dksX3_hasCells_1 : cX3_hasCells.data.toList.drop 24 = dktX3_hasCells_1 := dk_seg dksX3_hasCells_0 24 rfl rfl
theorem dX3_hasCells_0 : decode cX3_hasCells 0 = .ok (.aload_n 0, 1) := dk_42 (dk_at dksX3_hasCells_0 0 rfl rfl)
theorem dX3_hasCells_1 : decode cX3_hasCells 1 = .ok (.iload_n 1, 1) := dk_27 (dk_at dksX3_hasCells_0 1 rfl rfl)
theorem dX3_hasCells_2 : decode cX3_hasCells 2 = .ok (.invokestatic 69, 3) := dk_184 0 69 (dk_at dksX3_hasCells_0 2 rfl rfl)
theorem dX3_hasCells_5 : decode cX3_hasCells 5 = .ok (.ifCond .ne 7, 3) := dk_154 0 7 (dk_at dksX3_hasCells_0 5 rfl rfl)
theorem dX3_hasCells_8 : decode cX3_hasCells 8 = .ok (.iconst 1, 1) := dk_4 (dk_at dksX3_hasCells_0 8 rfl rfl)
theorem dX3_hasCells_9 : decode cX3_hasCells 9 = .ok (.goto 16, 3) := dk_167 0 16 (dk_at dksX3_hasCells_0 9 rfl rfl)
theorem dX3_hasCells_12 : decode cX3_hasCells 12 = .ok (.aload_n 0, 1) := dk_42 (dk_at dksX3_hasCells_0 12 rfl rfl)
theorem dX3_hasCells_13 : decode cX3_hasCells 13 = .ok (.iload_n 1, 1) := dk_27 (dk_at dksX3_hasCells_0 13 rfl rfl)
theorem dX3_hasCells_14 : decode cX3_hasCells 14 = .ok (.invokevirtual 66, 3) := dk_182 0 66 (dk_at dksX3_hasCells_0 14 rfl rfl)
theorem dX3_hasCells_17 : decode cX3_hasCells 17 = .ok (.ifCond .ne 7, 3) := dk_154 0 7 (dk_at dksX3_hasCells_0 17 rfl rfl)
theorem dX3_hasCells_20 : decode cX3_hasCells 20 = .ok (.iconst 2, 1) := dk_5 (dk_at dksX3_hasCells_0 20 rfl rfl)
theorem dX3_hasCells_21 : decode cX3_hasCells 21 = .ok (.goto 4, 3) := dk_167 0 4 (dk_at dksX3_hasCells_0 21 rfl rfl)
theorem dX3_hasCells_24 : decode cX3_hasCells 24 = .ok (.iconst 0, 1) := dk_3 (dk_at dksX3_hasCells_1 0 rfl rfl)
theorem dX3_hasCells_25 : decode cX3_hasCells 25 = .ok (.putfield 46, 3) := dk_181 0 46 (dk_at dksX3_hasCells_1 1 rfl rfl)
theorem dX3_hasCells_28 : decode cX3_hasCells 28 = .ok (.aload_n 0, 1) := dk_42 (dk_at dksX3_hasCells_1 4 rfl rfl)
theorem dX3_hasCells_29 : decode cX3_hasCells 29 = .ok (.getfield 46, 3) := dk_180 0 46 (dk_at dksX3_hasCells_1 5 rfl rfl)
theorem dX3_hasCells_32 : decode cX3_hasCells 32 = .ok (.ifCond .ne 7, 3) := dk_154 0 7 (dk_at dksX3_hasCells_1 8 rfl rfl)
theorem dX3_hasCells_35 : decode cX3_hasCells 35 = .ok (.iconst 1, 1) := dk_4 (dk_at dksX3_hasCells_1 11 rfl rfl)
theorem dX3_hasCells_36 : decode cX3_hasCells 36 = .ok (.goto 4, 3) := dk_167 0 4 (dk_at dksX3_hasCells_1 12 rfl rfl)
theorem dX3_hasCells_39 : decode cX3_hasCells 39 = .ok (.iconst 0, 1) := dk_3 (dk_at dksX3_hasCells_1 15 rfl rfl)
theorem dX3_hasCells_40 : decode cX3_hasCells 40 = .ok (.ireturn, 1) := dk_172 (dk_at dksX3_hasCells_1 16 rfl rfl)
abbrev cX3_shade : ByteArray := prog_22_method_55_code
def yX3_shade : MethodName := ⟨RX3, "shade", "(I)I"⟩
def dkwX3_shade_1 : List UInt8 := [167, 255, 238, 28, 172]
abbrev dktX3_shade_1 : List UInt8 := dkwX3_shade_1 ++ []
def dkwX3_shade_0 : List UInt8 := [3, 61, 3, 62, 29, 16, 24, 162, 0, 18, 28, 42, 27, 29, 182, 0, 58, 128, 61, 132, 3, 1]
abbrev dktX3_shade_0 : List UInt8 := dkwX3_shade_0 ++ dktX3_shade_1
theorem dksX3_shade_0 : cX3_shade.data.toList.drop 0 = dktX3_shade_0 := by decide +kernel
theorem dksX3_shade_1 : cX3_shade.data.toList.drop 22 = dktX3_shade_1 := dk_seg dksX3_shade_0 22 rfl rfl
theorem dX3_shade_0 : decode cX3_shade 0 = .ok (.iconst 0, 1) := dk_3 (dk_at dksX3_shade_0 0 rfl rfl)
theorem dX3_shade_1 : decode cX3_shade 1 = .ok (.istore_n 2, 1) := dk_61 (dk_at dksX3_shade_0 1 rfl rfl)
theorem dX3_shade_2 : decode cX3_shade 2 = .ok (.iconst 0, 1) := dk_3 (dk_at dksX3_shade_0 2 rfl rfl)
theorem dX3_shade_3 : decode cX3_shade 3 = .ok (.istore_n 3, 1) := dk_62 (dk_at dksX3_shade_0 3 rfl rfl)
theorem dX3_shade_4 : decode cX3_shade 4 = .ok (.iload_n 3, 1) := dk_29 (dk_at dksX3_shade_0 4 rfl rfl)
theorem dX3_shade_5 : decode cX3_shade 5 = .ok (.bipush 24, 2) := dk_16 24 (dk_at dksX3_shade_0 5 rfl rfl)
theorem dX3_shade_7 : decode cX3_shade 7 = .ok (.if_icmp .ge 18, 3) := dk_162 0 18 (dk_at dksX3_shade_0 7 rfl rfl)
theorem dX3_shade_10 : decode cX3_shade 10 = .ok (.iload_n 2, 1) := dk_28 (dk_at dksX3_shade_0 10 rfl rfl)
theorem dX3_shade_11 : decode cX3_shade 11 = .ok (.aload_n 0, 1) := dk_42 (dk_at dksX3_shade_0 11 rfl rfl)
theorem dX3_shade_12 : decode cX3_shade 12 = .ok (.iload_n 1, 1) := dk_27 (dk_at dksX3_shade_0 12 rfl rfl)
theorem dX3_shade_13 : decode cX3_shade 13 = .ok (.iload_n 3, 1) := dk_29 (dk_at dksX3_shade_0 13 rfl rfl)
theorem dX3_shade_14 : decode cX3_shade 14 = .ok (.invokevirtual 58, 3) := dk_182 0 58 (dk_at dksX3_shade_0 14 rfl rfl)
theorem dX3_shade_17 : decode cX3_shade 17 = .ok (.ior, 1) := dk_128 (dk_at dksX3_shade_0 17 rfl rfl)
theorem dX3_shade_18 : decode cX3_shade 18 = .ok (.istore_n 2, 1) := dk_61 (dk_at dksX3_shade_0 18 rfl rfl)
theorem dX3_shade_19 : decode cX3_shade 19 = .ok (.iinc 3 1, 3) := dk_132 3 1 (dk_at dksX3_shade_0 19 rfl rfl)
theorem dX3_shade_22 : decode cX3_shade 22 = .ok (.goto (-18), 3) := dk_167 255 238 (dk_at dksX3_shade_1 0 rfl rfl)
theorem dX3_shade_25 : decode cX3_shade 25 = .ok (.iload_n 2, 1) := dk_28 (dk_at dksX3_shade_1 3 rfl rfl)
theorem dX3_shade_26 : decode cX3_shade 26 = .ok (.ireturn, 1) := dk_172 (dk_at dksX3_shade_1 4 rfl rfl)
abbrev cX3_right : ByteArray := prog_22_method_57_code
def yX3_right : MethodName := ⟨RX3, "right", "(I)I"⟩
def dkwX3_right_1 : List UInt8 := [154, 0, 9, 132, 2, 255, 167, 255, 239, 28, 172]
abbrev dktX3_right_1 : List UInt8 := dkwX3_right_1 ++ []
def dkwX3_right_0 : List UInt8 := [42, 27, 182, 0, 149, 154, 0, 5, 3, 172, 16, 24, 61, 42, 27, 182, 0, 152, 28, 4, 100, 122, 4, 126]
abbrev dktX3_right_0 : List UInt8 := dkwX3_right_0 ++ dktX3_right_1
theorem dksX3_right_0 : cX3_right.data.toList.drop 0 = dktX3_right_0 := by decide +kernel
theorem dksX3_right_1 : cX3_right.data.toList.drop 24 = dktX3_right_1 := dk_seg dksX3_right_0 24 rfl rfl
theorem dX3_right_0 : decode cX3_right 0 = .ok (.aload_n 0, 1) := dk_42 (dk_at dksX3_right_0 0 rfl rfl)
theorem dX3_right_1 : decode cX3_right 1 = .ok (.iload_n 1, 1) := dk_27 (dk_at dksX3_right_0 1 rfl rfl)
theorem dX3_right_2 : decode cX3_right 2 = .ok (.invokevirtual 149, 3) := dk_182 0 149 (dk_at dksX3_right_0 2 rfl rfl)
theorem dX3_right_5 : decode cX3_right 5 = .ok (.ifCond .ne 5, 3) := dk_154 0 5 (dk_at dksX3_right_0 5 rfl rfl)
theorem dX3_right_8 : decode cX3_right 8 = .ok (.iconst 0, 1) := dk_3 (dk_at dksX3_right_0 8 rfl rfl)
theorem dX3_right_9 : decode cX3_right 9 = .ok (.ireturn, 1) := dk_172 (dk_at dksX3_right_0 9 rfl rfl)
theorem dX3_right_10 : decode cX3_right 10 = .ok (.bipush 24, 2) := dk_16 24 (dk_at dksX3_right_0 10 rfl rfl)
theorem dX3_right_12 : decode cX3_right 12 = .ok (.istore_n 2, 1) := dk_61 (dk_at dksX3_right_0 12 rfl rfl)
theorem dX3_right_13 : decode cX3_right 13 = .ok (.aload_n 0, 1) := dk_42 (dk_at dksX3_right_0 13 rfl rfl)
theorem dX3_right_14 : decode cX3_right 14 = .ok (.iload_n 1, 1) := dk_27 (dk_at dksX3_right_0 14 rfl rfl)
theorem dX3_right_15 : decode cX3_right 15 = .ok (.invokevirtual 152, 3) := dk_182 0 152 (dk_at dksX3_right_0 15 rfl rfl)
theorem dX3_right_18 : decode cX3_right 18 = .ok (.iload_n 2, 1) := dk_28 (dk_at dksX3_right_0 18 rfl rfl)
theorem dX3_right_19 : decode cX3_right 19 = .ok (.iconst 1, 1) := dk_4 (dk_at dksX3_right_0 19 rfl rfl)
theorem dX3_right_20 : decode cX3_right 20 = .ok (.isub, 1) := dk_100 (dk_at dksX3_right_0 20 rfl rfl)
theorem dX3_right_21 : decode cX3_right 21 = .ok (.ishr, 1) := dk_122 (dk_at dksX3_right_0 21 rfl rfl)
theorem dX3_right_22 : decode cX3_right 22 = .ok (.iconst 1, 1) := dk_4 (dk_at dksX3_right_0 22 rfl rfl)
theorem dX3_right_23 : decode cX3_right 23 = .ok (.iand, 1) := dk_126 (dk_at dksX3_right_0 23 rfl rfl)
theorem dX3_right_24 : decode cX3_right 24 = .ok (.ifCond .ne 9, 3) := dk_154 0 9 (dk_at dksX3_right_1 0 rfl rfl)
theorem dX3_right_27 : decode cX3_right 27 = .ok (.iinc 2 (-1), 3) := dk_132 2 255 (dk_at dksX3_right_1 3 rfl rfl)
theorem dX3_right_30 : decode cX3_right 30 = .ok (.goto (-17), 3) := dk_167 255 239 (dk_at dksX3_right_1 6 rfl rfl)
theorem dX3_right_33 : decode cX3_right 33 = .ok (.iload_n 2, 1) := dk_28 (dk_at dksX3_right_1 9 rfl rfl)
theorem dX3_right_34 : decode cX3_right 34 = .ok (.ireturn, 1) := dk_172 (dk_at dksX3_right_1 10 rfl rfl)
abbrev cX3_bottom : ByteArray := prog_22_method_58_code
def yX3_bottom : MethodName := ⟨RX3, "bottom", "(I)I"⟩
def dkwX3_bottom_1 : List UInt8 := [167, 255, 244, 28, 172]
abbrev dktX3_bottom_1 : List UInt8 := dkwX3_bottom_1 ++ []
def dkwX3_bottom_0 : List UInt8 := [42, 27, 182, 0, 149, 154, 0, 5, 3, 172, 3, 61, 42, 27, 28, 182, 0, 58, 154, 0, 9, 132, 2, 1]
abbrev dktX3_bottom_0 : List UInt8 := dkwX3_bottom_0 ++ dktX3_bottom_1
theorem dksX3_bottom_0 : cX3_bottom.data.toList.drop 0 = dktX3_bottom_0 := by decide +kernel
theorem dksX3_bottom_1 : cX3_bottom.data.toList.drop 24 = dktX3_bottom_1 := dk_seg dksX3_bottom_0 24 rfl rfl
theorem dX3_bottom_0 : decode cX3_bottom 0 = .ok (.aload_n 0, 1) := dk_42 (dk_at dksX3_bottom_0 0 rfl rfl)
theorem dX3_bottom_1 : decode cX3_bottom 1 = .ok (.iload_n 1, 1) := dk_27 (dk_at dksX3_bottom_0 1 rfl rfl)
theorem dX3_bottom_2 : decode cX3_bottom 2 = .ok (.invokevirtual 149, 3) := dk_182 0 149 (dk_at dksX3_bottom_0 2 rfl rfl)
theorem dX3_bottom_5 : decode cX3_bottom 5 = .ok (.ifCond .ne 5, 3) := dk_154 0 5 (dk_at dksX3_bottom_0 5 rfl rfl)
theorem dX3_bottom_8 : decode cX3_bottom 8 = .ok (.iconst 0, 1) := dk_3 (dk_at dksX3_bottom_0 8 rfl rfl)
theorem dX3_bottom_9 : decode cX3_bottom 9 = .ok (.ireturn, 1) := dk_172 (dk_at dksX3_bottom_0 9 rfl rfl)
theorem dX3_bottom_10 : decode cX3_bottom 10 = .ok (.iconst 0, 1) := dk_3 (dk_at dksX3_bottom_0 10 rfl rfl)
theorem dX3_bottom_11 : decode cX3_bottom 11 = .ok (.istore_n 2, 1) := dk_61 (dk_at dksX3_bottom_0 11 rfl rfl)
theorem dX3_bottom_12 : decode cX3_bottom 12 = .ok (.aload_n 0, 1) := dk_42 (dk_at dksX3_bottom_0 12 rfl rfl)
theorem dX3_bottom_13 : decode cX3_bottom 13 = .ok (.iload_n 1, 1) := dk_27 (dk_at dksX3_bottom_0 13 rfl rfl)
theorem dX3_bottom_14 : decode cX3_bottom 14 = .ok (.iload_n 2, 1) := dk_28 (dk_at dksX3_bottom_0 14 rfl rfl)
theorem dX3_bottom_15 : decode cX3_bottom 15 = .ok (.invokevirtual 58, 3) := dk_182 0 58 (dk_at dksX3_bottom_0 15 rfl rfl)
theorem dX3_bottom_18 : decode cX3_bottom 18 = .ok (.ifCond .ne 9, 3) := dk_154 0 9 (dk_at dksX3_bottom_0 18 rfl rfl)
theorem dX3_bottom_21 : decode cX3_bottom 21 = .ok (.iinc 2 1, 3) := dk_132 2 1 (dk_at dksX3_bottom_0 21 rfl rfl)
theorem dX3_bottom_24 : decode cX3_bottom 24 = .ok (.goto (-12), 3) := dk_167 255 244 (dk_at dksX3_bottom_1 0 rfl rfl)
theorem dX3_bottom_27 : decode cX3_bottom 27 = .ok (.iload_n 2, 1) := dk_28 (dk_at dksX3_bottom_1 3 rfl rfl)
theorem dX3_bottom_28 : decode cX3_bottom 28 = .ok (.ireturn, 1) := dk_172 (dk_at dksX3_bottom_1 4 rfl rfl)
abbrev cX3_top : ByteArray := prog_22_method_59_code
def yX3_top : MethodName := ⟨RX3, "top", "(I)I"⟩
def dkwX3_top_1 : List UInt8 := [132, 2, 255, 167, 255, 242, 28, 172]
abbrev dktX3_top_1 : List UInt8 := dkwX3_top_1 ++ []
def dkwX3_top_0 : List UInt8 := [42, 27, 182, 0, 149, 154, 0, 5, 3, 172, 16, 24, 61, 42, 27, 28, 4, 100, 182, 0, 58, 154, 0, 9]
abbrev dktX3_top_0 : List UInt8 := dkwX3_top_0 ++ dktX3_top_1
theorem dksX3_top_0 : cX3_top.data.toList.drop 0 = dktX3_top_0 := by decide +kernel
theorem dksX3_top_1 : cX3_top.data.toList.drop 24 = dktX3_top_1 := dk_seg dksX3_top_0 24 rfl rfl
theorem dX3_top_0 : decode cX3_top 0 = .ok (.aload_n 0, 1) := dk_42 (dk_at dksX3_top_0 0 rfl rfl)
theorem dX3_top_1 : decode cX3_top 1 = .ok (.iload_n 1, 1) := dk_27 (dk_at dksX3_top_0 1 rfl rfl)
theorem dX3_top_2 : decode cX3_top 2 = .ok (.invokevirtual 149, 3) := dk_182 0 149 (dk_at dksX3_top_0 2 rfl rfl)
theorem dX3_top_5 : decode cX3_top 5 = .ok (.ifCond .ne 5, 3) := dk_154 0 5 (dk_at dksX3_top_0 5 rfl rfl)
theorem dX3_top_8 : decode cX3_top 8 = .ok (.iconst 0, 1) := dk_3 (dk_at dksX3_top_0 8 rfl rfl)
theorem dX3_top_9 : decode cX3_top 9 = .ok (.ireturn, 1) := dk_172 (dk_at dksX3_top_0 9 rfl rfl)
theorem dX3_top_10 : decode cX3_top 10 = .ok (.bipush 24, 2) := dk_16 24 (dk_at dksX3_top_0 10 rfl rfl)
theorem dX3_top_12 : decode cX3_top 12 = .ok (.istore_n 2, 1) := dk_61 (dk_at dksX3_top_0 12 rfl rfl)
theorem dX3_top_13 : decode cX3_top 13 = .ok (.aload_n 0, 1) := dk_42 (dk_at dksX3_top_0 13 rfl rfl)
theorem dX3_top_14 : decode cX3_top 14 = .ok (.iload_n 1, 1) := dk_27 (dk_at dksX3_top_0 14 rfl rfl)
theorem dX3_top_15 : decode cX3_top 15 = .ok (.iload_n 2, 1) := dk_28 (dk_at dksX3_top_0 15 rfl rfl)
theorem dX3_top_16 : decode cX3_top 16 = .ok (.iconst 1, 1) := dk_4 (dk_at dksX3_top_0 16 rfl rfl)
theorem dX3_top_17 : decode cX3_top 17 = .ok (.isub, 1) := dk_100 (dk_at dksX3_top_0 17 rfl rfl)
theorem dX3_top_18 : decode cX3_top 18 = .ok (.invokevirtual 58, 3) := dk_182 0 58 (dk_at dksX3_top_0 18 rfl rfl)
theorem dX3_top_21 : decode cX3_top 21 = .ok (.ifCond .ne 9, 3) := dk_154 0 9 (dk_at dksX3_top_0 21 rfl rfl)
theorem dX3_top_24 : decode cX3_top 24 = .ok (.iinc 2 (-1), 3) := dk_132 2 255 (dk_at dksX3_top_1 0 rfl rfl)
theorem dX3_top_27 : decode cX3_top 27 = .ok (.goto (-14), 3) := dk_167 255 242 (dk_at dksX3_top_1 3 rfl rfl)
theorem dX3_top_30 : decode cX3_top 30 = .ok (.iload_n 2, 1) := dk_28 (dk_at dksX3_top_1 6 rfl rfl)
theorem dX3_top_31 : decode cX3_top 31 = .ok (.ireturn, 1) := dk_172 (dk_at dksX3_top_1 7 rfl rfl)
abbrev cX3_largestRectangle : ByteArray := prog_22_method_61_code
def yX3_largestRectangle : MethodName := ⟨RX3, "largestRectangle", "(I)I"⟩
def dkwX3_largestRectangle_3 : List UInt8 := [21, 6, 61, 132, 5, 1, 167, 255, 206, 132, 3, 1, 167, 255, 187, 28, 172]
abbrev dktX3_largestRectangle_3 : List UInt8 := dkwX3_largestRectangle_3 ++ []
def dkwX3_largestRectangle_2 : List UInt8 := [126, 54, 4, 21, 4, 184, 0, 155, 21, 5, 29, 100, 4, 96, 104, 54, 6, 21, 6, 28, 164, 0, 6]
abbrev dktX3_largestRectangle_2 : List UInt8 := dkwX3_largestRectangle_2 ++ dktX3_largestRectangle_3
def dkwX3_largestRectangle_1 : List UInt8 := [29, 54, 5, 21, 5, 16, 24, 162, 0, 49, 21, 4, 153, 0, 44, 21, 4, 42, 27, 21, 5, 182, 0, 58]
abbrev dktX3_largestRectangle_1 : List UInt8 := dkwX3_largestRectangle_1 ++ dktX3_largestRectangle_2
def dkwX3_largestRectangle_0 : List UInt8 := [42, 27, 182, 0, 130, 154, 0, 5, 3, 172, 3, 61, 3, 62, 29, 16, 24, 162, 0, 69, 18, 126, 54, 4]
abbrev dktX3_largestRectangle_0 : List UInt8 := dkwX3_largestRectangle_0 ++ dktX3_largestRectangle_1
theorem dksX3_largestRectangle_0 : cX3_largestRectangle.data.toList.drop 0 = dktX3_largestRectangle_0 := by decide +kernel
theorem dksX3_largestRectangle_1 : cX3_largestRectangle.data.toList.drop 24 = dktX3_largestRectangle_1 := dk_seg dksX3_largestRectangle_0 24 rfl rfl
theorem dksX3_largestRectangle_2 : cX3_largestRectangle.data.toList.drop 48 = dktX3_largestRectangle_2 := dk_seg dksX3_largestRectangle_1 24 rfl rfl
theorem dksX3_largestRectangle_3 : cX3_largestRectangle.data.toList.drop 71 = dktX3_largestRectangle_3 := dk_seg dksX3_largestRectangle_2 23 rfl rfl
theorem dX3_largestRectangle_0 : decode cX3_largestRectangle 0 = .ok (.aload_n 0, 1) := dk_42 (dk_at dksX3_largestRectangle_0 0 rfl rfl)
theorem dX3_largestRectangle_1 : decode cX3_largestRectangle 1 = .ok (.iload_n 1, 1) := dk_27 (dk_at dksX3_largestRectangle_0 1 rfl rfl)
theorem dX3_largestRectangle_2 : decode cX3_largestRectangle 2 = .ok (.invokevirtual 130, 3) := dk_182 0 130 (dk_at dksX3_largestRectangle_0 2 rfl rfl)
theorem dX3_largestRectangle_5 : decode cX3_largestRectangle 5 = .ok (.ifCond .ne 5, 3) := dk_154 0 5 (dk_at dksX3_largestRectangle_0 5 rfl rfl)
theorem dX3_largestRectangle_8 : decode cX3_largestRectangle 8 = .ok (.iconst 0, 1) := dk_3 (dk_at dksX3_largestRectangle_0 8 rfl rfl)
theorem dX3_largestRectangle_9 : decode cX3_largestRectangle 9 = .ok (.ireturn, 1) := dk_172 (dk_at dksX3_largestRectangle_0 9 rfl rfl)
theorem dX3_largestRectangle_10 : decode cX3_largestRectangle 10 = .ok (.iconst 0, 1) := dk_3 (dk_at dksX3_largestRectangle_0 10 rfl rfl)
theorem dX3_largestRectangle_11 : decode cX3_largestRectangle 11 = .ok (.istore_n 2, 1) := dk_61 (dk_at dksX3_largestRectangle_0 11 rfl rfl)
theorem dX3_largestRectangle_12 : decode cX3_largestRectangle 12 = .ok (.iconst 0, 1) := dk_3 (dk_at dksX3_largestRectangle_0 12 rfl rfl)
theorem dX3_largestRectangle_13 : decode cX3_largestRectangle 13 = .ok (.istore_n 3, 1) := dk_62 (dk_at dksX3_largestRectangle_0 13 rfl rfl)
theorem dX3_largestRectangle_14 : decode cX3_largestRectangle 14 = .ok (.iload_n 3, 1) := dk_29 (dk_at dksX3_largestRectangle_0 14 rfl rfl)
theorem dX3_largestRectangle_15 : decode cX3_largestRectangle 15 = .ok (.bipush 24, 2) := dk_16 24 (dk_at dksX3_largestRectangle_0 15 rfl rfl)
theorem dX3_largestRectangle_17 : decode cX3_largestRectangle 17 = .ok (.if_icmp .ge 69, 3) := dk_162 0 69 (dk_at dksX3_largestRectangle_0 17 rfl rfl)
theorem dX3_largestRectangle_20 : decode cX3_largestRectangle 20 = .ok (.ldc 126, 2) := dk_18 126 (dk_at dksX3_largestRectangle_0 20 rfl rfl)
theorem dX3_largestRectangle_22 : decode cX3_largestRectangle 22 = .ok (.istore 4, 2) := dk_54 4 (dk_at dksX3_largestRectangle_0 22 rfl rfl)
theorem dX3_largestRectangle_24 : decode cX3_largestRectangle 24 = .ok (.iload_n 3, 1) := dk_29 (dk_at dksX3_largestRectangle_1 0 rfl rfl)
theorem dX3_largestRectangle_25 : decode cX3_largestRectangle 25 = .ok (.istore 5, 2) := dk_54 5 (dk_at dksX3_largestRectangle_1 1 rfl rfl)
theorem dX3_largestRectangle_27 : decode cX3_largestRectangle 27 = .ok (.iload 5, 2) := dk_21 5 (dk_at dksX3_largestRectangle_1 3 rfl rfl)
theorem dX3_largestRectangle_29 : decode cX3_largestRectangle 29 = .ok (.bipush 24, 2) := dk_16 24 (dk_at dksX3_largestRectangle_1 5 rfl rfl)
theorem dX3_largestRectangle_31 : decode cX3_largestRectangle 31 = .ok (.if_icmp .ge 49, 3) := dk_162 0 49 (dk_at dksX3_largestRectangle_1 7 rfl rfl)
theorem dX3_largestRectangle_34 : decode cX3_largestRectangle 34 = .ok (.iload 4, 2) := dk_21 4 (dk_at dksX3_largestRectangle_1 10 rfl rfl)
theorem dX3_largestRectangle_36 : decode cX3_largestRectangle 36 = .ok (.ifCond .eq 44, 3) := dk_153 0 44 (dk_at dksX3_largestRectangle_1 12 rfl rfl)
theorem dX3_largestRectangle_39 : decode cX3_largestRectangle 39 = .ok (.iload 4, 2) := dk_21 4 (dk_at dksX3_largestRectangle_1 15 rfl rfl)
theorem dX3_largestRectangle_41 : decode cX3_largestRectangle 41 = .ok (.aload_n 0, 1) := dk_42 (dk_at dksX3_largestRectangle_1 17 rfl rfl)
theorem dX3_largestRectangle_42 : decode cX3_largestRectangle 42 = .ok (.iload_n 1, 1) := dk_27 (dk_at dksX3_largestRectangle_1 18 rfl rfl)
theorem dX3_largestRectangle_43 : decode cX3_largestRectangle 43 = .ok (.iload 5, 2) := dk_21 5 (dk_at dksX3_largestRectangle_1 19 rfl rfl)
theorem dX3_largestRectangle_45 : decode cX3_largestRectangle 45 = .ok (.invokevirtual 58, 3) := dk_182 0 58 (dk_at dksX3_largestRectangle_1 21 rfl rfl)
theorem dX3_largestRectangle_48 : decode cX3_largestRectangle 48 = .ok (.iand, 1) := dk_126 (dk_at dksX3_largestRectangle_2 0 rfl rfl)
theorem dX3_largestRectangle_49 : decode cX3_largestRectangle 49 = .ok (.istore 4, 2) := dk_54 4 (dk_at dksX3_largestRectangle_2 1 rfl rfl)
theorem dX3_largestRectangle_51 : decode cX3_largestRectangle 51 = .ok (.iload 4, 2) := dk_21 4 (dk_at dksX3_largestRectangle_2 3 rfl rfl)
theorem dX3_largestRectangle_53 : decode cX3_largestRectangle 53 = .ok (.invokestatic 155, 3) := dk_184 0 155 (dk_at dksX3_largestRectangle_2 5 rfl rfl)
theorem dX3_largestRectangle_56 : decode cX3_largestRectangle 56 = .ok (.iload 5, 2) := dk_21 5 (dk_at dksX3_largestRectangle_2 8 rfl rfl)
theorem dX3_largestRectangle_58 : decode cX3_largestRectangle 58 = .ok (.iload_n 3, 1) := dk_29 (dk_at dksX3_largestRectangle_2 10 rfl rfl)
theorem dX3_largestRectangle_59 : decode cX3_largestRectangle 59 = .ok (.isub, 1) := dk_100 (dk_at dksX3_largestRectangle_2 11 rfl rfl)
theorem dX3_largestRectangle_60 : decode cX3_largestRectangle 60 = .ok (.iconst 1, 1) := dk_4 (dk_at dksX3_largestRectangle_2 12 rfl rfl)
theorem dX3_largestRectangle_61 : decode cX3_largestRectangle 61 = .ok (.iadd, 1) := dk_96 (dk_at dksX3_largestRectangle_2 13 rfl rfl)
theorem dX3_largestRectangle_62 : decode cX3_largestRectangle 62 = .ok (.imul, 1) := dk_104 (dk_at dksX3_largestRectangle_2 14 rfl rfl)
theorem dX3_largestRectangle_63 : decode cX3_largestRectangle 63 = .ok (.istore 6, 2) := dk_54 6 (dk_at dksX3_largestRectangle_2 15 rfl rfl)
theorem dX3_largestRectangle_65 : decode cX3_largestRectangle 65 = .ok (.iload 6, 2) := dk_21 6 (dk_at dksX3_largestRectangle_2 17 rfl rfl)
theorem dX3_largestRectangle_67 : decode cX3_largestRectangle 67 = .ok (.iload_n 2, 1) := dk_28 (dk_at dksX3_largestRectangle_2 19 rfl rfl)
theorem dX3_largestRectangle_68 : decode cX3_largestRectangle 68 = .ok (.if_icmp .le 6, 3) := dk_164 0 6 (dk_at dksX3_largestRectangle_2 20 rfl rfl)
theorem dX3_largestRectangle_71 : decode cX3_largestRectangle 71 = .ok (.iload 6, 2) := dk_21 6 (dk_at dksX3_largestRectangle_3 0 rfl rfl)
theorem dX3_largestRectangle_73 : decode cX3_largestRectangle 73 = .ok (.istore_n 2, 1) := dk_61 (dk_at dksX3_largestRectangle_3 2 rfl rfl)
theorem dX3_largestRectangle_74 : decode cX3_largestRectangle 74 = .ok (.iinc 5 1, 3) := dk_132 5 1 (dk_at dksX3_largestRectangle_3 3 rfl rfl)
theorem dX3_largestRectangle_77 : decode cX3_largestRectangle 77 = .ok (.goto (-50), 3) := dk_167 255 206 (dk_at dksX3_largestRectangle_3 6 rfl rfl)
theorem dX3_largestRectangle_80 : decode cX3_largestRectangle 80 = .ok (.iinc 3 1, 3) := dk_132 3 1 (dk_at dksX3_largestRectangle_3 9 rfl rfl)
theorem dX3_largestRectangle_83 : decode cX3_largestRectangle 83 = .ok (.goto (-69), 3) := dk_167 255 187 (dk_at dksX3_largestRectangle_3 12 rfl rfl)
theorem dX3_largestRectangle_86 : decode cX3_largestRectangle 86 = .ok (.iload_n 2, 1) := dk_28 (dk_at dksX3_largestRectangle_3 15 rfl rfl)
theorem dX3_largestRectangle_87 : decode cX3_largestRectangle 87 = .ok (.ireturn, 1) := dk_172 (dk_at dksX3_largestRectangle_3 16 rfl rfl)
abbrev cX3_widest : ByteArray := prog_22_method_60_code
def yX3_widest : MethodName := ⟨RX3, "widest", "(I)I"⟩
def dkwX3_widest_0 : List UInt8 := [3, 60, 26, 61, 28, 153, 0, 15, 132, 1, 1, 28, 28, 4, 120, 126, 61, 167, 255, 243, 27, 172]
abbrev dktX3_widest_0 : List UInt8 := dkwX3_widest_0 ++ []
theorem dksX3_widest_0 : cX3_widest.data.toList.drop 0 = dktX3_widest_0 := by decide +kernel
theorem dX3_widest_0 : decode cX3_widest 0 = .ok (.iconst 0, 1) := dk_3 (dk_at dksX3_widest_0 0 rfl rfl)
theorem dX3_widest_1 : decode cX3_widest 1 = .ok (.istore_n 1, 1) := dk_60 (dk_at dksX3_widest_0 1 rfl rfl)
theorem dX3_widest_2 : decode cX3_widest 2 = .ok (.iload_n 0, 1) := dk_26 (dk_at dksX3_widest_0 2 rfl rfl)
theorem dX3_widest_3 : decode cX3_widest 3 = .ok (.istore_n 2, 1) := dk_61 (dk_at dksX3_widest_0 3 rfl rfl)
theorem dX3_widest_4 : decode cX3_widest 4 = .ok (.iload_n 2, 1) := dk_28 (dk_at dksX3_widest_0 4 rfl rfl)
theorem dX3_widest_5 : decode cX3_widest 5 = .ok (.ifCond .eq 15, 3) := dk_153 0 15 (dk_at dksX3_widest_0 5 rfl rfl)
theorem dX3_widest_8 : decode cX3_widest 8 = .ok (.iinc 1 1, 3) := dk_132 1 1 (dk_at dksX3_widest_0 8 rfl rfl)
theorem dX3_widest_11 : decode cX3_widest 11 = .ok (.iload_n 2, 1) := dk_28 (dk_at dksX3_widest_0 11 rfl rfl)
theorem dX3_widest_12 : decode cX3_widest 12 = .ok (.iload_n 2, 1) := dk_28 (dk_at dksX3_widest_0 12 rfl rfl)
theorem dX3_widest_13 : decode cX3_widest 13 = .ok (.iconst 1, 1) := dk_4 (dk_at dksX3_widest_0 13 rfl rfl)
theorem dX3_widest_14 : decode cX3_widest 14 = .ok (.ishl, 1) := dk_120 (dk_at dksX3_widest_0 14 rfl rfl)
theorem dX3_widest_15 : decode cX3_widest 15 = .ok (.iand, 1) := dk_126 (dk_at dksX3_widest_0 15 rfl rfl)
theorem dX3_widest_16 : decode cX3_widest 16 = .ok (.istore_n 2, 1) := dk_61 (dk_at dksX3_widest_0 16 rfl rfl)
theorem dX3_widest_17 : decode cX3_widest 17 = .ok (.goto (-13), 3) := dk_167 255 243 (dk_at dksX3_widest_0 17 rfl rfl)
theorem dX3_widest_20 : decode cX3_widest 20 = .ok (.iload_n 1, 1) := dk_27 (dk_at dksX3_widest_0 20 rfl rfl)
theorem dX3_widest_21 : decode cX3_widest 21 = .ok (.ireturn, 1) := dk_172 (dk_at dksX3_widest_0 21 rfl rfl)
abbrev cX3_largestRectangleByCells : ByteArray := prog_22_method_62_code
def yX3_largestRectangleByCells : MethodName := ⟨RX3, "largestRectangleByCells", "(I)I"⟩
def dkwX3_largestRectangleByCells_0 : List UInt8 := [42, 27, 182, 0, 158, 172]
abbrev dktX3_largestRectangleByCells_0 : List UInt8 := dkwX3_largestRectangleByCells_0 ++ []
theorem dksX3_largestRectangleByCells_0 : cX3_largestRectangleByCells.data.toList.drop 0 = dktX3_largestRectangleByCells_0 := by decide +kernel
theorem dX3_largestRectangleByCells_0 : decode cX3_largestRectangleByCells 0 = .ok (.aload_n 0, 1) := dk_42 (dk_at dksX3_largestRectangleByCells_0 0 rfl rfl)
theorem dX3_largestRectangleByCells_1 : decode cX3_largestRectangleByCells 1 = .ok (.iload_n 1, 1) := dk_27 (dk_at dksX3_largestRectangleByCells_0 1 rfl rfl)
theorem dX3_largestRectangleByCells_2 : decode cX3_largestRectangleByCells 2 = .ok (.invokevirtual 158, 3) := dk_182 0 158 (dk_at dksX3_largestRectangleByCells_0 2 rfl rfl)
theorem dX3_largestRectangleByCells_5 : decode cX3_largestRectangleByCells 5 = .ok (.ireturn, 1) := dk_172 (dk_at dksX3_largestRectangleByCells_0 5 rfl rfl)
abbrev cX3_largestSquare : ByteArray := prog_22_method_63_code
def yX3_largestSquare : MethodName := ⟨RX3, "largestSquare", "(I)I"⟩
def dkwX3_largestSquare_4 : List UInt8 := [167, 255, 190, 132, 3, 1, 167, 255, 171, 28, 172]
abbrev dktX3_largestSquare_4 : List UInt8 := dkwX3_largestSquare_4 ++ []
def dkwX3_largestSquare_3 : List UInt8 := [184, 0, 155, 167, 0, 5, 21, 6, 54, 7, 21, 7, 28, 164, 0, 6, 21, 7, 61, 132, 5, 1]
abbrev dktX3_largestSquare_3 : List UInt8 := dkwX3_largestSquare_3 ++ dktX3_largestSquare_4
def dkwX3_largestSquare_2 : List UInt8 := [126, 54, 4, 21, 5, 29, 100, 4, 96, 54, 6, 21, 4, 184, 0, 155, 21, 6, 162, 0, 11, 21, 4]
abbrev dktX3_largestSquare_2 : List UInt8 := dkwX3_largestSquare_2 ++ dktX3_largestSquare_3
def dkwX3_largestSquare_1 : List UInt8 := [29, 54, 5, 21, 5, 16, 24, 162, 0, 65, 21, 4, 153, 0, 60, 21, 4, 42, 27, 21, 5, 182, 0, 58]
abbrev dktX3_largestSquare_1 : List UInt8 := dkwX3_largestSquare_1 ++ dktX3_largestSquare_2
def dkwX3_largestSquare_0 : List UInt8 := [42, 27, 182, 0, 130, 154, 0, 5, 3, 172, 3, 61, 3, 62, 29, 16, 24, 162, 0, 85, 18, 126, 54, 4]
abbrev dktX3_largestSquare_0 : List UInt8 := dkwX3_largestSquare_0 ++ dktX3_largestSquare_1
theorem dksX3_largestSquare_0 : cX3_largestSquare.data.toList.drop 0 = dktX3_largestSquare_0 := by decide +kernel
theorem dksX3_largestSquare_1 : cX3_largestSquare.data.toList.drop 24 = dktX3_largestSquare_1 := dk_seg dksX3_largestSquare_0 24 rfl rfl
theorem dksX3_largestSquare_2 : cX3_largestSquare.data.toList.drop 48 = dktX3_largestSquare_2 := dk_seg dksX3_largestSquare_1 24 rfl rfl
theorem dksX3_largestSquare_3 : cX3_largestSquare.data.toList.drop 71 = dktX3_largestSquare_3 := dk_seg dksX3_largestSquare_2 23 rfl rfl
theorem dksX3_largestSquare_4 : cX3_largestSquare.data.toList.drop 93 = dktX3_largestSquare_4 := dk_seg dksX3_largestSquare_3 22 rfl rfl
theorem dX3_largestSquare_0 : decode cX3_largestSquare 0 = .ok (.aload_n 0, 1) := dk_42 (dk_at dksX3_largestSquare_0 0 rfl rfl)
theorem dX3_largestSquare_1 : decode cX3_largestSquare 1 = .ok (.iload_n 1, 1) := dk_27 (dk_at dksX3_largestSquare_0 1 rfl rfl)
theorem dX3_largestSquare_2 : decode cX3_largestSquare 2 = .ok (.invokevirtual 130, 3) := dk_182 0 130 (dk_at dksX3_largestSquare_0 2 rfl rfl)
theorem dX3_largestSquare_5 : decode cX3_largestSquare 5 = .ok (.ifCond .ne 5, 3) := dk_154 0 5 (dk_at dksX3_largestSquare_0 5 rfl rfl)
theorem dX3_largestSquare_8 : decode cX3_largestSquare 8 = .ok (.iconst 0, 1) := dk_3 (dk_at dksX3_largestSquare_0 8 rfl rfl)
theorem dX3_largestSquare_9 : decode cX3_largestSquare 9 = .ok (.ireturn, 1) := dk_172 (dk_at dksX3_largestSquare_0 9 rfl rfl)
theorem dX3_largestSquare_10 : decode cX3_largestSquare 10 = .ok (.iconst 0, 1) := dk_3 (dk_at dksX3_largestSquare_0 10 rfl rfl)
theorem dX3_largestSquare_11 : decode cX3_largestSquare 11 = .ok (.istore_n 2, 1) := dk_61 (dk_at dksX3_largestSquare_0 11 rfl rfl)
theorem dX3_largestSquare_12 : decode cX3_largestSquare 12 = .ok (.iconst 0, 1) := dk_3 (dk_at dksX3_largestSquare_0 12 rfl rfl)
theorem dX3_largestSquare_13 : decode cX3_largestSquare 13 = .ok (.istore_n 3, 1) := dk_62 (dk_at dksX3_largestSquare_0 13 rfl rfl)
theorem dX3_largestSquare_14 : decode cX3_largestSquare 14 = .ok (.iload_n 3, 1) := dk_29 (dk_at dksX3_largestSquare_0 14 rfl rfl)
theorem dX3_largestSquare_15 : decode cX3_largestSquare 15 = .ok (.bipush 24, 2) := dk_16 24 (dk_at dksX3_largestSquare_0 15 rfl rfl)
theorem dX3_largestSquare_17 : decode cX3_largestSquare 17 = .ok (.if_icmp .ge 85, 3) := dk_162 0 85 (dk_at dksX3_largestSquare_0 17 rfl rfl)
theorem dX3_largestSquare_20 : decode cX3_largestSquare 20 = .ok (.ldc 126, 2) := dk_18 126 (dk_at dksX3_largestSquare_0 20 rfl rfl)
theorem dX3_largestSquare_22 : decode cX3_largestSquare 22 = .ok (.istore 4, 2) := dk_54 4 (dk_at dksX3_largestSquare_0 22 rfl rfl)
theorem dX3_largestSquare_24 : decode cX3_largestSquare 24 = .ok (.iload_n 3, 1) := dk_29 (dk_at dksX3_largestSquare_1 0 rfl rfl)
theorem dX3_largestSquare_25 : decode cX3_largestSquare 25 = .ok (.istore 5, 2) := dk_54 5 (dk_at dksX3_largestSquare_1 1 rfl rfl)
theorem dX3_largestSquare_27 : decode cX3_largestSquare 27 = .ok (.iload 5, 2) := dk_21 5 (dk_at dksX3_largestSquare_1 3 rfl rfl)
theorem dX3_largestSquare_29 : decode cX3_largestSquare 29 = .ok (.bipush 24, 2) := dk_16 24 (dk_at dksX3_largestSquare_1 5 rfl rfl)
theorem dX3_largestSquare_31 : decode cX3_largestSquare 31 = .ok (.if_icmp .ge 65, 3) := dk_162 0 65 (dk_at dksX3_largestSquare_1 7 rfl rfl)
theorem dX3_largestSquare_34 : decode cX3_largestSquare 34 = .ok (.iload 4, 2) := dk_21 4 (dk_at dksX3_largestSquare_1 10 rfl rfl)
theorem dX3_largestSquare_36 : decode cX3_largestSquare 36 = .ok (.ifCond .eq 60, 3) := dk_153 0 60 (dk_at dksX3_largestSquare_1 12 rfl rfl)
theorem dX3_largestSquare_39 : decode cX3_largestSquare 39 = .ok (.iload 4, 2) := dk_21 4 (dk_at dksX3_largestSquare_1 15 rfl rfl)
theorem dX3_largestSquare_41 : decode cX3_largestSquare 41 = .ok (.aload_n 0, 1) := dk_42 (dk_at dksX3_largestSquare_1 17 rfl rfl)
theorem dX3_largestSquare_42 : decode cX3_largestSquare 42 = .ok (.iload_n 1, 1) := dk_27 (dk_at dksX3_largestSquare_1 18 rfl rfl)
theorem dX3_largestSquare_43 : decode cX3_largestSquare 43 = .ok (.iload 5, 2) := dk_21 5 (dk_at dksX3_largestSquare_1 19 rfl rfl)
theorem dX3_largestSquare_45 : decode cX3_largestSquare 45 = .ok (.invokevirtual 58, 3) := dk_182 0 58 (dk_at dksX3_largestSquare_1 21 rfl rfl)
theorem dX3_largestSquare_48 : decode cX3_largestSquare 48 = .ok (.iand, 1) := dk_126 (dk_at dksX3_largestSquare_2 0 rfl rfl)
theorem dX3_largestSquare_49 : decode cX3_largestSquare 49 = .ok (.istore 4, 2) := dk_54 4 (dk_at dksX3_largestSquare_2 1 rfl rfl)
theorem dX3_largestSquare_51 : decode cX3_largestSquare 51 = .ok (.iload 5, 2) := dk_21 5 (dk_at dksX3_largestSquare_2 3 rfl rfl)
theorem dX3_largestSquare_53 : decode cX3_largestSquare 53 = .ok (.iload_n 3, 1) := dk_29 (dk_at dksX3_largestSquare_2 5 rfl rfl)
theorem dX3_largestSquare_54 : decode cX3_largestSquare 54 = .ok (.isub, 1) := dk_100 (dk_at dksX3_largestSquare_2 6 rfl rfl)
theorem dX3_largestSquare_55 : decode cX3_largestSquare 55 = .ok (.iconst 1, 1) := dk_4 (dk_at dksX3_largestSquare_2 7 rfl rfl)
theorem dX3_largestSquare_56 : decode cX3_largestSquare 56 = .ok (.iadd, 1) := dk_96 (dk_at dksX3_largestSquare_2 8 rfl rfl)
theorem dX3_largestSquare_57 : decode cX3_largestSquare 57 = .ok (.istore 6, 2) := dk_54 6 (dk_at dksX3_largestSquare_2 9 rfl rfl)
theorem dX3_largestSquare_59 : decode cX3_largestSquare 59 = .ok (.iload 4, 2) := dk_21 4 (dk_at dksX3_largestSquare_2 11 rfl rfl)
theorem dX3_largestSquare_61 : decode cX3_largestSquare 61 = .ok (.invokestatic 155, 3) := dk_184 0 155 (dk_at dksX3_largestSquare_2 13 rfl rfl)
theorem dX3_largestSquare_64 : decode cX3_largestSquare 64 = .ok (.iload 6, 2) := dk_21 6 (dk_at dksX3_largestSquare_2 16 rfl rfl)
theorem dX3_largestSquare_66 : decode cX3_largestSquare 66 = .ok (.if_icmp .ge 11, 3) := dk_162 0 11 (dk_at dksX3_largestSquare_2 18 rfl rfl)
theorem dX3_largestSquare_69 : decode cX3_largestSquare 69 = .ok (.iload 4, 2) := dk_21 4 (dk_at dksX3_largestSquare_2 21 rfl rfl)
theorem dX3_largestSquare_71 : decode cX3_largestSquare 71 = .ok (.invokestatic 155, 3) := dk_184 0 155 (dk_at dksX3_largestSquare_3 0 rfl rfl)
theorem dX3_largestSquare_74 : decode cX3_largestSquare 74 = .ok (.goto 5, 3) := dk_167 0 5 (dk_at dksX3_largestSquare_3 3 rfl rfl)
theorem dX3_largestSquare_77 : decode cX3_largestSquare 77 = .ok (.iload 6, 2) := dk_21 6 (dk_at dksX3_largestSquare_3 6 rfl rfl)
theorem dX3_largestSquare_79 : decode cX3_largestSquare 79 = .ok (.istore 7, 2) := dk_54 7 (dk_at dksX3_largestSquare_3 8 rfl rfl)
theorem dX3_largestSquare_81 : decode cX3_largestSquare 81 = .ok (.iload 7, 2) := dk_21 7 (dk_at dksX3_largestSquare_3 10 rfl rfl)
theorem dX3_largestSquare_83 : decode cX3_largestSquare 83 = .ok (.iload_n 2, 1) := dk_28 (dk_at dksX3_largestSquare_3 12 rfl rfl)
theorem dX3_largestSquare_84 : decode cX3_largestSquare 84 = .ok (.if_icmp .le 6, 3) := dk_164 0 6 (dk_at dksX3_largestSquare_3 13 rfl rfl)
theorem dX3_largestSquare_87 : decode cX3_largestSquare 87 = .ok (.iload 7, 2) := dk_21 7 (dk_at dksX3_largestSquare_3 16 rfl rfl)
theorem dX3_largestSquare_89 : decode cX3_largestSquare 89 = .ok (.istore_n 2, 1) := dk_61 (dk_at dksX3_largestSquare_3 18 rfl rfl)
theorem dX3_largestSquare_90 : decode cX3_largestSquare 90 = .ok (.iinc 5 1, 3) := dk_132 5 1 (dk_at dksX3_largestSquare_3 19 rfl rfl)
theorem dX3_largestSquare_93 : decode cX3_largestSquare 93 = .ok (.goto (-66), 3) := dk_167 255 190 (dk_at dksX3_largestSquare_4 0 rfl rfl)
theorem dX3_largestSquare_96 : decode cX3_largestSquare 96 = .ok (.iinc 3 1, 3) := dk_132 3 1 (dk_at dksX3_largestSquare_4 3 rfl rfl)
theorem dX3_largestSquare_99 : decode cX3_largestSquare 99 = .ok (.goto (-85), 3) := dk_167 255 171 (dk_at dksX3_largestSquare_4 6 rfl rfl)
theorem dX3_largestSquare_102 : decode cX3_largestSquare 102 = .ok (.iload_n 2, 1) := dk_28 (dk_at dksX3_largestSquare_4 9 rfl rfl)
theorem dX3_largestSquare_103 : decode cX3_largestSquare 103 = .ok (.ireturn, 1) := dk_172 (dk_at dksX3_largestSquare_4 10 rfl rfl)
abbrev cX3_largestSquareByCells : ByteArray := prog_22_method_64_code
def yX3_largestSquareByCells : MethodName := ⟨RX3, "largestSquareByCells", "(I)I"⟩
def dkwX3_largestSquareByCells_0 : List UInt8 := [42, 27, 182, 0, 161, 172]
abbrev dktX3_largestSquareByCells_0 : List UInt8 := dkwX3_largestSquareByCells_0 ++ []
theorem dksX3_largestSquareByCells_0 : cX3_largestSquareByCells.data.toList.drop 0 = dktX3_largestSquareByCells_0 := by decide +kernel
theorem dX3_largestSquareByCells_0 : decode cX3_largestSquareByCells 0 = .ok (.aload_n 0, 1) := dk_42 (dk_at dksX3_largestSquareByCells_0 0 rfl rfl)
theorem dX3_largestSquareByCells_1 : decode cX3_largestSquareByCells 1 = .ok (.iload_n 1, 1) := dk_27 (dk_at dksX3_largestSquareByCells_0 1 rfl rfl)
theorem dX3_largestSquareByCells_2 : decode cX3_largestSquareByCells 2 = .ok (.invokevirtual 161, 3) := dk_182 0 161 (dk_at dksX3_largestSquareByCells_0 2 rfl rfl)
theorem dX3_largestSquareByCells_5 : decode cX3_largestSquareByCells 5 = .ok (.ireturn, 1) := dk_172 (dk_at dksX3_largestSquareByCells_0 5 rfl rfl)
abbrev cX3_steps : ByteArray := prog_22_method_65_code
def yX3_steps : MethodName := ⟨RX3, "steps", "(IIIII)I"⟩
def dkwX3_steps_15 : List UInt8 := [172]
abbrev dktX3_steps_15 : List UInt8 := dkwX3_steps_15 ++ []
def dkwX3_steps_14 : List UInt8 := [156, 0, 11, 42, 6, 182, 0, 86, 167, 0, 16, 42, 180, 0, 28, 16, 24, 21, 5, 104, 21, 4, 96, 46]
abbrev dktX3_steps_14 : List UInt8 := dkwX3_steps_14 ++ dktX3_steps_15
def dkwX3_steps_13 : List UInt8 := [167, 255, 95, 132, 6, 1, 167, 255, 62, 42, 180, 0, 28, 16, 24, 21, 5, 104, 21, 4, 96, 46]
abbrev dktX3_steps_13 : List UInt8 := dkwX3_steps_13 ++ dktX3_steps_14
def dkwX3_steps_12 : List UInt8 := [154, 0, 6, 167, 0, 17, 42, 180, 0, 28, 21, 8, 21, 6, 4, 96, 79, 4, 54, 7, 132, 8, 1]
abbrev dktX3_steps_12 : List UInt8 := dkwX3_steps_12 ++ dktX3_steps_13
def dkwX3_steps_11 : List UInt8 := [180, 0, 28, 21, 8, 16, 24, 96, 46, 21, 6, 160, 0, 7, 4, 167, 0, 4, 3, 54, 11, 21, 11]
abbrev dktX3_steps_11 : List UInt8 := dkwX3_steps_11 ++ dktX3_steps_12
def dkwX3_steps_10 : List UInt8 := [42, 180, 0, 28, 21, 8, 16, 24, 100, 46, 21, 6, 159, 0, 25, 21, 10, 16, 23, 162, 0, 22, 42]
abbrev dktX3_steps_10 : List UInt8 := dkwX3_steps_10 ++ dktX3_steps_11
def dkwX3_steps_9 : List UInt8 := [16, 23, 162, 0, 17, 42, 180, 0, 28, 21, 8, 4, 96, 46, 21, 6, 159, 0, 45, 21, 10, 158, 0, 18]
abbrev dktX3_steps_9 : List UInt8 := dkwX3_steps_9 ++ dktX3_steps_10
def dkwX3_steps_8 : List UInt8 := [167, 0, 114, 21, 9, 158, 0, 17, 42, 180, 0, 28, 21, 8, 4, 100, 46, 21, 6, 159, 0, 66, 21, 9]
abbrev dktX3_steps_8 : List UInt8 := dkwX3_steps_8 ++ dktX3_steps_9
def dkwX3_steps_7 : List UInt8 := [42, 180, 0, 28, 21, 8, 46, 156, 0, 129, 42, 27, 21, 9, 21, 10, 182, 0, 98, 154, 0, 6]
abbrev dktX3_steps_7 : List UInt8 := dkwX3_steps_7 ++ dktX3_steps_8
def dkwX3_steps_6 : List UInt8 := [54, 8, 21, 8, 17, 2, 64, 162, 0, 159, 21, 8, 16, 24, 112, 54, 9, 21, 8, 16, 24, 108, 54, 10]
abbrev dktX3_steps_6 : List UInt8 := dkwX3_steps_6 ++ dktX3_steps_7
def dkwX3_steps_5 : List UInt8 := [153, 0, 195, 42, 180, 0, 28, 16, 24, 21, 5, 104, 21, 4, 96, 46, 156, 0, 179, 3, 54, 7, 3]
abbrev dktX3_steps_5 : List UInt8 := dkwX3_steps_5 ++ dktX3_steps_6
def dkwX3_steps_4 : List UInt8 := [167, 255, 237, 42, 180, 0, 28, 16, 24, 29, 104, 28, 96, 3, 79, 3, 54, 6, 4, 54, 7, 21, 7]
abbrev dktX3_steps_4 : List UInt8 := dkwX3_steps_4 ++ dktX3_steps_5
def dkwX3_steps_3 : List UInt8 := [172, 3, 54, 6, 21, 6, 17, 2, 64, 162, 0, 17, 42, 180, 0, 28, 21, 6, 2, 79, 132, 6, 1]
abbrev dktX3_steps_3 : List UInt8 := dkwX3_steps_3 ++ dktX3_steps_4
def dkwX3_steps_2 : List UInt8 := [21, 5, 182, 0, 98, 154, 0, 7, 6, 167, 0, 4, 3, 181, 0, 46, 42, 180, 0, 46, 153, 0, 5, 3]
abbrev dktX3_steps_2 : List UInt8 := dkwX3_steps_2 ++ dktX3_steps_3
def dkwX3_steps_1 : List UInt8 := [184, 0, 54, 154, 0, 7, 5, 167, 0, 30, 42, 27, 28, 29, 182, 0, 98, 153, 0, 15, 42, 27, 21, 4]
abbrev dktX3_steps_1 : List UInt8 := dkwX3_steps_1 ++ dktX3_steps_2
def dkwX3_steps_0 : List UInt8 := [42, 27, 184, 0, 69, 154, 0, 7, 4, 167, 0, 52, 28, 29, 184, 0, 54, 153, 0, 13, 21, 4, 21, 5]
abbrev dktX3_steps_0 : List UInt8 := dkwX3_steps_0 ++ dktX3_steps_1
theorem dksX3_steps_0 : cX3_steps.data.toList.drop 0 = dktX3_steps_0 := by decide +kernel
theorem dksX3_steps_1 : cX3_steps.data.toList.drop 24 = dktX3_steps_1 := dk_seg dksX3_steps_0 24 rfl rfl
theorem dksX3_steps_2 : cX3_steps.data.toList.drop 48 = dktX3_steps_2 := dk_seg dksX3_steps_1 24 rfl rfl
theorem dksX3_steps_3 : cX3_steps.data.toList.drop 72 = dktX3_steps_3 := dk_seg dksX3_steps_2 24 rfl rfl
theorem dksX3_steps_4 : cX3_steps.data.toList.drop 95 = dktX3_steps_4 := dk_seg dksX3_steps_3 23 rfl rfl
theorem dksX3_steps_5 : cX3_steps.data.toList.drop 118 = dktX3_steps_5 := dk_seg dksX3_steps_4 23 rfl rfl
theorem dksX3_steps_6 : cX3_steps.data.toList.drop 141 = dktX3_steps_6 := dk_seg dksX3_steps_5 23 rfl rfl
theorem dksX3_steps_7 : cX3_steps.data.toList.drop 165 = dktX3_steps_7 := dk_seg dksX3_steps_6 24 rfl rfl
theorem dksX3_steps_8 : cX3_steps.data.toList.drop 187 = dktX3_steps_8 := dk_seg dksX3_steps_7 22 rfl rfl
theorem dksX3_steps_9 : cX3_steps.data.toList.drop 211 = dktX3_steps_9 := dk_seg dksX3_steps_8 24 rfl rfl
theorem dksX3_steps_10 : cX3_steps.data.toList.drop 235 = dktX3_steps_10 := dk_seg dksX3_steps_9 24 rfl rfl
theorem dksX3_steps_11 : cX3_steps.data.toList.drop 258 = dktX3_steps_11 := dk_seg dksX3_steps_10 23 rfl rfl
theorem dksX3_steps_12 : cX3_steps.data.toList.drop 281 = dktX3_steps_12 := dk_seg dksX3_steps_11 23 rfl rfl
theorem dksX3_steps_13 : cX3_steps.data.toList.drop 304 = dktX3_steps_13 := dk_seg dksX3_steps_12 23 rfl rfl
theorem dksX3_steps_14 : cX3_steps.data.toList.drop 326 = dktX3_steps_14 := dk_seg dksX3_steps_13 22 rfl rfl
theorem dksX3_steps_15 : cX3_steps.data.toList.drop 350 = dktX3_steps_15 := dk_seg dksX3_steps_14 24 rfl rfl
theorem dX3_steps_0 : decode cX3_steps 0 = .ok (.aload_n 0, 1) := dk_42 (dk_at dksX3_steps_0 0 rfl rfl)
theorem dX3_steps_1 : decode cX3_steps 1 = .ok (.iload_n 1, 1) := dk_27 (dk_at dksX3_steps_0 1 rfl rfl)
theorem dX3_steps_2 : decode cX3_steps 2 = .ok (.invokestatic 69, 3) := dk_184 0 69 (dk_at dksX3_steps_0 2 rfl rfl)
theorem dX3_steps_5 : decode cX3_steps 5 = .ok (.ifCond .ne 7, 3) := dk_154 0 7 (dk_at dksX3_steps_0 5 rfl rfl)
theorem dX3_steps_8 : decode cX3_steps 8 = .ok (.iconst 1, 1) := dk_4 (dk_at dksX3_steps_0 8 rfl rfl)
theorem dX3_steps_9 : decode cX3_steps 9 = .ok (.goto 52, 3) := dk_167 0 52 (dk_at dksX3_steps_0 9 rfl rfl)
theorem dX3_steps_12 : decode cX3_steps 12 = .ok (.iload_n 2, 1) := dk_28 (dk_at dksX3_steps_0 12 rfl rfl)
theorem dX3_steps_13 : decode cX3_steps 13 = .ok (.iload_n 3, 1) := dk_29 (dk_at dksX3_steps_0 13 rfl rfl)
theorem dX3_steps_14 : decode cX3_steps 14 = .ok (.invokestatic 54, 3) := dk_184 0 54 (dk_at dksX3_steps_0 14 rfl rfl)
theorem dX3_steps_17 : decode cX3_steps 17 = .ok (.ifCond .eq 13, 3) := dk_153 0 13 (dk_at dksX3_steps_0 17 rfl rfl)
theorem dX3_steps_20 : decode cX3_steps 20 = .ok (.iload 4, 2) := dk_21 4 (dk_at dksX3_steps_0 20 rfl rfl)
theorem dX3_steps_22 : decode cX3_steps 22 = .ok (.iload 5, 2) := dk_21 5 (dk_at dksX3_steps_0 22 rfl rfl)
theorem dX3_steps_24 : decode cX3_steps 24 = .ok (.invokestatic 54, 3) := dk_184 0 54 (dk_at dksX3_steps_1 0 rfl rfl)
theorem dX3_steps_27 : decode cX3_steps 27 = .ok (.ifCond .ne 7, 3) := dk_154 0 7 (dk_at dksX3_steps_1 3 rfl rfl)
theorem dX3_steps_30 : decode cX3_steps 30 = .ok (.iconst 2, 1) := dk_5 (dk_at dksX3_steps_1 6 rfl rfl)
theorem dX3_steps_31 : decode cX3_steps 31 = .ok (.goto 30, 3) := dk_167 0 30 (dk_at dksX3_steps_1 7 rfl rfl)
theorem dX3_steps_34 : decode cX3_steps 34 = .ok (.aload_n 0, 1) := dk_42 (dk_at dksX3_steps_1 10 rfl rfl)
theorem dX3_steps_35 : decode cX3_steps 35 = .ok (.iload_n 1, 1) := dk_27 (dk_at dksX3_steps_1 11 rfl rfl)
theorem dX3_steps_36 : decode cX3_steps 36 = .ok (.iload_n 2, 1) := dk_28 (dk_at dksX3_steps_1 12 rfl rfl)
theorem dX3_steps_37 : decode cX3_steps 37 = .ok (.iload_n 3, 1) := dk_29 (dk_at dksX3_steps_1 13 rfl rfl)
theorem dX3_steps_38 : decode cX3_steps 38 = .ok (.invokevirtual 98, 3) := dk_182 0 98 (dk_at dksX3_steps_1 14 rfl rfl)
theorem dX3_steps_41 : decode cX3_steps 41 = .ok (.ifCond .eq 15, 3) := dk_153 0 15 (dk_at dksX3_steps_1 17 rfl rfl)
theorem dX3_steps_44 : decode cX3_steps 44 = .ok (.aload_n 0, 1) := dk_42 (dk_at dksX3_steps_1 20 rfl rfl)
theorem dX3_steps_45 : decode cX3_steps 45 = .ok (.iload_n 1, 1) := dk_27 (dk_at dksX3_steps_1 21 rfl rfl)
theorem dX3_steps_46 : decode cX3_steps 46 = .ok (.iload 4, 2) := dk_21 4 (dk_at dksX3_steps_1 22 rfl rfl)
theorem dX3_steps_48 : decode cX3_steps 48 = .ok (.iload 5, 2) := dk_21 5 (dk_at dksX3_steps_2 0 rfl rfl)
theorem dX3_steps_50 : decode cX3_steps 50 = .ok (.invokevirtual 98, 3) := dk_182 0 98 (dk_at dksX3_steps_2 2 rfl rfl)
theorem dX3_steps_53 : decode cX3_steps 53 = .ok (.ifCond .ne 7, 3) := dk_154 0 7 (dk_at dksX3_steps_2 5 rfl rfl)
theorem dX3_steps_56 : decode cX3_steps 56 = .ok (.iconst 3, 1) := dk_6 (dk_at dksX3_steps_2 8 rfl rfl)
theorem dX3_steps_57 : decode cX3_steps 57 = .ok (.goto 4, 3) := dk_167 0 4 (dk_at dksX3_steps_2 9 rfl rfl)
theorem dX3_steps_60 : decode cX3_steps 60 = .ok (.iconst 0, 1) := dk_3 (dk_at dksX3_steps_2 12 rfl rfl)
theorem dX3_steps_61 : decode cX3_steps 61 = .ok (.putfield 46, 3) := dk_181 0 46 (dk_at dksX3_steps_2 13 rfl rfl)
theorem dX3_steps_64 : decode cX3_steps 64 = .ok (.aload_n 0, 1) := dk_42 (dk_at dksX3_steps_2 16 rfl rfl)
theorem dX3_steps_65 : decode cX3_steps 65 = .ok (.getfield 46, 3) := dk_180 0 46 (dk_at dksX3_steps_2 17 rfl rfl)
theorem dX3_steps_68 : decode cX3_steps 68 = .ok (.ifCond .eq 5, 3) := dk_153 0 5 (dk_at dksX3_steps_2 20 rfl rfl)
theorem dX3_steps_71 : decode cX3_steps 71 = .ok (.iconst 0, 1) := dk_3 (dk_at dksX3_steps_2 23 rfl rfl)
theorem dX3_steps_72 : decode cX3_steps 72 = .ok (.ireturn, 1) := dk_172 (dk_at dksX3_steps_3 0 rfl rfl)
theorem dX3_steps_73 : decode cX3_steps 73 = .ok (.iconst 0, 1) := dk_3 (dk_at dksX3_steps_3 1 rfl rfl)
theorem dX3_steps_74 : decode cX3_steps 74 = .ok (.istore 6, 2) := dk_54 6 (dk_at dksX3_steps_3 2 rfl rfl)
theorem dX3_steps_76 : decode cX3_steps 76 = .ok (.iload 6, 2) := dk_21 6 (dk_at dksX3_steps_3 4 rfl rfl)
theorem dX3_steps_78 : decode cX3_steps 78 = .ok (.sipush 576, 3) := dk_17 2 64 (dk_at dksX3_steps_3 6 rfl rfl)
theorem dX3_steps_81 : decode cX3_steps 81 = .ok (.if_icmp .ge 17, 3) := dk_162 0 17 (dk_at dksX3_steps_3 9 rfl rfl)
theorem dX3_steps_84 : decode cX3_steps 84 = .ok (.aload_n 0, 1) := dk_42 (dk_at dksX3_steps_3 12 rfl rfl)
theorem dX3_steps_85 : decode cX3_steps 85 = .ok (.getfield 28, 3) := dk_180 0 28 (dk_at dksX3_steps_3 13 rfl rfl)
theorem dX3_steps_88 : decode cX3_steps 88 = .ok (.iload 6, 2) := dk_21 6 (dk_at dksX3_steps_3 16 rfl rfl)
theorem dX3_steps_90 : decode cX3_steps 90 = .ok (.iconst (-1), 1) := dk_2 (dk_at dksX3_steps_3 18 rfl rfl)
theorem dX3_steps_91 : decode cX3_steps 91 = .ok (.iastore, 1) := dk_79 (dk_at dksX3_steps_3 19 rfl rfl)
theorem dX3_steps_92 : decode cX3_steps 92 = .ok (.iinc 6 1, 3) := dk_132 6 1 (dk_at dksX3_steps_3 20 rfl rfl)
theorem dX3_steps_95 : decode cX3_steps 95 = .ok (.goto (-19), 3) := dk_167 255 237 (dk_at dksX3_steps_4 0 rfl rfl)
theorem dX3_steps_98 : decode cX3_steps 98 = .ok (.aload_n 0, 1) := dk_42 (dk_at dksX3_steps_4 3 rfl rfl)
theorem dX3_steps_99 : decode cX3_steps 99 = .ok (.getfield 28, 3) := dk_180 0 28 (dk_at dksX3_steps_4 4 rfl rfl)
theorem dX3_steps_102 : decode cX3_steps 102 = .ok (.bipush 24, 2) := dk_16 24 (dk_at dksX3_steps_4 7 rfl rfl)
theorem dX3_steps_104 : decode cX3_steps 104 = .ok (.iload_n 3, 1) := dk_29 (dk_at dksX3_steps_4 9 rfl rfl)
theorem dX3_steps_105 : decode cX3_steps 105 = .ok (.imul, 1) := dk_104 (dk_at dksX3_steps_4 10 rfl rfl)
theorem dX3_steps_106 : decode cX3_steps 106 = .ok (.iload_n 2, 1) := dk_28 (dk_at dksX3_steps_4 11 rfl rfl)
theorem dX3_steps_107 : decode cX3_steps 107 = .ok (.iadd, 1) := dk_96 (dk_at dksX3_steps_4 12 rfl rfl)
theorem dX3_steps_108 : decode cX3_steps 108 = .ok (.iconst 0, 1) := dk_3 (dk_at dksX3_steps_4 13 rfl rfl)
theorem dX3_steps_109 : decode cX3_steps 109 = .ok (.iastore, 1) := dk_79 (dk_at dksX3_steps_4 14 rfl rfl)
theorem dX3_steps_110 : decode cX3_steps 110 = .ok (.iconst 0, 1) := dk_3 (dk_at dksX3_steps_4 15 rfl rfl)
theorem dX3_steps_111 : decode cX3_steps 111 = .ok (.istore 6, 2) := dk_54 6 (dk_at dksX3_steps_4 16 rfl rfl)
theorem dX3_steps_113 : decode cX3_steps 113 = .ok (.iconst 1, 1) := dk_4 (dk_at dksX3_steps_4 18 rfl rfl)
theorem dX3_steps_114 : decode cX3_steps 114 = .ok (.istore 7, 2) := dk_54 7 (dk_at dksX3_steps_4 19 rfl rfl)
theorem dX3_steps_116 : decode cX3_steps 116 = .ok (.iload 7, 2) := dk_21 7 (dk_at dksX3_steps_4 21 rfl rfl)
theorem dX3_steps_118 : decode cX3_steps 118 = .ok (.ifCond .eq 195, 3) := dk_153 0 195 (dk_at dksX3_steps_5 0 rfl rfl)
theorem dX3_steps_121 : decode cX3_steps 121 = .ok (.aload_n 0, 1) := dk_42 (dk_at dksX3_steps_5 3 rfl rfl)
theorem dX3_steps_122 : decode cX3_steps 122 = .ok (.getfield 28, 3) := dk_180 0 28 (dk_at dksX3_steps_5 4 rfl rfl)
theorem dX3_steps_125 : decode cX3_steps 125 = .ok (.bipush 24, 2) := dk_16 24 (dk_at dksX3_steps_5 7 rfl rfl)
theorem dX3_steps_127 : decode cX3_steps 127 = .ok (.iload 5, 2) := dk_21 5 (dk_at dksX3_steps_5 9 rfl rfl)
theorem dX3_steps_129 : decode cX3_steps 129 = .ok (.imul, 1) := dk_104 (dk_at dksX3_steps_5 11 rfl rfl)
theorem dX3_steps_130 : decode cX3_steps 130 = .ok (.iload 4, 2) := dk_21 4 (dk_at dksX3_steps_5 12 rfl rfl)
theorem dX3_steps_132 : decode cX3_steps 132 = .ok (.iadd, 1) := dk_96 (dk_at dksX3_steps_5 14 rfl rfl)
theorem dX3_steps_133 : decode cX3_steps 133 = .ok (.iaload, 1) := dk_46 (dk_at dksX3_steps_5 15 rfl rfl)
theorem dX3_steps_134 : decode cX3_steps 134 = .ok (.ifCond .ge 179, 3) := dk_156 0 179 (dk_at dksX3_steps_5 16 rfl rfl)
theorem dX3_steps_137 : decode cX3_steps 137 = .ok (.iconst 0, 1) := dk_3 (dk_at dksX3_steps_5 19 rfl rfl)
theorem dX3_steps_138 : decode cX3_steps 138 = .ok (.istore 7, 2) := dk_54 7 (dk_at dksX3_steps_5 20 rfl rfl)
theorem dX3_steps_140 : decode cX3_steps 140 = .ok (.iconst 0, 1) := dk_3 (dk_at dksX3_steps_5 22 rfl rfl)
theorem dX3_steps_141 : decode cX3_steps 141 = .ok (.istore 8, 2) := dk_54 8 (dk_at dksX3_steps_6 0 rfl rfl)
theorem dX3_steps_143 : decode cX3_steps 143 = .ok (.iload 8, 2) := dk_21 8 (dk_at dksX3_steps_6 2 rfl rfl)
theorem dX3_steps_145 : decode cX3_steps 145 = .ok (.sipush 576, 3) := dk_17 2 64 (dk_at dksX3_steps_6 4 rfl rfl)
theorem dX3_steps_148 : decode cX3_steps 148 = .ok (.if_icmp .ge 159, 3) := dk_162 0 159 (dk_at dksX3_steps_6 7 rfl rfl)
theorem dX3_steps_151 : decode cX3_steps 151 = .ok (.iload 8, 2) := dk_21 8 (dk_at dksX3_steps_6 10 rfl rfl)
theorem dX3_steps_153 : decode cX3_steps 153 = .ok (.bipush 24, 2) := dk_16 24 (dk_at dksX3_steps_6 12 rfl rfl)
theorem dX3_steps_155 : decode cX3_steps 155 = .ok (.irem, 1) := dk_112 (dk_at dksX3_steps_6 14 rfl rfl)
theorem dX3_steps_156 : decode cX3_steps 156 = .ok (.istore 9, 2) := dk_54 9 (dk_at dksX3_steps_6 15 rfl rfl)
theorem dX3_steps_158 : decode cX3_steps 158 = .ok (.iload 8, 2) := dk_21 8 (dk_at dksX3_steps_6 17 rfl rfl)
theorem dX3_steps_160 : decode cX3_steps 160 = .ok (.bipush 24, 2) := dk_16 24 (dk_at dksX3_steps_6 19 rfl rfl)
theorem dX3_steps_162 : decode cX3_steps 162 = .ok (.idiv, 1) := dk_108 (dk_at dksX3_steps_6 21 rfl rfl)
theorem dX3_steps_163 : decode cX3_steps 163 = .ok (.istore 10, 2) := dk_54 10 (dk_at dksX3_steps_6 22 rfl rfl)
theorem dX3_steps_165 : decode cX3_steps 165 = .ok (.aload_n 0, 1) := dk_42 (dk_at dksX3_steps_7 0 rfl rfl)
theorem dX3_steps_166 : decode cX3_steps 166 = .ok (.getfield 28, 3) := dk_180 0 28 (dk_at dksX3_steps_7 1 rfl rfl)
theorem dX3_steps_169 : decode cX3_steps 169 = .ok (.iload 8, 2) := dk_21 8 (dk_at dksX3_steps_7 4 rfl rfl)
theorem dX3_steps_171 : decode cX3_steps 171 = .ok (.iaload, 1) := dk_46 (dk_at dksX3_steps_7 6 rfl rfl)
theorem dX3_steps_172 : decode cX3_steps 172 = .ok (.ifCond .ge 129, 3) := dk_156 0 129 (dk_at dksX3_steps_7 7 rfl rfl)
theorem dX3_steps_175 : decode cX3_steps 175 = .ok (.aload_n 0, 1) := dk_42 (dk_at dksX3_steps_7 10 rfl rfl)
theorem dX3_steps_176 : decode cX3_steps 176 = .ok (.iload_n 1, 1) := dk_27 (dk_at dksX3_steps_7 11 rfl rfl)
theorem dX3_steps_177 : decode cX3_steps 177 = .ok (.iload 9, 2) := dk_21 9 (dk_at dksX3_steps_7 12 rfl rfl)
theorem dX3_steps_179 : decode cX3_steps 179 = .ok (.iload 10, 2) := dk_21 10 (dk_at dksX3_steps_7 14 rfl rfl)
theorem dX3_steps_181 : decode cX3_steps 181 = .ok (.invokevirtual 98, 3) := dk_182 0 98 (dk_at dksX3_steps_7 16 rfl rfl)
theorem dX3_steps_184 : decode cX3_steps 184 = .ok (.ifCond .ne 6, 3) := dk_154 0 6 (dk_at dksX3_steps_7 19 rfl rfl)
theorem dX3_steps_187 : decode cX3_steps 187 = .ok (.goto 114, 3) := dk_167 0 114 (dk_at dksX3_steps_8 0 rfl rfl)
theorem dX3_steps_190 : decode cX3_steps 190 = .ok (.iload 9, 2) := dk_21 9 (dk_at dksX3_steps_8 3 rfl rfl)
theorem dX3_steps_192 : decode cX3_steps 192 = .ok (.ifCond .le 17, 3) := dk_158 0 17 (dk_at dksX3_steps_8 5 rfl rfl)
theorem dX3_steps_195 : decode cX3_steps 195 = .ok (.aload_n 0, 1) := dk_42 (dk_at dksX3_steps_8 8 rfl rfl)
theorem dX3_steps_196 : decode cX3_steps 196 = .ok (.getfield 28, 3) := dk_180 0 28 (dk_at dksX3_steps_8 9 rfl rfl)
theorem dX3_steps_199 : decode cX3_steps 199 = .ok (.iload 8, 2) := dk_21 8 (dk_at dksX3_steps_8 12 rfl rfl)
theorem dX3_steps_201 : decode cX3_steps 201 = .ok (.iconst 1, 1) := dk_4 (dk_at dksX3_steps_8 14 rfl rfl)
theorem dX3_steps_202 : decode cX3_steps 202 = .ok (.isub, 1) := dk_100 (dk_at dksX3_steps_8 15 rfl rfl)
theorem dX3_steps_203 : decode cX3_steps 203 = .ok (.iaload, 1) := dk_46 (dk_at dksX3_steps_8 16 rfl rfl)
theorem dX3_steps_204 : decode cX3_steps 204 = .ok (.iload 6, 2) := dk_21 6 (dk_at dksX3_steps_8 17 rfl rfl)
theorem dX3_steps_206 : decode cX3_steps 206 = .ok (.if_icmp .eq 66, 3) := dk_159 0 66 (dk_at dksX3_steps_8 19 rfl rfl)
theorem dX3_steps_209 : decode cX3_steps 209 = .ok (.iload 9, 2) := dk_21 9 (dk_at dksX3_steps_8 22 rfl rfl)
theorem dX3_steps_211 : decode cX3_steps 211 = .ok (.bipush 23, 2) := dk_16 23 (dk_at dksX3_steps_9 0 rfl rfl)
theorem dX3_steps_213 : decode cX3_steps 213 = .ok (.if_icmp .ge 17, 3) := dk_162 0 17 (dk_at dksX3_steps_9 2 rfl rfl)
theorem dX3_steps_216 : decode cX3_steps 216 = .ok (.aload_n 0, 1) := dk_42 (dk_at dksX3_steps_9 5 rfl rfl)
theorem dX3_steps_217 : decode cX3_steps 217 = .ok (.getfield 28, 3) := dk_180 0 28 (dk_at dksX3_steps_9 6 rfl rfl)
theorem dX3_steps_220 : decode cX3_steps 220 = .ok (.iload 8, 2) := dk_21 8 (dk_at dksX3_steps_9 9 rfl rfl)
theorem dX3_steps_222 : decode cX3_steps 222 = .ok (.iconst 1, 1) := dk_4 (dk_at dksX3_steps_9 11 rfl rfl)
theorem dX3_steps_223 : decode cX3_steps 223 = .ok (.iadd, 1) := dk_96 (dk_at dksX3_steps_9 12 rfl rfl)
theorem dX3_steps_224 : decode cX3_steps 224 = .ok (.iaload, 1) := dk_46 (dk_at dksX3_steps_9 13 rfl rfl)
theorem dX3_steps_225 : decode cX3_steps 225 = .ok (.iload 6, 2) := dk_21 6 (dk_at dksX3_steps_9 14 rfl rfl)
theorem dX3_steps_227 : decode cX3_steps 227 = .ok (.if_icmp .eq 45, 3) := dk_159 0 45 (dk_at dksX3_steps_9 16 rfl rfl)
theorem dX3_steps_230 : decode cX3_steps 230 = .ok (.iload 10, 2) := dk_21 10 (dk_at dksX3_steps_9 19 rfl rfl)
theorem dX3_steps_232 : decode cX3_steps 232 = .ok (.ifCond .le 18, 3) := dk_158 0 18 (dk_at dksX3_steps_9 21 rfl rfl)
theorem dX3_steps_235 : decode cX3_steps 235 = .ok (.aload_n 0, 1) := dk_42 (dk_at dksX3_steps_10 0 rfl rfl)
theorem dX3_steps_236 : decode cX3_steps 236 = .ok (.getfield 28, 3) := dk_180 0 28 (dk_at dksX3_steps_10 1 rfl rfl)
theorem dX3_steps_239 : decode cX3_steps 239 = .ok (.iload 8, 2) := dk_21 8 (dk_at dksX3_steps_10 4 rfl rfl)
theorem dX3_steps_241 : decode cX3_steps 241 = .ok (.bipush 24, 2) := dk_16 24 (dk_at dksX3_steps_10 6 rfl rfl)
theorem dX3_steps_243 : decode cX3_steps 243 = .ok (.isub, 1) := dk_100 (dk_at dksX3_steps_10 8 rfl rfl)
theorem dX3_steps_244 : decode cX3_steps 244 = .ok (.iaload, 1) := dk_46 (dk_at dksX3_steps_10 9 rfl rfl)
theorem dX3_steps_245 : decode cX3_steps 245 = .ok (.iload 6, 2) := dk_21 6 (dk_at dksX3_steps_10 10 rfl rfl)
theorem dX3_steps_247 : decode cX3_steps 247 = .ok (.if_icmp .eq 25, 3) := dk_159 0 25 (dk_at dksX3_steps_10 12 rfl rfl)
theorem dX3_steps_250 : decode cX3_steps 250 = .ok (.iload 10, 2) := dk_21 10 (dk_at dksX3_steps_10 15 rfl rfl)
theorem dX3_steps_252 : decode cX3_steps 252 = .ok (.bipush 23, 2) := dk_16 23 (dk_at dksX3_steps_10 17 rfl rfl)
theorem dX3_steps_254 : decode cX3_steps 254 = .ok (.if_icmp .ge 22, 3) := dk_162 0 22 (dk_at dksX3_steps_10 19 rfl rfl)
theorem dX3_steps_257 : decode cX3_steps 257 = .ok (.aload_n 0, 1) := dk_42 (dk_at dksX3_steps_10 22 rfl rfl)
theorem dX3_steps_258 : decode cX3_steps 258 = .ok (.getfield 28, 3) := dk_180 0 28 (dk_at dksX3_steps_11 0 rfl rfl)
theorem dX3_steps_261 : decode cX3_steps 261 = .ok (.iload 8, 2) := dk_21 8 (dk_at dksX3_steps_11 3 rfl rfl)
theorem dX3_steps_263 : decode cX3_steps 263 = .ok (.bipush 24, 2) := dk_16 24 (dk_at dksX3_steps_11 5 rfl rfl)
theorem dX3_steps_265 : decode cX3_steps 265 = .ok (.iadd, 1) := dk_96 (dk_at dksX3_steps_11 7 rfl rfl)
theorem dX3_steps_266 : decode cX3_steps 266 = .ok (.iaload, 1) := dk_46 (dk_at dksX3_steps_11 8 rfl rfl)
theorem dX3_steps_267 : decode cX3_steps 267 = .ok (.iload 6, 2) := dk_21 6 (dk_at dksX3_steps_11 9 rfl rfl)
theorem dX3_steps_269 : decode cX3_steps 269 = .ok (.if_icmp .ne 7, 3) := dk_160 0 7 (dk_at dksX3_steps_11 11 rfl rfl)
theorem dX3_steps_272 : decode cX3_steps 272 = .ok (.iconst 1, 1) := dk_4 (dk_at dksX3_steps_11 14 rfl rfl)
theorem dX3_steps_273 : decode cX3_steps 273 = .ok (.goto 4, 3) := dk_167 0 4 (dk_at dksX3_steps_11 15 rfl rfl)
theorem dX3_steps_276 : decode cX3_steps 276 = .ok (.iconst 0, 1) := dk_3 (dk_at dksX3_steps_11 18 rfl rfl)
theorem dX3_steps_277 : decode cX3_steps 277 = .ok (.istore 11, 2) := dk_54 11 (dk_at dksX3_steps_11 19 rfl rfl)
theorem dX3_steps_279 : decode cX3_steps 279 = .ok (.iload 11, 2) := dk_21 11 (dk_at dksX3_steps_11 21 rfl rfl)
theorem dX3_steps_281 : decode cX3_steps 281 = .ok (.ifCond .ne 6, 3) := dk_154 0 6 (dk_at dksX3_steps_12 0 rfl rfl)
theorem dX3_steps_284 : decode cX3_steps 284 = .ok (.goto 17, 3) := dk_167 0 17 (dk_at dksX3_steps_12 3 rfl rfl)
theorem dX3_steps_287 : decode cX3_steps 287 = .ok (.aload_n 0, 1) := dk_42 (dk_at dksX3_steps_12 6 rfl rfl)
theorem dX3_steps_288 : decode cX3_steps 288 = .ok (.getfield 28, 3) := dk_180 0 28 (dk_at dksX3_steps_12 7 rfl rfl)
theorem dX3_steps_291 : decode cX3_steps 291 = .ok (.iload 8, 2) := dk_21 8 (dk_at dksX3_steps_12 10 rfl rfl)
theorem dX3_steps_293 : decode cX3_steps 293 = .ok (.iload 6, 2) := dk_21 6 (dk_at dksX3_steps_12 12 rfl rfl)
theorem dX3_steps_295 : decode cX3_steps 295 = .ok (.iconst 1, 1) := dk_4 (dk_at dksX3_steps_12 14 rfl rfl)
theorem dX3_steps_296 : decode cX3_steps 296 = .ok (.iadd, 1) := dk_96 (dk_at dksX3_steps_12 15 rfl rfl)
theorem dX3_steps_297 : decode cX3_steps 297 = .ok (.iastore, 1) := dk_79 (dk_at dksX3_steps_12 16 rfl rfl)
theorem dX3_steps_298 : decode cX3_steps 298 = .ok (.iconst 1, 1) := dk_4 (dk_at dksX3_steps_12 17 rfl rfl)
theorem dX3_steps_299 : decode cX3_steps 299 = .ok (.istore 7, 2) := dk_54 7 (dk_at dksX3_steps_12 18 rfl rfl)
theorem dX3_steps_301 : decode cX3_steps 301 = .ok (.iinc 8 1, 3) := dk_132 8 1 (dk_at dksX3_steps_12 20 rfl rfl)
theorem dX3_steps_304 : decode cX3_steps 304 = .ok (.goto (-161), 3) := dk_167 255 95 (dk_at dksX3_steps_13 0 rfl rfl)
theorem dX3_steps_307 : decode cX3_steps 307 = .ok (.iinc 6 1, 3) := dk_132 6 1 (dk_at dksX3_steps_13 3 rfl rfl)
theorem dX3_steps_310 : decode cX3_steps 310 = .ok (.goto (-194), 3) := dk_167 255 62 (dk_at dksX3_steps_13 6 rfl rfl)
theorem dX3_steps_313 : decode cX3_steps 313 = .ok (.aload_n 0, 1) := dk_42 (dk_at dksX3_steps_13 9 rfl rfl)
theorem dX3_steps_314 : decode cX3_steps 314 = .ok (.getfield 28, 3) := dk_180 0 28 (dk_at dksX3_steps_13 10 rfl rfl)
theorem dX3_steps_317 : decode cX3_steps 317 = .ok (.bipush 24, 2) := dk_16 24 (dk_at dksX3_steps_13 13 rfl rfl)
theorem dX3_steps_319 : decode cX3_steps 319 = .ok (.iload 5, 2) := dk_21 5 (dk_at dksX3_steps_13 15 rfl rfl)
theorem dX3_steps_321 : decode cX3_steps 321 = .ok (.imul, 1) := dk_104 (dk_at dksX3_steps_13 17 rfl rfl)
theorem dX3_steps_322 : decode cX3_steps 322 = .ok (.iload 4, 2) := dk_21 4 (dk_at dksX3_steps_13 18 rfl rfl)
theorem dX3_steps_324 : decode cX3_steps 324 = .ok (.iadd, 1) := dk_96 (dk_at dksX3_steps_13 20 rfl rfl)
theorem dX3_steps_325 : decode cX3_steps 325 = .ok (.iaload, 1) := dk_46 (dk_at dksX3_steps_13 21 rfl rfl)
theorem dX3_steps_326 : decode cX3_steps 326 = .ok (.ifCond .ge 11, 3) := dk_156 0 11 (dk_at dksX3_steps_14 0 rfl rfl)
theorem dX3_steps_329 : decode cX3_steps 329 = .ok (.aload_n 0, 1) := dk_42 (dk_at dksX3_steps_14 3 rfl rfl)
theorem dX3_steps_330 : decode cX3_steps 330 = .ok (.iconst 3, 1) := dk_6 (dk_at dksX3_steps_14 4 rfl rfl)
theorem dX3_steps_331 : decode cX3_steps 331 = .ok (.invokevirtual 86, 3) := dk_182 0 86 (dk_at dksX3_steps_14 5 rfl rfl)
theorem dX3_steps_334 : decode cX3_steps 334 = .ok (.goto 16, 3) := dk_167 0 16 (dk_at dksX3_steps_14 8 rfl rfl)
theorem dX3_steps_337 : decode cX3_steps 337 = .ok (.aload_n 0, 1) := dk_42 (dk_at dksX3_steps_14 11 rfl rfl)
theorem dX3_steps_338 : decode cX3_steps 338 = .ok (.getfield 28, 3) := dk_180 0 28 (dk_at dksX3_steps_14 12 rfl rfl)
theorem dX3_steps_341 : decode cX3_steps 341 = .ok (.bipush 24, 2) := dk_16 24 (dk_at dksX3_steps_14 15 rfl rfl)
theorem dX3_steps_343 : decode cX3_steps 343 = .ok (.iload 5, 2) := dk_21 5 (dk_at dksX3_steps_14 17 rfl rfl)
theorem dX3_steps_345 : decode cX3_steps 345 = .ok (.imul, 1) := dk_104 (dk_at dksX3_steps_14 19 rfl rfl)
theorem dX3_steps_346 : decode cX3_steps 346 = .ok (.iload 4, 2) := dk_21 4 (dk_at dksX3_steps_14 20 rfl rfl)
theorem dX3_steps_348 : decode cX3_steps 348 = .ok (.iadd, 1) := dk_96 (dk_at dksX3_steps_14 22 rfl rfl)
theorem dX3_steps_349 : decode cX3_steps 349 = .ok (.iaload, 1) := dk_46 (dk_at dksX3_steps_14 23 rfl rfl)
theorem dX3_steps_350 : decode cX3_steps 350 = .ok (.ireturn, 1) := dk_172 (dk_at dksX3_steps_15 0 rfl rfl)
abbrev cX3_stepsByRows : ByteArray := prog_22_method_66_code
def yX3_stepsByRows : MethodName := ⟨RX3, "stepsByRows", "(IIIII)I"⟩
def dkwX3_stepsByRows_0 : List UInt8 := [42, 27, 28, 29, 21, 4, 21, 5, 182, 0, 164, 172]
abbrev dktX3_stepsByRows_0 : List UInt8 := dkwX3_stepsByRows_0 ++ []
theorem dksX3_stepsByRows_0 : cX3_stepsByRows.data.toList.drop 0 = dktX3_stepsByRows_0 := by decide +kernel
theorem dX3_stepsByRows_0 : decode cX3_stepsByRows 0 = .ok (.aload_n 0, 1) := dk_42 (dk_at dksX3_stepsByRows_0 0 rfl rfl)
theorem dX3_stepsByRows_1 : decode cX3_stepsByRows 1 = .ok (.iload_n 1, 1) := dk_27 (dk_at dksX3_stepsByRows_0 1 rfl rfl)
theorem dX3_stepsByRows_2 : decode cX3_stepsByRows 2 = .ok (.iload_n 2, 1) := dk_28 (dk_at dksX3_stepsByRows_0 2 rfl rfl)
theorem dX3_stepsByRows_3 : decode cX3_stepsByRows 3 = .ok (.iload_n 3, 1) := dk_29 (dk_at dksX3_stepsByRows_0 3 rfl rfl)
theorem dX3_stepsByRows_4 : decode cX3_stepsByRows 4 = .ok (.iload 4, 2) := dk_21 4 (dk_at dksX3_stepsByRows_0 4 rfl rfl)
theorem dX3_stepsByRows_6 : decode cX3_stepsByRows 6 = .ok (.iload 5, 2) := dk_21 5 (dk_at dksX3_stepsByRows_0 6 rfl rfl)
theorem dX3_stepsByRows_8 : decode cX3_stepsByRows 8 = .ok (.invokevirtual 164, 3) := dk_182 0 164 (dk_at dksX3_stepsByRows_0 8 rfl rfl)
theorem dX3_stepsByRows_11 : decode cX3_stepsByRows 11 = .ok (.ireturn, 1) := dk_172 (dk_at dksX3_stepsByRows_0 11 rfl rfl)
abbrev cX3_outlineCount : ByteArray := prog_22_method_71_code
def yX3_outlineCount : MethodName := ⟨RX3, "outlineCount", "(I)I"⟩
def dkwX3_outlineCount_0 : List UInt8 := [42, 27, 182, 0, 130, 154, 0, 5, 3, 172, 42, 27, 182, 0, 184, 42, 180, 0, 168, 172]
abbrev dktX3_outlineCount_0 : List UInt8 := dkwX3_outlineCount_0 ++ []
theorem dksX3_outlineCount_0 : cX3_outlineCount.data.toList.drop 0 = dktX3_outlineCount_0 := by decide +kernel
theorem dX3_outlineCount_0 : decode cX3_outlineCount 0 = .ok (.aload_n 0, 1) := dk_42 (dk_at dksX3_outlineCount_0 0 rfl rfl)
theorem dX3_outlineCount_1 : decode cX3_outlineCount 1 = .ok (.iload_n 1, 1) := dk_27 (dk_at dksX3_outlineCount_0 1 rfl rfl)
theorem dX3_outlineCount_2 : decode cX3_outlineCount 2 = .ok (.invokevirtual 130, 3) := dk_182 0 130 (dk_at dksX3_outlineCount_0 2 rfl rfl)
theorem dX3_outlineCount_5 : decode cX3_outlineCount 5 = .ok (.ifCond .ne 5, 3) := dk_154 0 5 (dk_at dksX3_outlineCount_0 5 rfl rfl)
theorem dX3_outlineCount_8 : decode cX3_outlineCount 8 = .ok (.iconst 0, 1) := dk_3 (dk_at dksX3_outlineCount_0 8 rfl rfl)
theorem dX3_outlineCount_9 : decode cX3_outlineCount 9 = .ok (.ireturn, 1) := dk_172 (dk_at dksX3_outlineCount_0 9 rfl rfl)
theorem dX3_outlineCount_10 : decode cX3_outlineCount 10 = .ok (.aload_n 0, 1) := dk_42 (dk_at dksX3_outlineCount_0 10 rfl rfl)
theorem dX3_outlineCount_11 : decode cX3_outlineCount 11 = .ok (.iload_n 1, 1) := dk_27 (dk_at dksX3_outlineCount_0 11 rfl rfl)
theorem dX3_outlineCount_12 : decode cX3_outlineCount 12 = .ok (.invokevirtual 184, 3) := dk_182 0 184 (dk_at dksX3_outlineCount_0 12 rfl rfl)
theorem dX3_outlineCount_15 : decode cX3_outlineCount 15 = .ok (.aload_n 0, 1) := dk_42 (dk_at dksX3_outlineCount_0 15 rfl rfl)
theorem dX3_outlineCount_16 : decode cX3_outlineCount 16 = .ok (.getfield 168, 3) := dk_180 0 168 (dk_at dksX3_outlineCount_0 16 rfl rfl)
theorem dX3_outlineCount_19 : decode cX3_outlineCount 19 = .ok (.ireturn, 1) := dk_172 (dk_at dksX3_outlineCount_0 19 rfl rfl)
abbrev cX3_outlinesOf : ByteArray := prog_22_method_70_code
def yX3_outlinesOf : MethodName := ⟨RX3, "outlinesOf", "(I)V"⟩
def dkwX3_outlinesOf_4 : List UInt8 := [132, 3, 1, 167, 255, 201, 132, 2, 1, 167, 255, 186, 177]
abbrev dktX3_outlinesOf_4 : List UInt8 := dkwX3_outlinesOf_4 ++ []
def dkwX3_outlinesOf_3 : List UInt8 := [16, 25, 108, 29, 182, 0, 174, 154, 0, 17, 42, 27, 28, 16, 25, 112, 28, 16, 25, 108, 29, 182, 0, 180]
abbrev dktX3_outlinesOf_3 : List UInt8 := dkwX3_outlinesOf_3 ++ dktX3_outlinesOf_4
def dkwX3_outlinesOf_2 : List UInt8 := [42, 27, 28, 16, 25, 112, 28, 16, 25, 108, 29, 182, 0, 177, 153, 0, 33, 42, 28, 16, 25, 112, 28]
abbrev dktX3_outlinesOf_2 : List UInt8 := dkwX3_outlinesOf_2 ++ dktX3_outlinesOf_3
def dkwX3_outlinesOf_1 : List UInt8 := [3, 79, 132, 2, 1, 167, 255, 239, 3, 61, 28, 17, 2, 113, 162, 0, 69, 3, 62, 29, 7, 162, 0, 56]
abbrev dktX3_outlinesOf_1 : List UInt8 := dkwX3_outlinesOf_1 ++ dktX3_outlinesOf_2
def dkwX3_outlinesOf_0 : List UInt8 := [42, 3, 181, 0, 168, 42, 3, 181, 0, 171, 3, 61, 28, 17, 2, 113, 162, 0, 16, 42, 180, 0, 43, 28]
abbrev dktX3_outlinesOf_0 : List UInt8 := dkwX3_outlinesOf_0 ++ dktX3_outlinesOf_1
theorem dksX3_outlinesOf_0 : cX3_outlinesOf.data.toList.drop 0 = dktX3_outlinesOf_0 := by decide +kernel
theorem dksX3_outlinesOf_1 : cX3_outlinesOf.data.toList.drop 24 = dktX3_outlinesOf_1 := dk_seg dksX3_outlinesOf_0 24 rfl rfl
theorem dksX3_outlinesOf_2 : cX3_outlinesOf.data.toList.drop 48 = dktX3_outlinesOf_2 := dk_seg dksX3_outlinesOf_1 24 rfl rfl
theorem dksX3_outlinesOf_3 : cX3_outlinesOf.data.toList.drop 71 = dktX3_outlinesOf_3 := dk_seg dksX3_outlinesOf_2 23 rfl rfl
theorem dksX3_outlinesOf_4 : cX3_outlinesOf.data.toList.drop 95 = dktX3_outlinesOf_4 := dk_seg dksX3_outlinesOf_3 24 rfl rfl
theorem dX3_outlinesOf_0 : decode cX3_outlinesOf 0 = .ok (.aload_n 0, 1) := dk_42 (dk_at dksX3_outlinesOf_0 0 rfl rfl)
theorem dX3_outlinesOf_1 : decode cX3_outlinesOf 1 = .ok (.iconst 0, 1) := dk_3 (dk_at dksX3_outlinesOf_0 1 rfl rfl)
theorem dX3_outlinesOf_2 : decode cX3_outlinesOf 2 = .ok (.putfield 168, 3) := dk_181 0 168 (dk_at dksX3_outlinesOf_0 2 rfl rfl)
theorem dX3_outlinesOf_5 : decode cX3_outlinesOf 5 = .ok (.aload_n 0, 1) := dk_42 (dk_at dksX3_outlinesOf_0 5 rfl rfl)
theorem dX3_outlinesOf_6 : decode cX3_outlinesOf 6 = .ok (.iconst 0, 1) := dk_3 (dk_at dksX3_outlinesOf_0 6 rfl rfl)
theorem dX3_outlinesOf_7 : decode cX3_outlinesOf 7 = .ok (.putfield 171, 3) := dk_181 0 171 (dk_at dksX3_outlinesOf_0 7 rfl rfl)
theorem dX3_outlinesOf_10 : decode cX3_outlinesOf 10 = .ok (.iconst 0, 1) := dk_3 (dk_at dksX3_outlinesOf_0 10 rfl rfl)
theorem dX3_outlinesOf_11 : decode cX3_outlinesOf 11 = .ok (.istore_n 2, 1) := dk_61 (dk_at dksX3_outlinesOf_0 11 rfl rfl)
theorem dX3_outlinesOf_12 : decode cX3_outlinesOf 12 = .ok (.iload_n 2, 1) := dk_28 (dk_at dksX3_outlinesOf_0 12 rfl rfl)
theorem dX3_outlinesOf_13 : decode cX3_outlinesOf 13 = .ok (.sipush 625, 3) := dk_17 2 113 (dk_at dksX3_outlinesOf_0 13 rfl rfl)
theorem dX3_outlinesOf_16 : decode cX3_outlinesOf 16 = .ok (.if_icmp .ge 16, 3) := dk_162 0 16 (dk_at dksX3_outlinesOf_0 16 rfl rfl)
theorem dX3_outlinesOf_19 : decode cX3_outlinesOf 19 = .ok (.aload_n 0, 1) := dk_42 (dk_at dksX3_outlinesOf_0 19 rfl rfl)
theorem dX3_outlinesOf_20 : decode cX3_outlinesOf 20 = .ok (.getfield 43, 3) := dk_180 0 43 (dk_at dksX3_outlinesOf_0 20 rfl rfl)
theorem dX3_outlinesOf_23 : decode cX3_outlinesOf 23 = .ok (.iload_n 2, 1) := dk_28 (dk_at dksX3_outlinesOf_0 23 rfl rfl)
theorem dX3_outlinesOf_24 : decode cX3_outlinesOf 24 = .ok (.iconst 0, 1) := dk_3 (dk_at dksX3_outlinesOf_1 0 rfl rfl)
theorem dX3_outlinesOf_25 : decode cX3_outlinesOf 25 = .ok (.iastore, 1) := dk_79 (dk_at dksX3_outlinesOf_1 1 rfl rfl)
theorem dX3_outlinesOf_26 : decode cX3_outlinesOf 26 = .ok (.iinc 2 1, 3) := dk_132 2 1 (dk_at dksX3_outlinesOf_1 2 rfl rfl)
theorem dX3_outlinesOf_29 : decode cX3_outlinesOf 29 = .ok (.goto (-17), 3) := dk_167 255 239 (dk_at dksX3_outlinesOf_1 5 rfl rfl)
theorem dX3_outlinesOf_32 : decode cX3_outlinesOf 32 = .ok (.iconst 0, 1) := dk_3 (dk_at dksX3_outlinesOf_1 8 rfl rfl)
theorem dX3_outlinesOf_33 : decode cX3_outlinesOf 33 = .ok (.istore_n 2, 1) := dk_61 (dk_at dksX3_outlinesOf_1 9 rfl rfl)
theorem dX3_outlinesOf_34 : decode cX3_outlinesOf 34 = .ok (.iload_n 2, 1) := dk_28 (dk_at dksX3_outlinesOf_1 10 rfl rfl)
theorem dX3_outlinesOf_35 : decode cX3_outlinesOf 35 = .ok (.sipush 625, 3) := dk_17 2 113 (dk_at dksX3_outlinesOf_1 11 rfl rfl)
theorem dX3_outlinesOf_38 : decode cX3_outlinesOf 38 = .ok (.if_icmp .ge 69, 3) := dk_162 0 69 (dk_at dksX3_outlinesOf_1 14 rfl rfl)
theorem dX3_outlinesOf_41 : decode cX3_outlinesOf 41 = .ok (.iconst 0, 1) := dk_3 (dk_at dksX3_outlinesOf_1 17 rfl rfl)
theorem dX3_outlinesOf_42 : decode cX3_outlinesOf 42 = .ok (.istore_n 3, 1) := dk_62 (dk_at dksX3_outlinesOf_1 18 rfl rfl)
theorem dX3_outlinesOf_43 : decode cX3_outlinesOf 43 = .ok (.iload_n 3, 1) := dk_29 (dk_at dksX3_outlinesOf_1 19 rfl rfl)
theorem dX3_outlinesOf_44 : decode cX3_outlinesOf 44 = .ok (.iconst 4, 1) := dk_7 (dk_at dksX3_outlinesOf_1 20 rfl rfl)
theorem dX3_outlinesOf_45 : decode cX3_outlinesOf 45 = .ok (.if_icmp .ge 56, 3) := dk_162 0 56 (dk_at dksX3_outlinesOf_1 21 rfl rfl)
theorem dX3_outlinesOf_48 : decode cX3_outlinesOf 48 = .ok (.aload_n 0, 1) := dk_42 (dk_at dksX3_outlinesOf_2 0 rfl rfl)
theorem dX3_outlinesOf_49 : decode cX3_outlinesOf 49 = .ok (.iload_n 1, 1) := dk_27 (dk_at dksX3_outlinesOf_2 1 rfl rfl)
theorem dX3_outlinesOf_50 : decode cX3_outlinesOf 50 = .ok (.iload_n 2, 1) := dk_28 (dk_at dksX3_outlinesOf_2 2 rfl rfl)
theorem dX3_outlinesOf_51 : decode cX3_outlinesOf 51 = .ok (.bipush 25, 2) := dk_16 25 (dk_at dksX3_outlinesOf_2 3 rfl rfl)
theorem dX3_outlinesOf_53 : decode cX3_outlinesOf 53 = .ok (.irem, 1) := dk_112 (dk_at dksX3_outlinesOf_2 5 rfl rfl)
theorem dX3_outlinesOf_54 : decode cX3_outlinesOf 54 = .ok (.iload_n 2, 1) := dk_28 (dk_at dksX3_outlinesOf_2 6 rfl rfl)
theorem dX3_outlinesOf_55 : decode cX3_outlinesOf 55 = .ok (.bipush 25, 2) := dk_16 25 (dk_at dksX3_outlinesOf_2 7 rfl rfl)
theorem dX3_outlinesOf_57 : decode cX3_outlinesOf 57 = .ok (.idiv, 1) := dk_108 (dk_at dksX3_outlinesOf_2 9 rfl rfl)
theorem dX3_outlinesOf_58 : decode cX3_outlinesOf 58 = .ok (.iload_n 3, 1) := dk_29 (dk_at dksX3_outlinesOf_2 10 rfl rfl)
theorem dX3_outlinesOf_59 : decode cX3_outlinesOf 59 = .ok (.invokevirtual 177, 3) := dk_182 0 177 (dk_at dksX3_outlinesOf_2 11 rfl rfl)
theorem dX3_outlinesOf_62 : decode cX3_outlinesOf 62 = .ok (.ifCond .eq 33, 3) := dk_153 0 33 (dk_at dksX3_outlinesOf_2 14 rfl rfl)
theorem dX3_outlinesOf_65 : decode cX3_outlinesOf 65 = .ok (.aload_n 0, 1) := dk_42 (dk_at dksX3_outlinesOf_2 17 rfl rfl)
theorem dX3_outlinesOf_66 : decode cX3_outlinesOf 66 = .ok (.iload_n 2, 1) := dk_28 (dk_at dksX3_outlinesOf_2 18 rfl rfl)
theorem dX3_outlinesOf_67 : decode cX3_outlinesOf 67 = .ok (.bipush 25, 2) := dk_16 25 (dk_at dksX3_outlinesOf_2 19 rfl rfl)
theorem dX3_outlinesOf_69 : decode cX3_outlinesOf 69 = .ok (.irem, 1) := dk_112 (dk_at dksX3_outlinesOf_2 21 rfl rfl)
theorem dX3_outlinesOf_70 : decode cX3_outlinesOf 70 = .ok (.iload_n 2, 1) := dk_28 (dk_at dksX3_outlinesOf_2 22 rfl rfl)
theorem dX3_outlinesOf_71 : decode cX3_outlinesOf 71 = .ok (.bipush 25, 2) := dk_16 25 (dk_at dksX3_outlinesOf_3 0 rfl rfl)
theorem dX3_outlinesOf_73 : decode cX3_outlinesOf 73 = .ok (.idiv, 1) := dk_108 (dk_at dksX3_outlinesOf_3 2 rfl rfl)
theorem dX3_outlinesOf_74 : decode cX3_outlinesOf 74 = .ok (.iload_n 3, 1) := dk_29 (dk_at dksX3_outlinesOf_3 3 rfl rfl)
theorem dX3_outlinesOf_75 : decode cX3_outlinesOf 75 = .ok (.invokevirtual 174, 3) := dk_182 0 174 (dk_at dksX3_outlinesOf_3 4 rfl rfl)
theorem dX3_outlinesOf_78 : decode cX3_outlinesOf 78 = .ok (.ifCond .ne 17, 3) := dk_154 0 17 (dk_at dksX3_outlinesOf_3 7 rfl rfl)
theorem dX3_outlinesOf_81 : decode cX3_outlinesOf 81 = .ok (.aload_n 0, 1) := dk_42 (dk_at dksX3_outlinesOf_3 10 rfl rfl)
theorem dX3_outlinesOf_82 : decode cX3_outlinesOf 82 = .ok (.iload_n 1, 1) := dk_27 (dk_at dksX3_outlinesOf_3 11 rfl rfl)
theorem dX3_outlinesOf_83 : decode cX3_outlinesOf 83 = .ok (.iload_n 2, 1) := dk_28 (dk_at dksX3_outlinesOf_3 12 rfl rfl)
theorem dX3_outlinesOf_84 : decode cX3_outlinesOf 84 = .ok (.bipush 25, 2) := dk_16 25 (dk_at dksX3_outlinesOf_3 13 rfl rfl)
theorem dX3_outlinesOf_86 : decode cX3_outlinesOf 86 = .ok (.irem, 1) := dk_112 (dk_at dksX3_outlinesOf_3 15 rfl rfl)
theorem dX3_outlinesOf_87 : decode cX3_outlinesOf 87 = .ok (.iload_n 2, 1) := dk_28 (dk_at dksX3_outlinesOf_3 16 rfl rfl)
theorem dX3_outlinesOf_88 : decode cX3_outlinesOf 88 = .ok (.bipush 25, 2) := dk_16 25 (dk_at dksX3_outlinesOf_3 17 rfl rfl)
theorem dX3_outlinesOf_90 : decode cX3_outlinesOf 90 = .ok (.idiv, 1) := dk_108 (dk_at dksX3_outlinesOf_3 19 rfl rfl)
theorem dX3_outlinesOf_91 : decode cX3_outlinesOf 91 = .ok (.iload_n 3, 1) := dk_29 (dk_at dksX3_outlinesOf_3 20 rfl rfl)
theorem dX3_outlinesOf_92 : decode cX3_outlinesOf 92 = .ok (.invokevirtual 180, 3) := dk_182 0 180 (dk_at dksX3_outlinesOf_3 21 rfl rfl)
theorem dX3_outlinesOf_95 : decode cX3_outlinesOf 95 = .ok (.iinc 3 1, 3) := dk_132 3 1 (dk_at dksX3_outlinesOf_4 0 rfl rfl)
theorem dX3_outlinesOf_98 : decode cX3_outlinesOf 98 = .ok (.goto (-55), 3) := dk_167 255 201 (dk_at dksX3_outlinesOf_4 3 rfl rfl)
theorem dX3_outlinesOf_101 : decode cX3_outlinesOf 101 = .ok (.iinc 2 1, 3) := dk_132 2 1 (dk_at dksX3_outlinesOf_4 6 rfl rfl)
theorem dX3_outlinesOf_104 : decode cX3_outlinesOf 104 = .ok (.goto (-70), 3) := dk_167 255 186 (dk_at dksX3_outlinesOf_4 9 rfl rfl)
theorem dX3_outlinesOf_107 : decode cX3_outlinesOf 107 = .ok (.return_, 1) := dk_177 (dk_at dksX3_outlinesOf_4 12 rfl rfl)
abbrev cX3_leads : ByteArray := prog_22_method_67_code
def yX3_leads : MethodName := ⟨RX3, "leads", "(IIII)Z"⟩
def dkwX3_leads_7 : List UInt8 := [3, 172]
abbrev dktX3_leads_7 : List UInt8 := dkwX3_leads_7 ++ []
def dkwX3_leads_6 : List UInt8 := [182, 0, 98, 153, 0, 21, 42, 27, 28, 4, 100, 29, 4, 100, 182, 0, 98, 154, 0, 7, 4, 167, 0, 4]
abbrev dktX3_leads_6 : List UInt8 := dkwX3_leads_6 ++ dktX3_leads_7
def dkwX3_leads_5 : List UInt8 := [27, 28, 4, 100, 29, 182, 0, 98, 154, 0, 7, 4, 167, 0, 4, 3, 172, 42, 27, 28, 29, 4, 100]
abbrev dktX3_leads_5 : List UInt8 := dkwX3_leads_5 ++ dktX3_leads_6
def dkwX3_leads_4 : List UInt8 := [154, 0, 7, 4, 167, 0, 4, 3, 172, 42, 27, 28, 4, 100, 29, 4, 100, 182, 0, 98, 153, 0, 19, 42]
abbrev dktX3_leads_4 : List UInt8 := dkwX3_leads_4 ++ dktX3_leads_5
def dkwX3_leads_3 : List UInt8 := [167, 0, 4, 3, 172, 42, 27, 28, 4, 100, 29, 182, 0, 98, 153, 0, 17, 42, 27, 28, 29, 182, 0, 98]
abbrev dktX3_leads_3 : List UInt8 := dkwX3_leads_3 ++ dktX3_leads_4
def dkwX3_leads_2 : List UInt8 := [42, 27, 28, 29, 182, 0, 98, 153, 0, 19, 42, 27, 28, 29, 4, 100, 182, 0, 98, 154, 0, 7, 4]
abbrev dktX3_leads_2 : List UInt8 := dkwX3_leads_2 ++ dktX3_leads_3
def dkwX3_leads_1 : List UInt8 := [170, 0, 0, 0, 0, 114, 0, 0, 0, 0, 0, 0, 0, 2, 0, 0, 0, 26, 0, 0, 0, 54, 0, 0, 0, 82]
abbrev dktX3_leads_1 : List UInt8 := dkwX3_leads_1 ++ dktX3_leads_2
def dkwX3_leads_0 : List UInt8 := [21, 4]
abbrev dktX3_leads_0 : List UInt8 := dkwX3_leads_0 ++ dktX3_leads_1
theorem dksX3_leads_0 : cX3_leads.data.toList.drop 0 = dktX3_leads_0 := by decide +kernel
theorem dksX3_leads_1 : cX3_leads.data.toList.drop 2 = dktX3_leads_1 := dk_seg dksX3_leads_0 2 rfl rfl
theorem dksX3_leads_2 : cX3_leads.data.toList.drop 28 = dktX3_leads_2 := dk_seg dksX3_leads_1 26 rfl rfl
theorem dksX3_leads_3 : cX3_leads.data.toList.drop 51 = dktX3_leads_3 := dk_seg dksX3_leads_2 23 rfl rfl
theorem dksX3_leads_4 : cX3_leads.data.toList.drop 75 = dktX3_leads_4 := dk_seg dksX3_leads_3 24 rfl rfl
theorem dksX3_leads_5 : cX3_leads.data.toList.drop 99 = dktX3_leads_5 := dk_seg dksX3_leads_4 24 rfl rfl
theorem dksX3_leads_6 : cX3_leads.data.toList.drop 122 = dktX3_leads_6 := dk_seg dksX3_leads_5 23 rfl rfl
theorem dksX3_leads_7 : cX3_leads.data.toList.drop 146 = dktX3_leads_7 := dk_seg dksX3_leads_6 24 rfl rfl
theorem dX3_leads_0 : decode cX3_leads 0 = .ok (.iload 4, 2) := dk_21 4 (dk_at dksX3_leads_0 0 rfl rfl)
theorem dX3_leads_2 : decode cX3_leads 2 = .ok (.tableswitch 114 0 2 #[26, 54, 82], 26) := by decide +kernel
theorem dX3_leads_28 : decode cX3_leads 28 = .ok (.aload_n 0, 1) := dk_42 (dk_at dksX3_leads_2 0 rfl rfl)
theorem dX3_leads_29 : decode cX3_leads 29 = .ok (.iload_n 1, 1) := dk_27 (dk_at dksX3_leads_2 1 rfl rfl)
theorem dX3_leads_30 : decode cX3_leads 30 = .ok (.iload_n 2, 1) := dk_28 (dk_at dksX3_leads_2 2 rfl rfl)
theorem dX3_leads_31 : decode cX3_leads 31 = .ok (.iload_n 3, 1) := dk_29 (dk_at dksX3_leads_2 3 rfl rfl)
theorem dX3_leads_32 : decode cX3_leads 32 = .ok (.invokevirtual 98, 3) := dk_182 0 98 (dk_at dksX3_leads_2 4 rfl rfl)
theorem dX3_leads_35 : decode cX3_leads 35 = .ok (.ifCond .eq 19, 3) := dk_153 0 19 (dk_at dksX3_leads_2 7 rfl rfl)
theorem dX3_leads_38 : decode cX3_leads 38 = .ok (.aload_n 0, 1) := dk_42 (dk_at dksX3_leads_2 10 rfl rfl)
theorem dX3_leads_39 : decode cX3_leads 39 = .ok (.iload_n 1, 1) := dk_27 (dk_at dksX3_leads_2 11 rfl rfl)
theorem dX3_leads_40 : decode cX3_leads 40 = .ok (.iload_n 2, 1) := dk_28 (dk_at dksX3_leads_2 12 rfl rfl)
theorem dX3_leads_41 : decode cX3_leads 41 = .ok (.iload_n 3, 1) := dk_29 (dk_at dksX3_leads_2 13 rfl rfl)
theorem dX3_leads_42 : decode cX3_leads 42 = .ok (.iconst 1, 1) := dk_4 (dk_at dksX3_leads_2 14 rfl rfl)
theorem dX3_leads_43 : decode cX3_leads 43 = .ok (.isub, 1) := dk_100 (dk_at dksX3_leads_2 15 rfl rfl)
theorem dX3_leads_44 : decode cX3_leads 44 = .ok (.invokevirtual 98, 3) := dk_182 0 98 (dk_at dksX3_leads_2 16 rfl rfl)
theorem dX3_leads_47 : decode cX3_leads 47 = .ok (.ifCond .ne 7, 3) := dk_154 0 7 (dk_at dksX3_leads_2 19 rfl rfl)
theorem dX3_leads_50 : decode cX3_leads 50 = .ok (.iconst 1, 1) := dk_4 (dk_at dksX3_leads_2 22 rfl rfl)
theorem dX3_leads_51 : decode cX3_leads 51 = .ok (.goto 4, 3) := dk_167 0 4 (dk_at dksX3_leads_3 0 rfl rfl)
theorem dX3_leads_54 : decode cX3_leads 54 = .ok (.iconst 0, 1) := dk_3 (dk_at dksX3_leads_3 3 rfl rfl)
theorem dX3_leads_55 : decode cX3_leads 55 = .ok (.ireturn, 1) := dk_172 (dk_at dksX3_leads_3 4 rfl rfl)
theorem dX3_leads_56 : decode cX3_leads 56 = .ok (.aload_n 0, 1) := dk_42 (dk_at dksX3_leads_3 5 rfl rfl)
theorem dX3_leads_57 : decode cX3_leads 57 = .ok (.iload_n 1, 1) := dk_27 (dk_at dksX3_leads_3 6 rfl rfl)
theorem dX3_leads_58 : decode cX3_leads 58 = .ok (.iload_n 2, 1) := dk_28 (dk_at dksX3_leads_3 7 rfl rfl)
theorem dX3_leads_59 : decode cX3_leads 59 = .ok (.iconst 1, 1) := dk_4 (dk_at dksX3_leads_3 8 rfl rfl)
theorem dX3_leads_60 : decode cX3_leads 60 = .ok (.isub, 1) := dk_100 (dk_at dksX3_leads_3 9 rfl rfl)
theorem dX3_leads_61 : decode cX3_leads 61 = .ok (.iload_n 3, 1) := dk_29 (dk_at dksX3_leads_3 10 rfl rfl)
theorem dX3_leads_62 : decode cX3_leads 62 = .ok (.invokevirtual 98, 3) := dk_182 0 98 (dk_at dksX3_leads_3 11 rfl rfl)
theorem dX3_leads_65 : decode cX3_leads 65 = .ok (.ifCond .eq 17, 3) := dk_153 0 17 (dk_at dksX3_leads_3 14 rfl rfl)
theorem dX3_leads_68 : decode cX3_leads 68 = .ok (.aload_n 0, 1) := dk_42 (dk_at dksX3_leads_3 17 rfl rfl)
theorem dX3_leads_69 : decode cX3_leads 69 = .ok (.iload_n 1, 1) := dk_27 (dk_at dksX3_leads_3 18 rfl rfl)
theorem dX3_leads_70 : decode cX3_leads 70 = .ok (.iload_n 2, 1) := dk_28 (dk_at dksX3_leads_3 19 rfl rfl)
theorem dX3_leads_71 : decode cX3_leads 71 = .ok (.iload_n 3, 1) := dk_29 (dk_at dksX3_leads_3 20 rfl rfl)
theorem dX3_leads_72 : decode cX3_leads 72 = .ok (.invokevirtual 98, 3) := dk_182 0 98 (dk_at dksX3_leads_3 21 rfl rfl)
theorem dX3_leads_75 : decode cX3_leads 75 = .ok (.ifCond .ne 7, 3) := dk_154 0 7 (dk_at dksX3_leads_4 0 rfl rfl)
theorem dX3_leads_78 : decode cX3_leads 78 = .ok (.iconst 1, 1) := dk_4 (dk_at dksX3_leads_4 3 rfl rfl)
theorem dX3_leads_79 : decode cX3_leads 79 = .ok (.goto 4, 3) := dk_167 0 4 (dk_at dksX3_leads_4 4 rfl rfl)
theorem dX3_leads_82 : decode cX3_leads 82 = .ok (.iconst 0, 1) := dk_3 (dk_at dksX3_leads_4 7 rfl rfl)
theorem dX3_leads_83 : decode cX3_leads 83 = .ok (.ireturn, 1) := dk_172 (dk_at dksX3_leads_4 8 rfl rfl)
theorem dX3_leads_84 : decode cX3_leads 84 = .ok (.aload_n 0, 1) := dk_42 (dk_at dksX3_leads_4 9 rfl rfl)
theorem dX3_leads_85 : decode cX3_leads 85 = .ok (.iload_n 1, 1) := dk_27 (dk_at dksX3_leads_4 10 rfl rfl)
theorem dX3_leads_86 : decode cX3_leads 86 = .ok (.iload_n 2, 1) := dk_28 (dk_at dksX3_leads_4 11 rfl rfl)
theorem dX3_leads_87 : decode cX3_leads 87 = .ok (.iconst 1, 1) := dk_4 (dk_at dksX3_leads_4 12 rfl rfl)
theorem dX3_leads_88 : decode cX3_leads 88 = .ok (.isub, 1) := dk_100 (dk_at dksX3_leads_4 13 rfl rfl)
theorem dX3_leads_89 : decode cX3_leads 89 = .ok (.iload_n 3, 1) := dk_29 (dk_at dksX3_leads_4 14 rfl rfl)
theorem dX3_leads_90 : decode cX3_leads 90 = .ok (.iconst 1, 1) := dk_4 (dk_at dksX3_leads_4 15 rfl rfl)
theorem dX3_leads_91 : decode cX3_leads 91 = .ok (.isub, 1) := dk_100 (dk_at dksX3_leads_4 16 rfl rfl)
theorem dX3_leads_92 : decode cX3_leads 92 = .ok (.invokevirtual 98, 3) := dk_182 0 98 (dk_at dksX3_leads_4 17 rfl rfl)
theorem dX3_leads_95 : decode cX3_leads 95 = .ok (.ifCond .eq 19, 3) := dk_153 0 19 (dk_at dksX3_leads_4 20 rfl rfl)
theorem dX3_leads_98 : decode cX3_leads 98 = .ok (.aload_n 0, 1) := dk_42 (dk_at dksX3_leads_4 23 rfl rfl)
theorem dX3_leads_99 : decode cX3_leads 99 = .ok (.iload_n 1, 1) := dk_27 (dk_at dksX3_leads_5 0 rfl rfl)
theorem dX3_leads_100 : decode cX3_leads 100 = .ok (.iload_n 2, 1) := dk_28 (dk_at dksX3_leads_5 1 rfl rfl)
theorem dX3_leads_101 : decode cX3_leads 101 = .ok (.iconst 1, 1) := dk_4 (dk_at dksX3_leads_5 2 rfl rfl)
theorem dX3_leads_102 : decode cX3_leads 102 = .ok (.isub, 1) := dk_100 (dk_at dksX3_leads_5 3 rfl rfl)
theorem dX3_leads_103 : decode cX3_leads 103 = .ok (.iload_n 3, 1) := dk_29 (dk_at dksX3_leads_5 4 rfl rfl)
theorem dX3_leads_104 : decode cX3_leads 104 = .ok (.invokevirtual 98, 3) := dk_182 0 98 (dk_at dksX3_leads_5 5 rfl rfl)
theorem dX3_leads_107 : decode cX3_leads 107 = .ok (.ifCond .ne 7, 3) := dk_154 0 7 (dk_at dksX3_leads_5 8 rfl rfl)
theorem dX3_leads_110 : decode cX3_leads 110 = .ok (.iconst 1, 1) := dk_4 (dk_at dksX3_leads_5 11 rfl rfl)
theorem dX3_leads_111 : decode cX3_leads 111 = .ok (.goto 4, 3) := dk_167 0 4 (dk_at dksX3_leads_5 12 rfl rfl)
theorem dX3_leads_114 : decode cX3_leads 114 = .ok (.iconst 0, 1) := dk_3 (dk_at dksX3_leads_5 15 rfl rfl)
theorem dX3_leads_115 : decode cX3_leads 115 = .ok (.ireturn, 1) := dk_172 (dk_at dksX3_leads_5 16 rfl rfl)
theorem dX3_leads_116 : decode cX3_leads 116 = .ok (.aload_n 0, 1) := dk_42 (dk_at dksX3_leads_5 17 rfl rfl)
theorem dX3_leads_117 : decode cX3_leads 117 = .ok (.iload_n 1, 1) := dk_27 (dk_at dksX3_leads_5 18 rfl rfl)
theorem dX3_leads_118 : decode cX3_leads 118 = .ok (.iload_n 2, 1) := dk_28 (dk_at dksX3_leads_5 19 rfl rfl)
theorem dX3_leads_119 : decode cX3_leads 119 = .ok (.iload_n 3, 1) := dk_29 (dk_at dksX3_leads_5 20 rfl rfl)
theorem dX3_leads_120 : decode cX3_leads 120 = .ok (.iconst 1, 1) := dk_4 (dk_at dksX3_leads_5 21 rfl rfl)
theorem dX3_leads_121 : decode cX3_leads 121 = .ok (.isub, 1) := dk_100 (dk_at dksX3_leads_5 22 rfl rfl)
theorem dX3_leads_122 : decode cX3_leads 122 = .ok (.invokevirtual 98, 3) := dk_182 0 98 (dk_at dksX3_leads_6 0 rfl rfl)
theorem dX3_leads_125 : decode cX3_leads 125 = .ok (.ifCond .eq 21, 3) := dk_153 0 21 (dk_at dksX3_leads_6 3 rfl rfl)
theorem dX3_leads_128 : decode cX3_leads 128 = .ok (.aload_n 0, 1) := dk_42 (dk_at dksX3_leads_6 6 rfl rfl)
theorem dX3_leads_129 : decode cX3_leads 129 = .ok (.iload_n 1, 1) := dk_27 (dk_at dksX3_leads_6 7 rfl rfl)
theorem dX3_leads_130 : decode cX3_leads 130 = .ok (.iload_n 2, 1) := dk_28 (dk_at dksX3_leads_6 8 rfl rfl)
theorem dX3_leads_131 : decode cX3_leads 131 = .ok (.iconst 1, 1) := dk_4 (dk_at dksX3_leads_6 9 rfl rfl)
theorem dX3_leads_132 : decode cX3_leads 132 = .ok (.isub, 1) := dk_100 (dk_at dksX3_leads_6 10 rfl rfl)
theorem dX3_leads_133 : decode cX3_leads 133 = .ok (.iload_n 3, 1) := dk_29 (dk_at dksX3_leads_6 11 rfl rfl)
theorem dX3_leads_134 : decode cX3_leads 134 = .ok (.iconst 1, 1) := dk_4 (dk_at dksX3_leads_6 12 rfl rfl)
theorem dX3_leads_135 : decode cX3_leads 135 = .ok (.isub, 1) := dk_100 (dk_at dksX3_leads_6 13 rfl rfl)
theorem dX3_leads_136 : decode cX3_leads 136 = .ok (.invokevirtual 98, 3) := dk_182 0 98 (dk_at dksX3_leads_6 14 rfl rfl)
theorem dX3_leads_139 : decode cX3_leads 139 = .ok (.ifCond .ne 7, 3) := dk_154 0 7 (dk_at dksX3_leads_6 17 rfl rfl)
theorem dX3_leads_142 : decode cX3_leads 142 = .ok (.iconst 1, 1) := dk_4 (dk_at dksX3_leads_6 20 rfl rfl)
theorem dX3_leads_143 : decode cX3_leads 143 = .ok (.goto 4, 3) := dk_167 0 4 (dk_at dksX3_leads_6 21 rfl rfl)
theorem dX3_leads_146 : decode cX3_leads 146 = .ok (.iconst 0, 1) := dk_3 (dk_at dksX3_leads_7 0 rfl rfl)
theorem dX3_leads_147 : decode cX3_leads 147 = .ok (.ireturn, 1) := dk_172 (dk_at dksX3_leads_7 1 rfl rfl)
abbrev cX3_isWalked : ByteArray := prog_22_method_68_code
def yX3_isWalked : MethodName := ⟨RX3, "isWalked", "(III)Z"⟩
def dkwX3_isWalked_1 : List UInt8 := [172]
abbrev dktX3_isWalked_1 : List UInt8 := dkwX3_isWalked_1 ++ []
def dkwX3_isWalked_0 : List UInt8 := [42, 180, 0, 43, 16, 25, 28, 104, 27, 96, 46, 29, 122, 4, 126, 4, 160, 0, 7, 4, 167, 0, 4, 3]
abbrev dktX3_isWalked_0 : List UInt8 := dkwX3_isWalked_0 ++ dktX3_isWalked_1
theorem dksX3_isWalked_0 : cX3_isWalked.data.toList.drop 0 = dktX3_isWalked_0 := by decide +kernel
theorem dksX3_isWalked_1 : cX3_isWalked.data.toList.drop 24 = dktX3_isWalked_1 := dk_seg dksX3_isWalked_0 24 rfl rfl
theorem dX3_isWalked_0 : decode cX3_isWalked 0 = .ok (.aload_n 0, 1) := dk_42 (dk_at dksX3_isWalked_0 0 rfl rfl)
theorem dX3_isWalked_1 : decode cX3_isWalked 1 = .ok (.getfield 43, 3) := dk_180 0 43 (dk_at dksX3_isWalked_0 1 rfl rfl)
theorem dX3_isWalked_4 : decode cX3_isWalked 4 = .ok (.bipush 25, 2) := dk_16 25 (dk_at dksX3_isWalked_0 4 rfl rfl)
theorem dX3_isWalked_6 : decode cX3_isWalked 6 = .ok (.iload_n 2, 1) := dk_28 (dk_at dksX3_isWalked_0 6 rfl rfl)
theorem dX3_isWalked_7 : decode cX3_isWalked 7 = .ok (.imul, 1) := dk_104 (dk_at dksX3_isWalked_0 7 rfl rfl)
theorem dX3_isWalked_8 : decode cX3_isWalked 8 = .ok (.iload_n 1, 1) := dk_27 (dk_at dksX3_isWalked_0 8 rfl rfl)
theorem dX3_isWalked_9 : decode cX3_isWalked 9 = .ok (.iadd, 1) := dk_96 (dk_at dksX3_isWalked_0 9 rfl rfl)
theorem dX3_isWalked_10 : decode cX3_isWalked 10 = .ok (.iaload, 1) := dk_46 (dk_at dksX3_isWalked_0 10 rfl rfl)
theorem dX3_isWalked_11 : decode cX3_isWalked 11 = .ok (.iload_n 3, 1) := dk_29 (dk_at dksX3_isWalked_0 11 rfl rfl)
theorem dX3_isWalked_12 : decode cX3_isWalked 12 = .ok (.ishr, 1) := dk_122 (dk_at dksX3_isWalked_0 12 rfl rfl)
theorem dX3_isWalked_13 : decode cX3_isWalked 13 = .ok (.iconst 1, 1) := dk_4 (dk_at dksX3_isWalked_0 13 rfl rfl)
theorem dX3_isWalked_14 : decode cX3_isWalked 14 = .ok (.iand, 1) := dk_126 (dk_at dksX3_isWalked_0 14 rfl rfl)
theorem dX3_isWalked_15 : decode cX3_isWalked 15 = .ok (.iconst 1, 1) := dk_4 (dk_at dksX3_isWalked_0 15 rfl rfl)
theorem dX3_isWalked_16 : decode cX3_isWalked 16 = .ok (.if_icmp .ne 7, 3) := dk_160 0 7 (dk_at dksX3_isWalked_0 16 rfl rfl)
theorem dX3_isWalked_19 : decode cX3_isWalked 19 = .ok (.iconst 1, 1) := dk_4 (dk_at dksX3_isWalked_0 19 rfl rfl)
theorem dX3_isWalked_20 : decode cX3_isWalked 20 = .ok (.goto 4, 3) := dk_167 0 4 (dk_at dksX3_isWalked_0 20 rfl rfl)
theorem dX3_isWalked_23 : decode cX3_isWalked 23 = .ok (.iconst 0, 1) := dk_3 (dk_at dksX3_isWalked_0 23 rfl rfl)
theorem dX3_isWalked_24 : decode cX3_isWalked 24 = .ok (.ireturn, 1) := dk_172 (dk_at dksX3_isWalked_1 0 rfl rfl)
abbrev cX3_walks : ByteArray := prog_22_method_69_code
def yX3_walks : MethodName := ⟨RX3, "walks", "(IIII)V"⟩
def dkwX3_walks_11 : List UInt8 := [180, 0, 168, 4, 96, 181, 0, 168, 42, 180, 0, 37, 42, 180, 0, 168, 42, 180, 0, 171, 79, 177]
abbrev dktX3_walks_11 : List UInt8 := dkwX3_walks_11 ++ []
def dkwX3_walks_10 : List UInt8 := [6, 96, 7, 112, 54, 7, 167, 255, 46, 42, 180, 0, 40, 42, 180, 0, 168, 21, 8, 79, 42, 89]
abbrev dktX3_walks_10 : List UInt8 := dkwX3_walks_10 ++ dktX3_walks_11
def dkwX3_walks_9 : List UInt8 := [167, 0, 28, 42, 27, 21, 5, 21, 6, 21, 9, 182, 0, 177, 153, 0, 8, 21, 9, 167, 0, 9, 21, 9]
abbrev dktX3_walks_9 : List UInt8 := dkwX3_walks_9 ++ dktX3_walks_10
def dkwX3_walks_8 : List UInt8 := [21, 9, 4, 96, 7, 112, 54, 10, 42, 27, 21, 5, 21, 6, 21, 10, 182, 0, 177, 153, 0, 8, 21, 10]
abbrev dktX3_walks_8 : List UInt8 := dkwX3_walks_8 ++ dktX3_walks_9
def dkwX3_walks_7 : List UInt8 := [21, 7, 4, 160, 0, 7, 4, 167, 0, 14, 21, 7, 6, 160, 0, 7, 2, 167, 0, 4, 3, 96, 54, 6]
abbrev dktX3_walks_7 : List UInt8 := dkwX3_walks_7 ++ dktX3_walks_8
def dkwX3_walks_6 : List UInt8 := [154, 0, 7, 4, 167, 0, 14, 21, 7, 5, 160, 0, 7, 2, 167, 0, 4, 3, 96, 54, 5, 21, 6]
abbrev dktX3_walks_6 : List UInt8 := dkwX3_walks_6 ++ dktX3_walks_7
def dkwX3_walks_5 : List UInt8 := [167, 0, 16, 21, 7, 6, 160, 0, 9, 21, 5, 116, 167, 0, 4, 3, 96, 54, 8, 21, 5, 21, 7]
abbrev dktX3_walks_5 : List UInt8 := dkwX3_walks_5 ++ dktX3_walks_6
def dkwX3_walks_4 : List UInt8 := [180, 0, 171, 4, 96, 181, 0, 171, 21, 7, 54, 9, 21, 8, 21, 7, 4, 160, 0, 8, 21, 5]
abbrev dktX3_walks_4 : List UInt8 := dkwX3_walks_4 ++ dktX3_walks_5
def dkwX3_walks_3 : List UInt8 := [180, 0, 31, 42, 180, 0, 171, 21, 5, 79, 42, 180, 0, 34, 42, 180, 0, 171, 21, 6, 79, 42, 89]
abbrev dktX3_walks_3 : List UInt8 := dkwX3_walks_3 ++ dktX3_walks_4
def dkwX3_walks_2 : List UInt8 := [21, 6, 104, 21, 5, 96, 92, 46, 4, 21, 7, 120, 128, 79, 21, 7, 21, 9, 159, 0, 35, 42]
abbrev dktX3_walks_2 : List UInt8 := dkwX3_walks_2 ++ dktX3_walks_3
def dkwX3_walks_1 : List UInt8 := [42, 180, 0, 171, 79, 42, 21, 5, 21, 6, 21, 7, 182, 0, 174, 154, 0, 203, 42, 180, 0, 43, 16, 25]
abbrev dktX3_walks_1 : List UInt8 := dkwX3_walks_1 ++ dktX3_walks_2
def dkwX3_walks_0 : List UInt8 := [28, 54, 5, 29, 54, 6, 21, 4, 54, 7, 3, 54, 8, 2, 54, 9, 42, 180, 0, 37, 42, 180, 0, 168]
abbrev dktX3_walks_0 : List UInt8 := dkwX3_walks_0 ++ dktX3_walks_1
theorem dksX3_walks_0 : cX3_walks.data.toList.drop 0 = dktX3_walks_0 := by decide +kernel
theorem dksX3_walks_1 : cX3_walks.data.toList.drop 24 = dktX3_walks_1 := dk_seg dksX3_walks_0 24 rfl rfl
theorem dksX3_walks_2 : cX3_walks.data.toList.drop 48 = dktX3_walks_2 := dk_seg dksX3_walks_1 24 rfl rfl
theorem dksX3_walks_3 : cX3_walks.data.toList.drop 70 = dktX3_walks_3 := dk_seg dksX3_walks_2 22 rfl rfl
theorem dksX3_walks_4 : cX3_walks.data.toList.drop 93 = dktX3_walks_4 := dk_seg dksX3_walks_3 23 rfl rfl
theorem dksX3_walks_5 : cX3_walks.data.toList.drop 115 = dktX3_walks_5 := dk_seg dksX3_walks_4 22 rfl rfl
theorem dksX3_walks_6 : cX3_walks.data.toList.drop 138 = dktX3_walks_6 := dk_seg dksX3_walks_5 23 rfl rfl
theorem dksX3_walks_7 : cX3_walks.data.toList.drop 161 = dktX3_walks_7 := dk_seg dksX3_walks_6 23 rfl rfl
theorem dksX3_walks_8 : cX3_walks.data.toList.drop 185 = dktX3_walks_8 := dk_seg dksX3_walks_7 24 rfl rfl
theorem dksX3_walks_9 : cX3_walks.data.toList.drop 209 = dktX3_walks_9 := dk_seg dksX3_walks_8 24 rfl rfl
theorem dksX3_walks_10 : cX3_walks.data.toList.drop 233 = dktX3_walks_10 := dk_seg dksX3_walks_9 24 rfl rfl
theorem dksX3_walks_11 : cX3_walks.data.toList.drop 255 = dktX3_walks_11 := dk_seg dksX3_walks_10 22 rfl rfl
theorem dX3_walks_0 : decode cX3_walks 0 = .ok (.iload_n 2, 1) := dk_28 (dk_at dksX3_walks_0 0 rfl rfl)
theorem dX3_walks_1 : decode cX3_walks 1 = .ok (.istore 5, 2) := dk_54 5 (dk_at dksX3_walks_0 1 rfl rfl)
theorem dX3_walks_3 : decode cX3_walks 3 = .ok (.iload_n 3, 1) := dk_29 (dk_at dksX3_walks_0 3 rfl rfl)
theorem dX3_walks_4 : decode cX3_walks 4 = .ok (.istore 6, 2) := dk_54 6 (dk_at dksX3_walks_0 4 rfl rfl)
theorem dX3_walks_6 : decode cX3_walks 6 = .ok (.iload 4, 2) := dk_21 4 (dk_at dksX3_walks_0 6 rfl rfl)
theorem dX3_walks_8 : decode cX3_walks 8 = .ok (.istore 7, 2) := dk_54 7 (dk_at dksX3_walks_0 8 rfl rfl)
theorem dX3_walks_10 : decode cX3_walks 10 = .ok (.iconst 0, 1) := dk_3 (dk_at dksX3_walks_0 10 rfl rfl)
theorem dX3_walks_11 : decode cX3_walks 11 = .ok (.istore 8, 2) := dk_54 8 (dk_at dksX3_walks_0 11 rfl rfl)
theorem dX3_walks_13 : decode cX3_walks 13 = .ok (.iconst (-1), 1) := dk_2 (dk_at dksX3_walks_0 13 rfl rfl)
theorem dX3_walks_14 : decode cX3_walks 14 = .ok (.istore 9, 2) := dk_54 9 (dk_at dksX3_walks_0 14 rfl rfl)
theorem dX3_walks_16 : decode cX3_walks 16 = .ok (.aload_n 0, 1) := dk_42 (dk_at dksX3_walks_0 16 rfl rfl)
theorem dX3_walks_17 : decode cX3_walks 17 = .ok (.getfield 37, 3) := dk_180 0 37 (dk_at dksX3_walks_0 17 rfl rfl)
theorem dX3_walks_20 : decode cX3_walks 20 = .ok (.aload_n 0, 1) := dk_42 (dk_at dksX3_walks_0 20 rfl rfl)
theorem dX3_walks_21 : decode cX3_walks 21 = .ok (.getfield 168, 3) := dk_180 0 168 (dk_at dksX3_walks_0 21 rfl rfl)
theorem dX3_walks_24 : decode cX3_walks 24 = .ok (.aload_n 0, 1) := dk_42 (dk_at dksX3_walks_1 0 rfl rfl)
theorem dX3_walks_25 : decode cX3_walks 25 = .ok (.getfield 171, 3) := dk_180 0 171 (dk_at dksX3_walks_1 1 rfl rfl)
theorem dX3_walks_28 : decode cX3_walks 28 = .ok (.iastore, 1) := dk_79 (dk_at dksX3_walks_1 4 rfl rfl)
theorem dX3_walks_29 : decode cX3_walks 29 = .ok (.aload_n 0, 1) := dk_42 (dk_at dksX3_walks_1 5 rfl rfl)
theorem dX3_walks_30 : decode cX3_walks 30 = .ok (.iload 5, 2) := dk_21 5 (dk_at dksX3_walks_1 6 rfl rfl)
theorem dX3_walks_32 : decode cX3_walks 32 = .ok (.iload 6, 2) := dk_21 6 (dk_at dksX3_walks_1 8 rfl rfl)
theorem dX3_walks_34 : decode cX3_walks 34 = .ok (.iload 7, 2) := dk_21 7 (dk_at dksX3_walks_1 10 rfl rfl)
theorem dX3_walks_36 : decode cX3_walks 36 = .ok (.invokevirtual 174, 3) := dk_182 0 174 (dk_at dksX3_walks_1 12 rfl rfl)
theorem dX3_walks_39 : decode cX3_walks 39 = .ok (.ifCond .ne 203, 3) := dk_154 0 203 (dk_at dksX3_walks_1 15 rfl rfl)
theorem dX3_walks_42 : decode cX3_walks 42 = .ok (.aload_n 0, 1) := dk_42 (dk_at dksX3_walks_1 18 rfl rfl)
theorem dX3_walks_43 : decode cX3_walks 43 = .ok (.getfield 43, 3) := dk_180 0 43 (dk_at dksX3_walks_1 19 rfl rfl)
theorem dX3_walks_46 : decode cX3_walks 46 = .ok (.bipush 25, 2) := dk_16 25 (dk_at dksX3_walks_1 22 rfl rfl)
theorem dX3_walks_48 : decode cX3_walks 48 = .ok (.iload 6, 2) := dk_21 6 (dk_at dksX3_walks_2 0 rfl rfl)
theorem dX3_walks_50 : decode cX3_walks 50 = .ok (.imul, 1) := dk_104 (dk_at dksX3_walks_2 2 rfl rfl)
theorem dX3_walks_51 : decode cX3_walks 51 = .ok (.iload 5, 2) := dk_21 5 (dk_at dksX3_walks_2 3 rfl rfl)
theorem dX3_walks_53 : decode cX3_walks 53 = .ok (.iadd, 1) := dk_96 (dk_at dksX3_walks_2 5 rfl rfl)
theorem dX3_walks_54 : decode cX3_walks 54 = .ok (.dup2, 1) := dk_92 (dk_at dksX3_walks_2 6 rfl rfl)
theorem dX3_walks_55 : decode cX3_walks 55 = .ok (.iaload, 1) := dk_46 (dk_at dksX3_walks_2 7 rfl rfl)
theorem dX3_walks_56 : decode cX3_walks 56 = .ok (.iconst 1, 1) := dk_4 (dk_at dksX3_walks_2 8 rfl rfl)
theorem dX3_walks_57 : decode cX3_walks 57 = .ok (.iload 7, 2) := dk_21 7 (dk_at dksX3_walks_2 9 rfl rfl)
theorem dX3_walks_59 : decode cX3_walks 59 = .ok (.ishl, 1) := dk_120 (dk_at dksX3_walks_2 11 rfl rfl)
theorem dX3_walks_60 : decode cX3_walks 60 = .ok (.ior, 1) := dk_128 (dk_at dksX3_walks_2 12 rfl rfl)
theorem dX3_walks_61 : decode cX3_walks 61 = .ok (.iastore, 1) := dk_79 (dk_at dksX3_walks_2 13 rfl rfl)
theorem dX3_walks_62 : decode cX3_walks 62 = .ok (.iload 7, 2) := dk_21 7 (dk_at dksX3_walks_2 14 rfl rfl)
theorem dX3_walks_64 : decode cX3_walks 64 = .ok (.iload 9, 2) := dk_21 9 (dk_at dksX3_walks_2 16 rfl rfl)
theorem dX3_walks_66 : decode cX3_walks 66 = .ok (.if_icmp .eq 35, 3) := dk_159 0 35 (dk_at dksX3_walks_2 18 rfl rfl)
theorem dX3_walks_69 : decode cX3_walks 69 = .ok (.aload_n 0, 1) := dk_42 (dk_at dksX3_walks_2 21 rfl rfl)
theorem dX3_walks_70 : decode cX3_walks 70 = .ok (.getfield 31, 3) := dk_180 0 31 (dk_at dksX3_walks_3 0 rfl rfl)
theorem dX3_walks_73 : decode cX3_walks 73 = .ok (.aload_n 0, 1) := dk_42 (dk_at dksX3_walks_3 3 rfl rfl)
theorem dX3_walks_74 : decode cX3_walks 74 = .ok (.getfield 171, 3) := dk_180 0 171 (dk_at dksX3_walks_3 4 rfl rfl)
theorem dX3_walks_77 : decode cX3_walks 77 = .ok (.iload 5, 2) := dk_21 5 (dk_at dksX3_walks_3 7 rfl rfl)
theorem dX3_walks_79 : decode cX3_walks 79 = .ok (.iastore, 1) := dk_79 (dk_at dksX3_walks_3 9 rfl rfl)
theorem dX3_walks_80 : decode cX3_walks 80 = .ok (.aload_n 0, 1) := dk_42 (dk_at dksX3_walks_3 10 rfl rfl)
theorem dX3_walks_81 : decode cX3_walks 81 = .ok (.getfield 34, 3) := dk_180 0 34 (dk_at dksX3_walks_3 11 rfl rfl)
theorem dX3_walks_84 : decode cX3_walks 84 = .ok (.aload_n 0, 1) := dk_42 (dk_at dksX3_walks_3 14 rfl rfl)
theorem dX3_walks_85 : decode cX3_walks 85 = .ok (.getfield 171, 3) := dk_180 0 171 (dk_at dksX3_walks_3 15 rfl rfl)
theorem dX3_walks_88 : decode cX3_walks 88 = .ok (.iload 6, 2) := dk_21 6 (dk_at dksX3_walks_3 18 rfl rfl)
theorem dX3_walks_90 : decode cX3_walks 90 = .ok (.iastore, 1) := dk_79 (dk_at dksX3_walks_3 20 rfl rfl)
theorem dX3_walks_91 : decode cX3_walks 91 = .ok (.aload_n 0, 1) := dk_42 (dk_at dksX3_walks_3 21 rfl rfl)
theorem dX3_walks_92 : decode cX3_walks 92 = .ok (.dup, 1) := dk_89 (dk_at dksX3_walks_3 22 rfl rfl)
theorem dX3_walks_93 : decode cX3_walks 93 = .ok (.getfield 171, 3) := dk_180 0 171 (dk_at dksX3_walks_4 0 rfl rfl)
theorem dX3_walks_96 : decode cX3_walks 96 = .ok (.iconst 1, 1) := dk_4 (dk_at dksX3_walks_4 3 rfl rfl)
theorem dX3_walks_97 : decode cX3_walks 97 = .ok (.iadd, 1) := dk_96 (dk_at dksX3_walks_4 4 rfl rfl)
theorem dX3_walks_98 : decode cX3_walks 98 = .ok (.putfield 171, 3) := dk_181 0 171 (dk_at dksX3_walks_4 5 rfl rfl)
theorem dX3_walks_101 : decode cX3_walks 101 = .ok (.iload 7, 2) := dk_21 7 (dk_at dksX3_walks_4 8 rfl rfl)
theorem dX3_walks_103 : decode cX3_walks 103 = .ok (.istore 9, 2) := dk_54 9 (dk_at dksX3_walks_4 10 rfl rfl)
theorem dX3_walks_105 : decode cX3_walks 105 = .ok (.iload 8, 2) := dk_21 8 (dk_at dksX3_walks_4 12 rfl rfl)
theorem dX3_walks_107 : decode cX3_walks 107 = .ok (.iload 7, 2) := dk_21 7 (dk_at dksX3_walks_4 14 rfl rfl)
theorem dX3_walks_109 : decode cX3_walks 109 = .ok (.iconst 1, 1) := dk_4 (dk_at dksX3_walks_4 16 rfl rfl)
theorem dX3_walks_110 : decode cX3_walks 110 = .ok (.if_icmp .ne 8, 3) := dk_160 0 8 (dk_at dksX3_walks_4 17 rfl rfl)
theorem dX3_walks_113 : decode cX3_walks 113 = .ok (.iload 5, 2) := dk_21 5 (dk_at dksX3_walks_4 20 rfl rfl)
theorem dX3_walks_115 : decode cX3_walks 115 = .ok (.goto 16, 3) := dk_167 0 16 (dk_at dksX3_walks_5 0 rfl rfl)
theorem dX3_walks_118 : decode cX3_walks 118 = .ok (.iload 7, 2) := dk_21 7 (dk_at dksX3_walks_5 3 rfl rfl)
theorem dX3_walks_120 : decode cX3_walks 120 = .ok (.iconst 3, 1) := dk_6 (dk_at dksX3_walks_5 5 rfl rfl)
theorem dX3_walks_121 : decode cX3_walks 121 = .ok (.if_icmp .ne 9, 3) := dk_160 0 9 (dk_at dksX3_walks_5 6 rfl rfl)
theorem dX3_walks_124 : decode cX3_walks 124 = .ok (.iload 5, 2) := dk_21 5 (dk_at dksX3_walks_5 9 rfl rfl)
theorem dX3_walks_126 : decode cX3_walks 126 = .ok (.ineg, 1) := dk_116 (dk_at dksX3_walks_5 11 rfl rfl)
theorem dX3_walks_127 : decode cX3_walks 127 = .ok (.goto 4, 3) := dk_167 0 4 (dk_at dksX3_walks_5 12 rfl rfl)
theorem dX3_walks_130 : decode cX3_walks 130 = .ok (.iconst 0, 1) := dk_3 (dk_at dksX3_walks_5 15 rfl rfl)
theorem dX3_walks_131 : decode cX3_walks 131 = .ok (.iadd, 1) := dk_96 (dk_at dksX3_walks_5 16 rfl rfl)
theorem dX3_walks_132 : decode cX3_walks 132 = .ok (.istore 8, 2) := dk_54 8 (dk_at dksX3_walks_5 17 rfl rfl)
theorem dX3_walks_134 : decode cX3_walks 134 = .ok (.iload 5, 2) := dk_21 5 (dk_at dksX3_walks_5 19 rfl rfl)
theorem dX3_walks_136 : decode cX3_walks 136 = .ok (.iload 7, 2) := dk_21 7 (dk_at dksX3_walks_5 21 rfl rfl)
theorem dX3_walks_138 : decode cX3_walks 138 = .ok (.ifCond .ne 7, 3) := dk_154 0 7 (dk_at dksX3_walks_6 0 rfl rfl)
theorem dX3_walks_141 : decode cX3_walks 141 = .ok (.iconst 1, 1) := dk_4 (dk_at dksX3_walks_6 3 rfl rfl)
theorem dX3_walks_142 : decode cX3_walks 142 = .ok (.goto 14, 3) := dk_167 0 14 (dk_at dksX3_walks_6 4 rfl rfl)
theorem dX3_walks_145 : decode cX3_walks 145 = .ok (.iload 7, 2) := dk_21 7 (dk_at dksX3_walks_6 7 rfl rfl)
theorem dX3_walks_147 : decode cX3_walks 147 = .ok (.iconst 2, 1) := dk_5 (dk_at dksX3_walks_6 9 rfl rfl)
theorem dX3_walks_148 : decode cX3_walks 148 = .ok (.if_icmp .ne 7, 3) := dk_160 0 7 (dk_at dksX3_walks_6 10 rfl rfl)
theorem dX3_walks_151 : decode cX3_walks 151 = .ok (.iconst (-1), 1) := dk_2 (dk_at dksX3_walks_6 13 rfl rfl)
theorem dX3_walks_152 : decode cX3_walks 152 = .ok (.goto 4, 3) := dk_167 0 4 (dk_at dksX3_walks_6 14 rfl rfl)
theorem dX3_walks_155 : decode cX3_walks 155 = .ok (.iconst 0, 1) := dk_3 (dk_at dksX3_walks_6 17 rfl rfl)
theorem dX3_walks_156 : decode cX3_walks 156 = .ok (.iadd, 1) := dk_96 (dk_at dksX3_walks_6 18 rfl rfl)
theorem dX3_walks_157 : decode cX3_walks 157 = .ok (.istore 5, 2) := dk_54 5 (dk_at dksX3_walks_6 19 rfl rfl)
theorem dX3_walks_159 : decode cX3_walks 159 = .ok (.iload 6, 2) := dk_21 6 (dk_at dksX3_walks_6 21 rfl rfl)
theorem dX3_walks_161 : decode cX3_walks 161 = .ok (.iload 7, 2) := dk_21 7 (dk_at dksX3_walks_7 0 rfl rfl)
theorem dX3_walks_163 : decode cX3_walks 163 = .ok (.iconst 1, 1) := dk_4 (dk_at dksX3_walks_7 2 rfl rfl)
theorem dX3_walks_164 : decode cX3_walks 164 = .ok (.if_icmp .ne 7, 3) := dk_160 0 7 (dk_at dksX3_walks_7 3 rfl rfl)
theorem dX3_walks_167 : decode cX3_walks 167 = .ok (.iconst 1, 1) := dk_4 (dk_at dksX3_walks_7 6 rfl rfl)
theorem dX3_walks_168 : decode cX3_walks 168 = .ok (.goto 14, 3) := dk_167 0 14 (dk_at dksX3_walks_7 7 rfl rfl)
theorem dX3_walks_171 : decode cX3_walks 171 = .ok (.iload 7, 2) := dk_21 7 (dk_at dksX3_walks_7 10 rfl rfl)
theorem dX3_walks_173 : decode cX3_walks 173 = .ok (.iconst 3, 1) := dk_6 (dk_at dksX3_walks_7 12 rfl rfl)
theorem dX3_walks_174 : decode cX3_walks 174 = .ok (.if_icmp .ne 7, 3) := dk_160 0 7 (dk_at dksX3_walks_7 13 rfl rfl)
theorem dX3_walks_177 : decode cX3_walks 177 = .ok (.iconst (-1), 1) := dk_2 (dk_at dksX3_walks_7 16 rfl rfl)
theorem dX3_walks_178 : decode cX3_walks 178 = .ok (.goto 4, 3) := dk_167 0 4 (dk_at dksX3_walks_7 17 rfl rfl)
theorem dX3_walks_181 : decode cX3_walks 181 = .ok (.iconst 0, 1) := dk_3 (dk_at dksX3_walks_7 20 rfl rfl)
theorem dX3_walks_182 : decode cX3_walks 182 = .ok (.iadd, 1) := dk_96 (dk_at dksX3_walks_7 21 rfl rfl)
theorem dX3_walks_183 : decode cX3_walks 183 = .ok (.istore 6, 2) := dk_54 6 (dk_at dksX3_walks_7 22 rfl rfl)
theorem dX3_walks_185 : decode cX3_walks 185 = .ok (.iload 9, 2) := dk_21 9 (dk_at dksX3_walks_8 0 rfl rfl)
theorem dX3_walks_187 : decode cX3_walks 187 = .ok (.iconst 1, 1) := dk_4 (dk_at dksX3_walks_8 2 rfl rfl)
theorem dX3_walks_188 : decode cX3_walks 188 = .ok (.iadd, 1) := dk_96 (dk_at dksX3_walks_8 3 rfl rfl)
theorem dX3_walks_189 : decode cX3_walks 189 = .ok (.iconst 4, 1) := dk_7 (dk_at dksX3_walks_8 4 rfl rfl)
theorem dX3_walks_190 : decode cX3_walks 190 = .ok (.irem, 1) := dk_112 (dk_at dksX3_walks_8 5 rfl rfl)
theorem dX3_walks_191 : decode cX3_walks 191 = .ok (.istore 10, 2) := dk_54 10 (dk_at dksX3_walks_8 6 rfl rfl)
theorem dX3_walks_193 : decode cX3_walks 193 = .ok (.aload_n 0, 1) := dk_42 (dk_at dksX3_walks_8 8 rfl rfl)
theorem dX3_walks_194 : decode cX3_walks 194 = .ok (.iload_n 1, 1) := dk_27 (dk_at dksX3_walks_8 9 rfl rfl)
theorem dX3_walks_195 : decode cX3_walks 195 = .ok (.iload 5, 2) := dk_21 5 (dk_at dksX3_walks_8 10 rfl rfl)
theorem dX3_walks_197 : decode cX3_walks 197 = .ok (.iload 6, 2) := dk_21 6 (dk_at dksX3_walks_8 12 rfl rfl)
theorem dX3_walks_199 : decode cX3_walks 199 = .ok (.iload 10, 2) := dk_21 10 (dk_at dksX3_walks_8 14 rfl rfl)
theorem dX3_walks_201 : decode cX3_walks 201 = .ok (.invokevirtual 177, 3) := dk_182 0 177 (dk_at dksX3_walks_8 16 rfl rfl)
theorem dX3_walks_204 : decode cX3_walks 204 = .ok (.ifCond .eq 8, 3) := dk_153 0 8 (dk_at dksX3_walks_8 19 rfl rfl)
theorem dX3_walks_207 : decode cX3_walks 207 = .ok (.iload 10, 2) := dk_21 10 (dk_at dksX3_walks_8 22 rfl rfl)
theorem dX3_walks_209 : decode cX3_walks 209 = .ok (.goto 28, 3) := dk_167 0 28 (dk_at dksX3_walks_9 0 rfl rfl)
theorem dX3_walks_212 : decode cX3_walks 212 = .ok (.aload_n 0, 1) := dk_42 (dk_at dksX3_walks_9 3 rfl rfl)
theorem dX3_walks_213 : decode cX3_walks 213 = .ok (.iload_n 1, 1) := dk_27 (dk_at dksX3_walks_9 4 rfl rfl)
theorem dX3_walks_214 : decode cX3_walks 214 = .ok (.iload 5, 2) := dk_21 5 (dk_at dksX3_walks_9 5 rfl rfl)
theorem dX3_walks_216 : decode cX3_walks 216 = .ok (.iload 6, 2) := dk_21 6 (dk_at dksX3_walks_9 7 rfl rfl)
theorem dX3_walks_218 : decode cX3_walks 218 = .ok (.iload 9, 2) := dk_21 9 (dk_at dksX3_walks_9 9 rfl rfl)
theorem dX3_walks_220 : decode cX3_walks 220 = .ok (.invokevirtual 177, 3) := dk_182 0 177 (dk_at dksX3_walks_9 11 rfl rfl)
theorem dX3_walks_223 : decode cX3_walks 223 = .ok (.ifCond .eq 8, 3) := dk_153 0 8 (dk_at dksX3_walks_9 14 rfl rfl)
theorem dX3_walks_226 : decode cX3_walks 226 = .ok (.iload 9, 2) := dk_21 9 (dk_at dksX3_walks_9 17 rfl rfl)
theorem dX3_walks_228 : decode cX3_walks 228 = .ok (.goto 9, 3) := dk_167 0 9 (dk_at dksX3_walks_9 19 rfl rfl)
theorem dX3_walks_231 : decode cX3_walks 231 = .ok (.iload 9, 2) := dk_21 9 (dk_at dksX3_walks_9 22 rfl rfl)
theorem dX3_walks_233 : decode cX3_walks 233 = .ok (.iconst 3, 1) := dk_6 (dk_at dksX3_walks_10 0 rfl rfl)
theorem dX3_walks_234 : decode cX3_walks 234 = .ok (.iadd, 1) := dk_96 (dk_at dksX3_walks_10 1 rfl rfl)
theorem dX3_walks_235 : decode cX3_walks 235 = .ok (.iconst 4, 1) := dk_7 (dk_at dksX3_walks_10 2 rfl rfl)
theorem dX3_walks_236 : decode cX3_walks 236 = .ok (.irem, 1) := dk_112 (dk_at dksX3_walks_10 3 rfl rfl)
theorem dX3_walks_237 : decode cX3_walks 237 = .ok (.istore 7, 2) := dk_54 7 (dk_at dksX3_walks_10 4 rfl rfl)
theorem dX3_walks_239 : decode cX3_walks 239 = .ok (.goto (-210), 3) := dk_167 255 46 (dk_at dksX3_walks_10 6 rfl rfl)
theorem dX3_walks_242 : decode cX3_walks 242 = .ok (.aload_n 0, 1) := dk_42 (dk_at dksX3_walks_10 9 rfl rfl)
theorem dX3_walks_243 : decode cX3_walks 243 = .ok (.getfield 40, 3) := dk_180 0 40 (dk_at dksX3_walks_10 10 rfl rfl)
theorem dX3_walks_246 : decode cX3_walks 246 = .ok (.aload_n 0, 1) := dk_42 (dk_at dksX3_walks_10 13 rfl rfl)
theorem dX3_walks_247 : decode cX3_walks 247 = .ok (.getfield 168, 3) := dk_180 0 168 (dk_at dksX3_walks_10 14 rfl rfl)
theorem dX3_walks_250 : decode cX3_walks 250 = .ok (.iload 8, 2) := dk_21 8 (dk_at dksX3_walks_10 17 rfl rfl)
theorem dX3_walks_252 : decode cX3_walks 252 = .ok (.iastore, 1) := dk_79 (dk_at dksX3_walks_10 19 rfl rfl)
theorem dX3_walks_253 : decode cX3_walks 253 = .ok (.aload_n 0, 1) := dk_42 (dk_at dksX3_walks_10 20 rfl rfl)
theorem dX3_walks_254 : decode cX3_walks 254 = .ok (.dup, 1) := dk_89 (dk_at dksX3_walks_10 21 rfl rfl)
theorem dX3_walks_255 : decode cX3_walks 255 = .ok (.getfield 168, 3) := dk_180 0 168 (dk_at dksX3_walks_11 0 rfl rfl)
theorem dX3_walks_258 : decode cX3_walks 258 = .ok (.iconst 1, 1) := dk_4 (dk_at dksX3_walks_11 3 rfl rfl)
theorem dX3_walks_259 : decode cX3_walks 259 = .ok (.iadd, 1) := dk_96 (dk_at dksX3_walks_11 4 rfl rfl)
theorem dX3_walks_260 : decode cX3_walks 260 = .ok (.putfield 168, 3) := dk_181 0 168 (dk_at dksX3_walks_11 5 rfl rfl)
theorem dX3_walks_263 : decode cX3_walks 263 = .ok (.aload_n 0, 1) := dk_42 (dk_at dksX3_walks_11 8 rfl rfl)
theorem dX3_walks_264 : decode cX3_walks 264 = .ok (.getfield 37, 3) := dk_180 0 37 (dk_at dksX3_walks_11 9 rfl rfl)
theorem dX3_walks_267 : decode cX3_walks 267 = .ok (.aload_n 0, 1) := dk_42 (dk_at dksX3_walks_11 12 rfl rfl)
theorem dX3_walks_268 : decode cX3_walks 268 = .ok (.getfield 168, 3) := dk_180 0 168 (dk_at dksX3_walks_11 13 rfl rfl)
theorem dX3_walks_271 : decode cX3_walks 271 = .ok (.aload_n 0, 1) := dk_42 (dk_at dksX3_walks_11 16 rfl rfl)
theorem dX3_walks_272 : decode cX3_walks 272 = .ok (.getfield 171, 3) := dk_180 0 171 (dk_at dksX3_walks_11 17 rfl rfl)
theorem dX3_walks_275 : decode cX3_walks 275 = .ok (.iastore, 1) := dk_79 (dk_at dksX3_walks_11 20 rfl rfl)
theorem dX3_walks_276 : decode cX3_walks 276 = .ok (.return_, 1) := dk_177 (dk_at dksX3_walks_11 21 rfl rfl)
abbrev cX3_cornerCount : ByteArray := prog_22_method_73_code
def yX3_cornerCount : MethodName := ⟨RX3, "cornerCount", "(II)I"⟩
def dkwX3_cornerCount_1 : List UInt8 := [167, 0, 4, 3, 172]
abbrev dktX3_cornerCount_1 : List UInt8 := dkwX3_cornerCount_1 ++ []
def dkwX3_cornerCount_0 : List UInt8 := [42, 27, 28, 182, 0, 187, 153, 0, 21, 42, 180, 0, 37, 28, 4, 96, 46, 42, 180, 0, 37, 28, 46, 100]
abbrev dktX3_cornerCount_0 : List UInt8 := dkwX3_cornerCount_0 ++ dktX3_cornerCount_1
theorem dksX3_cornerCount_0 : cX3_cornerCount.data.toList.drop 0 = dktX3_cornerCount_0 := by decide +kernel
theorem dksX3_cornerCount_1 : cX3_cornerCount.data.toList.drop 24 = dktX3_cornerCount_1 := dk_seg dksX3_cornerCount_0 24 rfl rfl
theorem dX3_cornerCount_0 : decode cX3_cornerCount 0 = .ok (.aload_n 0, 1) := dk_42 (dk_at dksX3_cornerCount_0 0 rfl rfl)
theorem dX3_cornerCount_1 : decode cX3_cornerCount 1 = .ok (.iload_n 1, 1) := dk_27 (dk_at dksX3_cornerCount_0 1 rfl rfl)
theorem dX3_cornerCount_2 : decode cX3_cornerCount 2 = .ok (.iload_n 2, 1) := dk_28 (dk_at dksX3_cornerCount_0 2 rfl rfl)
theorem dX3_cornerCount_3 : decode cX3_cornerCount 3 = .ok (.invokevirtual 187, 3) := dk_182 0 187 (dk_at dksX3_cornerCount_0 3 rfl rfl)
theorem dX3_cornerCount_6 : decode cX3_cornerCount 6 = .ok (.ifCond .eq 21, 3) := dk_153 0 21 (dk_at dksX3_cornerCount_0 6 rfl rfl)
theorem dX3_cornerCount_9 : decode cX3_cornerCount 9 = .ok (.aload_n 0, 1) := dk_42 (dk_at dksX3_cornerCount_0 9 rfl rfl)
theorem dX3_cornerCount_10 : decode cX3_cornerCount 10 = .ok (.getfield 37, 3) := dk_180 0 37 (dk_at dksX3_cornerCount_0 10 rfl rfl)
theorem dX3_cornerCount_13 : decode cX3_cornerCount 13 = .ok (.iload_n 2, 1) := dk_28 (dk_at dksX3_cornerCount_0 13 rfl rfl)
theorem dX3_cornerCount_14 : decode cX3_cornerCount 14 = .ok (.iconst 1, 1) := dk_4 (dk_at dksX3_cornerCount_0 14 rfl rfl)
theorem dX3_cornerCount_15 : decode cX3_cornerCount 15 = .ok (.iadd, 1) := dk_96 (dk_at dksX3_cornerCount_0 15 rfl rfl)
theorem dX3_cornerCount_16 : decode cX3_cornerCount 16 = .ok (.iaload, 1) := dk_46 (dk_at dksX3_cornerCount_0 16 rfl rfl)
theorem dX3_cornerCount_17 : decode cX3_cornerCount 17 = .ok (.aload_n 0, 1) := dk_42 (dk_at dksX3_cornerCount_0 17 rfl rfl)
theorem dX3_cornerCount_18 : decode cX3_cornerCount 18 = .ok (.getfield 37, 3) := dk_180 0 37 (dk_at dksX3_cornerCount_0 18 rfl rfl)
theorem dX3_cornerCount_21 : decode cX3_cornerCount 21 = .ok (.iload_n 2, 1) := dk_28 (dk_at dksX3_cornerCount_0 21 rfl rfl)
theorem dX3_cornerCount_22 : decode cX3_cornerCount 22 = .ok (.iaload, 1) := dk_46 (dk_at dksX3_cornerCount_0 22 rfl rfl)
theorem dX3_cornerCount_23 : decode cX3_cornerCount 23 = .ok (.isub, 1) := dk_100 (dk_at dksX3_cornerCount_0 23 rfl rfl)
theorem dX3_cornerCount_24 : decode cX3_cornerCount 24 = .ok (.goto 4, 3) := dk_167 0 4 (dk_at dksX3_cornerCount_1 0 rfl rfl)
theorem dX3_cornerCount_27 : decode cX3_cornerCount 27 = .ok (.iconst 0, 1) := dk_3 (dk_at dksX3_cornerCount_1 3 rfl rfl)
theorem dX3_cornerCount_28 : decode cX3_cornerCount 28 = .ok (.ireturn, 1) := dk_172 (dk_at dksX3_cornerCount_1 4 rfl rfl)
abbrev cX3_looksAtOutline : ByteArray := prog_22_method_72_code
def yX3_looksAtOutline : MethodName := ⟨RX3, "looksAtOutline", "(II)Z"⟩
def dkwX3_looksAtOutline_2 : List UInt8 := [167, 0, 4, 3, 172]
abbrev dktX3_looksAtOutline_2 : List UInt8 := dkwX3_looksAtOutline_2 ++ []
def dkwX3_looksAtOutline_1 : List UInt8 := [184, 0, 50, 153, 0, 7, 3, 167, 0, 4, 5, 181, 0, 46, 42, 180, 0, 46, 154, 0, 7, 4]
abbrev dktX3_looksAtOutline_1 : List UInt8 := dkwX3_looksAtOutline_1 ++ dktX3_looksAtOutline_2
def dkwX3_looksAtOutline_0 : List UInt8 := [42, 27, 182, 0, 130, 154, 0, 5, 3, 172, 42, 27, 182, 0, 184, 42, 28, 3, 42, 180, 0, 168, 4, 100]
abbrev dktX3_looksAtOutline_0 : List UInt8 := dkwX3_looksAtOutline_0 ++ dktX3_looksAtOutline_1
theorem dksX3_looksAtOutline_0 : cX3_looksAtOutline.data.toList.drop 0 = dktX3_looksAtOutline_0 := by decide +kernel
theorem dksX3_looksAtOutline_1 : cX3_looksAtOutline.data.toList.drop 24 = dktX3_looksAtOutline_1 := dk_seg dksX3_looksAtOutline_0 24 rfl rfl
theorem dksX3_looksAtOutline_2 : cX3_looksAtOutline.data.toList.drop 46 = dktX3_looksAtOutline_2 := dk_seg dksX3_looksAtOutline_1 22 rfl rfl
theorem dX3_looksAtOutline_0 : decode cX3_looksAtOutline 0 = .ok (.aload_n 0, 1) := dk_42 (dk_at dksX3_looksAtOutline_0 0 rfl rfl)
theorem dX3_looksAtOutline_1 : decode cX3_looksAtOutline 1 = .ok (.iload_n 1, 1) := dk_27 (dk_at dksX3_looksAtOutline_0 1 rfl rfl)
theorem dX3_looksAtOutline_2 : decode cX3_looksAtOutline 2 = .ok (.invokevirtual 130, 3) := dk_182 0 130 (dk_at dksX3_looksAtOutline_0 2 rfl rfl)
theorem dX3_looksAtOutline_5 : decode cX3_looksAtOutline 5 = .ok (.ifCond .ne 5, 3) := dk_154 0 5 (dk_at dksX3_looksAtOutline_0 5 rfl rfl)
theorem dX3_looksAtOutline_8 : decode cX3_looksAtOutline 8 = .ok (.iconst 0, 1) := dk_3 (dk_at dksX3_looksAtOutline_0 8 rfl rfl)
theorem dX3_looksAtOutline_9 : decode cX3_looksAtOutline 9 = .ok (.ireturn, 1) := dk_172 (dk_at dksX3_looksAtOutline_0 9 rfl rfl)
theorem dX3_looksAtOutline_10 : decode cX3_looksAtOutline 10 = .ok (.aload_n 0, 1) := dk_42 (dk_at dksX3_looksAtOutline_0 10 rfl rfl)
theorem dX3_looksAtOutline_11 : decode cX3_looksAtOutline 11 = .ok (.iload_n 1, 1) := dk_27 (dk_at dksX3_looksAtOutline_0 11 rfl rfl)
theorem dX3_looksAtOutline_12 : decode cX3_looksAtOutline 12 = .ok (.invokevirtual 184, 3) := dk_182 0 184 (dk_at dksX3_looksAtOutline_0 12 rfl rfl)
theorem dX3_looksAtOutline_15 : decode cX3_looksAtOutline 15 = .ok (.aload_n 0, 1) := dk_42 (dk_at dksX3_looksAtOutline_0 15 rfl rfl)
theorem dX3_looksAtOutline_16 : decode cX3_looksAtOutline 16 = .ok (.iload_n 2, 1) := dk_28 (dk_at dksX3_looksAtOutline_0 16 rfl rfl)
theorem dX3_looksAtOutline_17 : decode cX3_looksAtOutline 17 = .ok (.iconst 0, 1) := dk_3 (dk_at dksX3_looksAtOutline_0 17 rfl rfl)
theorem dX3_looksAtOutline_18 : decode cX3_looksAtOutline 18 = .ok (.aload_n 0, 1) := dk_42 (dk_at dksX3_looksAtOutline_0 18 rfl rfl)
theorem dX3_looksAtOutline_19 : decode cX3_looksAtOutline 19 = .ok (.getfield 168, 3) := dk_180 0 168 (dk_at dksX3_looksAtOutline_0 19 rfl rfl)
theorem dX3_looksAtOutline_22 : decode cX3_looksAtOutline 22 = .ok (.iconst 1, 1) := dk_4 (dk_at dksX3_looksAtOutline_0 22 rfl rfl)
theorem dX3_looksAtOutline_23 : decode cX3_looksAtOutline 23 = .ok (.isub, 1) := dk_100 (dk_at dksX3_looksAtOutline_0 23 rfl rfl)
theorem dX3_looksAtOutline_24 : decode cX3_looksAtOutline 24 = .ok (.invokestatic 50, 3) := dk_184 0 50 (dk_at dksX3_looksAtOutline_1 0 rfl rfl)
theorem dX3_looksAtOutline_27 : decode cX3_looksAtOutline 27 = .ok (.ifCond .eq 7, 3) := dk_153 0 7 (dk_at dksX3_looksAtOutline_1 3 rfl rfl)
theorem dX3_looksAtOutline_30 : decode cX3_looksAtOutline 30 = .ok (.iconst 0, 1) := dk_3 (dk_at dksX3_looksAtOutline_1 6 rfl rfl)
theorem dX3_looksAtOutline_31 : decode cX3_looksAtOutline 31 = .ok (.goto 4, 3) := dk_167 0 4 (dk_at dksX3_looksAtOutline_1 7 rfl rfl)
theorem dX3_looksAtOutline_34 : decode cX3_looksAtOutline 34 = .ok (.iconst 2, 1) := dk_5 (dk_at dksX3_looksAtOutline_1 10 rfl rfl)
theorem dX3_looksAtOutline_35 : decode cX3_looksAtOutline 35 = .ok (.putfield 46, 3) := dk_181 0 46 (dk_at dksX3_looksAtOutline_1 11 rfl rfl)
theorem dX3_looksAtOutline_38 : decode cX3_looksAtOutline 38 = .ok (.aload_n 0, 1) := dk_42 (dk_at dksX3_looksAtOutline_1 14 rfl rfl)
theorem dX3_looksAtOutline_39 : decode cX3_looksAtOutline 39 = .ok (.getfield 46, 3) := dk_180 0 46 (dk_at dksX3_looksAtOutline_1 15 rfl rfl)
theorem dX3_looksAtOutline_42 : decode cX3_looksAtOutline 42 = .ok (.ifCond .ne 7, 3) := dk_154 0 7 (dk_at dksX3_looksAtOutline_1 18 rfl rfl)
theorem dX3_looksAtOutline_45 : decode cX3_looksAtOutline 45 = .ok (.iconst 1, 1) := dk_4 (dk_at dksX3_looksAtOutline_1 21 rfl rfl)
theorem dX3_looksAtOutline_46 : decode cX3_looksAtOutline 46 = .ok (.goto 4, 3) := dk_167 0 4 (dk_at dksX3_looksAtOutline_2 0 rfl rfl)
theorem dX3_looksAtOutline_49 : decode cX3_looksAtOutline 49 = .ok (.iconst 0, 1) := dk_3 (dk_at dksX3_looksAtOutline_2 3 rfl rfl)
theorem dX3_looksAtOutline_50 : decode cX3_looksAtOutline 50 = .ok (.ireturn, 1) := dk_172 (dk_at dksX3_looksAtOutline_2 4 rfl rfl)
abbrev cX3_cornerX : ByteArray := prog_22_method_75_code
def yX3_cornerX : MethodName := ⟨RX3, "cornerX", "(III)I"⟩
def dkwX3_cornerX_1 : List UInt8 := [167, 0, 4, 3, 172]
abbrev dktX3_cornerX_1 : List UInt8 := dkwX3_cornerX_1 ++ []
def dkwX3_cornerX_0 : List UInt8 := [42, 27, 28, 29, 182, 0, 190, 153, 0, 19, 42, 180, 0, 31, 42, 180, 0, 37, 28, 46, 29, 96, 46]
abbrev dktX3_cornerX_0 : List UInt8 := dkwX3_cornerX_0 ++ dktX3_cornerX_1
theorem dksX3_cornerX_0 : cX3_cornerX.data.toList.drop 0 = dktX3_cornerX_0 := by decide +kernel
theorem dksX3_cornerX_1 : cX3_cornerX.data.toList.drop 23 = dktX3_cornerX_1 := dk_seg dksX3_cornerX_0 23 rfl rfl
theorem dX3_cornerX_0 : decode cX3_cornerX 0 = .ok (.aload_n 0, 1) := dk_42 (dk_at dksX3_cornerX_0 0 rfl rfl)
theorem dX3_cornerX_1 : decode cX3_cornerX 1 = .ok (.iload_n 1, 1) := dk_27 (dk_at dksX3_cornerX_0 1 rfl rfl)
theorem dX3_cornerX_2 : decode cX3_cornerX 2 = .ok (.iload_n 2, 1) := dk_28 (dk_at dksX3_cornerX_0 2 rfl rfl)
theorem dX3_cornerX_3 : decode cX3_cornerX 3 = .ok (.iload_n 3, 1) := dk_29 (dk_at dksX3_cornerX_0 3 rfl rfl)
theorem dX3_cornerX_4 : decode cX3_cornerX 4 = .ok (.invokevirtual 190, 3) := dk_182 0 190 (dk_at dksX3_cornerX_0 4 rfl rfl)
theorem dX3_cornerX_7 : decode cX3_cornerX 7 = .ok (.ifCond .eq 19, 3) := dk_153 0 19 (dk_at dksX3_cornerX_0 7 rfl rfl)
theorem dX3_cornerX_10 : decode cX3_cornerX 10 = .ok (.aload_n 0, 1) := dk_42 (dk_at dksX3_cornerX_0 10 rfl rfl)
theorem dX3_cornerX_11 : decode cX3_cornerX 11 = .ok (.getfield 31, 3) := dk_180 0 31 (dk_at dksX3_cornerX_0 11 rfl rfl)
theorem dX3_cornerX_14 : decode cX3_cornerX 14 = .ok (.aload_n 0, 1) := dk_42 (dk_at dksX3_cornerX_0 14 rfl rfl)
theorem dX3_cornerX_15 : decode cX3_cornerX 15 = .ok (.getfield 37, 3) := dk_180 0 37 (dk_at dksX3_cornerX_0 15 rfl rfl)
theorem dX3_cornerX_18 : decode cX3_cornerX 18 = .ok (.iload_n 2, 1) := dk_28 (dk_at dksX3_cornerX_0 18 rfl rfl)
theorem dX3_cornerX_19 : decode cX3_cornerX 19 = .ok (.iaload, 1) := dk_46 (dk_at dksX3_cornerX_0 19 rfl rfl)
theorem dX3_cornerX_20 : decode cX3_cornerX 20 = .ok (.iload_n 3, 1) := dk_29 (dk_at dksX3_cornerX_0 20 rfl rfl)
theorem dX3_cornerX_21 : decode cX3_cornerX 21 = .ok (.iadd, 1) := dk_96 (dk_at dksX3_cornerX_0 21 rfl rfl)
theorem dX3_cornerX_22 : decode cX3_cornerX 22 = .ok (.iaload, 1) := dk_46 (dk_at dksX3_cornerX_0 22 rfl rfl)
theorem dX3_cornerX_23 : decode cX3_cornerX 23 = .ok (.goto 4, 3) := dk_167 0 4 (dk_at dksX3_cornerX_1 0 rfl rfl)
theorem dX3_cornerX_26 : decode cX3_cornerX 26 = .ok (.iconst 0, 1) := dk_3 (dk_at dksX3_cornerX_1 3 rfl rfl)
theorem dX3_cornerX_27 : decode cX3_cornerX 27 = .ok (.ireturn, 1) := dk_172 (dk_at dksX3_cornerX_1 4 rfl rfl)
abbrev cX3_looksAtCorner : ByteArray := prog_22_method_74_code
def yX3_looksAtCorner : MethodName := ⟨RX3, "looksAtCorner", "(III)Z"⟩
def dkwX3_looksAtCorner_2 : List UInt8 := [180, 0, 46, 154, 0, 7, 4, 167, 0, 4, 3, 172]
abbrev dktX3_looksAtCorner_2 : List UInt8 := dkwX3_looksAtCorner_2 ++ []
def dkwX3_looksAtCorner_1 : List UInt8 := [180, 0, 37, 28, 46, 100, 4, 100, 184, 0, 50, 153, 0, 7, 3, 167, 0, 4, 5, 181, 0, 46, 42]
abbrev dktX3_looksAtCorner_1 : List UInt8 := dkwX3_looksAtCorner_1 ++ dktX3_looksAtCorner_2
def dkwX3_looksAtCorner_0 : List UInt8 := [42, 27, 28, 182, 0, 187, 154, 0, 5, 3, 172, 42, 29, 3, 42, 180, 0, 37, 28, 4, 96, 46, 42]
abbrev dktX3_looksAtCorner_0 : List UInt8 := dkwX3_looksAtCorner_0 ++ dktX3_looksAtCorner_1
theorem dksX3_looksAtCorner_0 : cX3_looksAtCorner.data.toList.drop 0 = dktX3_looksAtCorner_0 := by decide +kernel
theorem dksX3_looksAtCorner_1 : cX3_looksAtCorner.data.toList.drop 23 = dktX3_looksAtCorner_1 := dk_seg dksX3_looksAtCorner_0 23 rfl rfl
theorem dksX3_looksAtCorner_2 : cX3_looksAtCorner.data.toList.drop 46 = dktX3_looksAtCorner_2 := dk_seg dksX3_looksAtCorner_1 23 rfl rfl
theorem dX3_looksAtCorner_0 : decode cX3_looksAtCorner 0 = .ok (.aload_n 0, 1) := dk_42 (dk_at dksX3_looksAtCorner_0 0 rfl rfl)
theorem dX3_looksAtCorner_1 : decode cX3_looksAtCorner 1 = .ok (.iload_n 1, 1) := dk_27 (dk_at dksX3_looksAtCorner_0 1 rfl rfl)
theorem dX3_looksAtCorner_2 : decode cX3_looksAtCorner 2 = .ok (.iload_n 2, 1) := dk_28 (dk_at dksX3_looksAtCorner_0 2 rfl rfl)
theorem dX3_looksAtCorner_3 : decode cX3_looksAtCorner 3 = .ok (.invokevirtual 187, 3) := dk_182 0 187 (dk_at dksX3_looksAtCorner_0 3 rfl rfl)
theorem dX3_looksAtCorner_6 : decode cX3_looksAtCorner 6 = .ok (.ifCond .ne 5, 3) := dk_154 0 5 (dk_at dksX3_looksAtCorner_0 6 rfl rfl)
theorem dX3_looksAtCorner_9 : decode cX3_looksAtCorner 9 = .ok (.iconst 0, 1) := dk_3 (dk_at dksX3_looksAtCorner_0 9 rfl rfl)
theorem dX3_looksAtCorner_10 : decode cX3_looksAtCorner 10 = .ok (.ireturn, 1) := dk_172 (dk_at dksX3_looksAtCorner_0 10 rfl rfl)
theorem dX3_looksAtCorner_11 : decode cX3_looksAtCorner 11 = .ok (.aload_n 0, 1) := dk_42 (dk_at dksX3_looksAtCorner_0 11 rfl rfl)
theorem dX3_looksAtCorner_12 : decode cX3_looksAtCorner 12 = .ok (.iload_n 3, 1) := dk_29 (dk_at dksX3_looksAtCorner_0 12 rfl rfl)
theorem dX3_looksAtCorner_13 : decode cX3_looksAtCorner 13 = .ok (.iconst 0, 1) := dk_3 (dk_at dksX3_looksAtCorner_0 13 rfl rfl)
theorem dX3_looksAtCorner_14 : decode cX3_looksAtCorner 14 = .ok (.aload_n 0, 1) := dk_42 (dk_at dksX3_looksAtCorner_0 14 rfl rfl)
theorem dX3_looksAtCorner_15 : decode cX3_looksAtCorner 15 = .ok (.getfield 37, 3) := dk_180 0 37 (dk_at dksX3_looksAtCorner_0 15 rfl rfl)
theorem dX3_looksAtCorner_18 : decode cX3_looksAtCorner 18 = .ok (.iload_n 2, 1) := dk_28 (dk_at dksX3_looksAtCorner_0 18 rfl rfl)
theorem dX3_looksAtCorner_19 : decode cX3_looksAtCorner 19 = .ok (.iconst 1, 1) := dk_4 (dk_at dksX3_looksAtCorner_0 19 rfl rfl)
theorem dX3_looksAtCorner_20 : decode cX3_looksAtCorner 20 = .ok (.iadd, 1) := dk_96 (dk_at dksX3_looksAtCorner_0 20 rfl rfl)
theorem dX3_looksAtCorner_21 : decode cX3_looksAtCorner 21 = .ok (.iaload, 1) := dk_46 (dk_at dksX3_looksAtCorner_0 21 rfl rfl)
theorem dX3_looksAtCorner_22 : decode cX3_looksAtCorner 22 = .ok (.aload_n 0, 1) := dk_42 (dk_at dksX3_looksAtCorner_0 22 rfl rfl)
theorem dX3_looksAtCorner_23 : decode cX3_looksAtCorner 23 = .ok (.getfield 37, 3) := dk_180 0 37 (dk_at dksX3_looksAtCorner_1 0 rfl rfl)
theorem dX3_looksAtCorner_26 : decode cX3_looksAtCorner 26 = .ok (.iload_n 2, 1) := dk_28 (dk_at dksX3_looksAtCorner_1 3 rfl rfl)
theorem dX3_looksAtCorner_27 : decode cX3_looksAtCorner 27 = .ok (.iaload, 1) := dk_46 (dk_at dksX3_looksAtCorner_1 4 rfl rfl)
theorem dX3_looksAtCorner_28 : decode cX3_looksAtCorner 28 = .ok (.isub, 1) := dk_100 (dk_at dksX3_looksAtCorner_1 5 rfl rfl)
theorem dX3_looksAtCorner_29 : decode cX3_looksAtCorner 29 = .ok (.iconst 1, 1) := dk_4 (dk_at dksX3_looksAtCorner_1 6 rfl rfl)
theorem dX3_looksAtCorner_30 : decode cX3_looksAtCorner 30 = .ok (.isub, 1) := dk_100 (dk_at dksX3_looksAtCorner_1 7 rfl rfl)
theorem dX3_looksAtCorner_31 : decode cX3_looksAtCorner 31 = .ok (.invokestatic 50, 3) := dk_184 0 50 (dk_at dksX3_looksAtCorner_1 8 rfl rfl)
theorem dX3_looksAtCorner_34 : decode cX3_looksAtCorner 34 = .ok (.ifCond .eq 7, 3) := dk_153 0 7 (dk_at dksX3_looksAtCorner_1 11 rfl rfl)
theorem dX3_looksAtCorner_37 : decode cX3_looksAtCorner 37 = .ok (.iconst 0, 1) := dk_3 (dk_at dksX3_looksAtCorner_1 14 rfl rfl)
theorem dX3_looksAtCorner_38 : decode cX3_looksAtCorner 38 = .ok (.goto 4, 3) := dk_167 0 4 (dk_at dksX3_looksAtCorner_1 15 rfl rfl)
theorem dX3_looksAtCorner_41 : decode cX3_looksAtCorner 41 = .ok (.iconst 2, 1) := dk_5 (dk_at dksX3_looksAtCorner_1 18 rfl rfl)
theorem dX3_looksAtCorner_42 : decode cX3_looksAtCorner 42 = .ok (.putfield 46, 3) := dk_181 0 46 (dk_at dksX3_looksAtCorner_1 19 rfl rfl)
theorem dX3_looksAtCorner_45 : decode cX3_looksAtCorner 45 = .ok (.aload_n 0, 1) := dk_42 (dk_at dksX3_looksAtCorner_1 22 rfl rfl)
theorem dX3_looksAtCorner_46 : decode cX3_looksAtCorner 46 = .ok (.getfield 46, 3) := dk_180 0 46 (dk_at dksX3_looksAtCorner_2 0 rfl rfl)
theorem dX3_looksAtCorner_49 : decode cX3_looksAtCorner 49 = .ok (.ifCond .ne 7, 3) := dk_154 0 7 (dk_at dksX3_looksAtCorner_2 3 rfl rfl)
theorem dX3_looksAtCorner_52 : decode cX3_looksAtCorner 52 = .ok (.iconst 1, 1) := dk_4 (dk_at dksX3_looksAtCorner_2 6 rfl rfl)
theorem dX3_looksAtCorner_53 : decode cX3_looksAtCorner 53 = .ok (.goto 4, 3) := dk_167 0 4 (dk_at dksX3_looksAtCorner_2 7 rfl rfl)
theorem dX3_looksAtCorner_56 : decode cX3_looksAtCorner 56 = .ok (.iconst 0, 1) := dk_3 (dk_at dksX3_looksAtCorner_2 10 rfl rfl)
theorem dX3_looksAtCorner_57 : decode cX3_looksAtCorner 57 = .ok (.ireturn, 1) := dk_172 (dk_at dksX3_looksAtCorner_2 11 rfl rfl)
abbrev cX3_cornerY : ByteArray := prog_22_method_76_code
def yX3_cornerY : MethodName := ⟨RX3, "cornerY", "(III)I"⟩
def dkwX3_cornerY_1 : List UInt8 := [167, 0, 4, 3, 172]
abbrev dktX3_cornerY_1 : List UInt8 := dkwX3_cornerY_1 ++ []
def dkwX3_cornerY_0 : List UInt8 := [42, 27, 28, 29, 182, 0, 190, 153, 0, 19, 42, 180, 0, 34, 42, 180, 0, 37, 28, 46, 29, 96, 46]
abbrev dktX3_cornerY_0 : List UInt8 := dkwX3_cornerY_0 ++ dktX3_cornerY_1
theorem dksX3_cornerY_0 : cX3_cornerY.data.toList.drop 0 = dktX3_cornerY_0 := by decide +kernel
theorem dksX3_cornerY_1 : cX3_cornerY.data.toList.drop 23 = dktX3_cornerY_1 := dk_seg dksX3_cornerY_0 23 rfl rfl
theorem dX3_cornerY_0 : decode cX3_cornerY 0 = .ok (.aload_n 0, 1) := dk_42 (dk_at dksX3_cornerY_0 0 rfl rfl)
theorem dX3_cornerY_1 : decode cX3_cornerY 1 = .ok (.iload_n 1, 1) := dk_27 (dk_at dksX3_cornerY_0 1 rfl rfl)
theorem dX3_cornerY_2 : decode cX3_cornerY 2 = .ok (.iload_n 2, 1) := dk_28 (dk_at dksX3_cornerY_0 2 rfl rfl)
theorem dX3_cornerY_3 : decode cX3_cornerY 3 = .ok (.iload_n 3, 1) := dk_29 (dk_at dksX3_cornerY_0 3 rfl rfl)
theorem dX3_cornerY_4 : decode cX3_cornerY 4 = .ok (.invokevirtual 190, 3) := dk_182 0 190 (dk_at dksX3_cornerY_0 4 rfl rfl)
theorem dX3_cornerY_7 : decode cX3_cornerY 7 = .ok (.ifCond .eq 19, 3) := dk_153 0 19 (dk_at dksX3_cornerY_0 7 rfl rfl)
theorem dX3_cornerY_10 : decode cX3_cornerY 10 = .ok (.aload_n 0, 1) := dk_42 (dk_at dksX3_cornerY_0 10 rfl rfl)
theorem dX3_cornerY_11 : decode cX3_cornerY 11 = .ok (.getfield 34, 3) := dk_180 0 34 (dk_at dksX3_cornerY_0 11 rfl rfl)
theorem dX3_cornerY_14 : decode cX3_cornerY 14 = .ok (.aload_n 0, 1) := dk_42 (dk_at dksX3_cornerY_0 14 rfl rfl)
theorem dX3_cornerY_15 : decode cX3_cornerY 15 = .ok (.getfield 37, 3) := dk_180 0 37 (dk_at dksX3_cornerY_0 15 rfl rfl)
theorem dX3_cornerY_18 : decode cX3_cornerY 18 = .ok (.iload_n 2, 1) := dk_28 (dk_at dksX3_cornerY_0 18 rfl rfl)
theorem dX3_cornerY_19 : decode cX3_cornerY 19 = .ok (.iaload, 1) := dk_46 (dk_at dksX3_cornerY_0 19 rfl rfl)
theorem dX3_cornerY_20 : decode cX3_cornerY 20 = .ok (.iload_n 3, 1) := dk_29 (dk_at dksX3_cornerY_0 20 rfl rfl)
theorem dX3_cornerY_21 : decode cX3_cornerY 21 = .ok (.iadd, 1) := dk_96 (dk_at dksX3_cornerY_0 21 rfl rfl)
theorem dX3_cornerY_22 : decode cX3_cornerY 22 = .ok (.iaload, 1) := dk_46 (dk_at dksX3_cornerY_0 22 rfl rfl)
theorem dX3_cornerY_23 : decode cX3_cornerY 23 = .ok (.goto 4, 3) := dk_167 0 4 (dk_at dksX3_cornerY_1 0 rfl rfl)
theorem dX3_cornerY_26 : decode cX3_cornerY 26 = .ok (.iconst 0, 1) := dk_3 (dk_at dksX3_cornerY_1 3 rfl rfl)
theorem dX3_cornerY_27 : decode cX3_cornerY 27 = .ok (.ireturn, 1) := dk_172 (dk_at dksX3_cornerY_1 4 rfl rfl)
abbrev cX3_signedArea : ByteArray := prog_22_method_77_code
def yX3_signedArea : MethodName := ⟨RX3, "signedArea", "(II)I"⟩
def dkwX3_signedArea_0 : List UInt8 := [42, 27, 28, 182, 0, 187, 153, 0, 12, 42, 180, 0, 40, 28, 46, 167, 0, 4, 3, 172]
abbrev dktX3_signedArea_0 : List UInt8 := dkwX3_signedArea_0 ++ []
theorem dksX3_signedArea_0 : cX3_signedArea.data.toList.drop 0 = dktX3_signedArea_0 := by decide +kernel
theorem dX3_signedArea_0 : decode cX3_signedArea 0 = .ok (.aload_n 0, 1) := dk_42 (dk_at dksX3_signedArea_0 0 rfl rfl)
theorem dX3_signedArea_1 : decode cX3_signedArea 1 = .ok (.iload_n 1, 1) := dk_27 (dk_at dksX3_signedArea_0 1 rfl rfl)
theorem dX3_signedArea_2 : decode cX3_signedArea 2 = .ok (.iload_n 2, 1) := dk_28 (dk_at dksX3_signedArea_0 2 rfl rfl)
theorem dX3_signedArea_3 : decode cX3_signedArea 3 = .ok (.invokevirtual 187, 3) := dk_182 0 187 (dk_at dksX3_signedArea_0 3 rfl rfl)
theorem dX3_signedArea_6 : decode cX3_signedArea 6 = .ok (.ifCond .eq 12, 3) := dk_153 0 12 (dk_at dksX3_signedArea_0 6 rfl rfl)
theorem dX3_signedArea_9 : decode cX3_signedArea 9 = .ok (.aload_n 0, 1) := dk_42 (dk_at dksX3_signedArea_0 9 rfl rfl)
theorem dX3_signedArea_10 : decode cX3_signedArea 10 = .ok (.getfield 40, 3) := dk_180 0 40 (dk_at dksX3_signedArea_0 10 rfl rfl)
theorem dX3_signedArea_13 : decode cX3_signedArea 13 = .ok (.iload_n 2, 1) := dk_28 (dk_at dksX3_signedArea_0 13 rfl rfl)
theorem dX3_signedArea_14 : decode cX3_signedArea 14 = .ok (.iaload, 1) := dk_46 (dk_at dksX3_signedArea_0 14 rfl rfl)
theorem dX3_signedArea_15 : decode cX3_signedArea 15 = .ok (.goto 4, 3) := dk_167 0 4 (dk_at dksX3_signedArea_0 15 rfl rfl)
theorem dX3_signedArea_18 : decode cX3_signedArea 18 = .ok (.iconst 0, 1) := dk_3 (dk_at dksX3_signedArea_0 18 rfl rfl)
theorem dX3_signedArea_19 : decode cX3_signedArea 19 = .ok (.ireturn, 1) := dk_172 (dk_at dksX3_signedArea_0 19 rfl rfl)
abbrev cX3_moment : ByteArray := prog_22_method_78_code
def yX3_moment : MethodName := ⟨RX3, "moment", "(I)J"⟩
def dkwX3_moment_3 : List UInt8 := [132, 4, 1, 167, 255, 199, 32, 173]
abbrev dktX3_moment_3 : List UInt8 := dkwX3_moment_3 ++ []
def dkwX3_moment_2 : List UInt8 := [21, 5, 104, 21, 4, 21, 4, 104, 96, 133, 167, 0, 4, 9, 97, 65, 132, 5, 1, 167, 255, 215]
abbrev dktX3_moment_2 : List UInt8 := dkwX3_moment_2 ++ dktX3_moment_3
def dkwX3_moment_1 : List UInt8 := [54, 5, 21, 5, 16, 24, 162, 0, 40, 32, 42, 27, 21, 5, 21, 4, 182, 0, 98, 153, 0, 18, 21, 5]
abbrev dktX3_moment_1 : List UInt8 := dkwX3_moment_1 ++ dktX3_moment_2
def dkwX3_moment_0 : List UInt8 := [42, 27, 182, 0, 130, 154, 0, 5, 9, 173, 9, 65, 3, 54, 4, 21, 4, 16, 24, 162, 0, 56, 3]
abbrev dktX3_moment_0 : List UInt8 := dkwX3_moment_0 ++ dktX3_moment_1
theorem dksX3_moment_0 : cX3_moment.data.toList.drop 0 = dktX3_moment_0 := by decide +kernel
theorem dksX3_moment_1 : cX3_moment.data.toList.drop 23 = dktX3_moment_1 := dk_seg dksX3_moment_0 23 rfl rfl
theorem dksX3_moment_2 : cX3_moment.data.toList.drop 47 = dktX3_moment_2 := dk_seg dksX3_moment_1 24 rfl rfl
theorem dksX3_moment_3 : cX3_moment.data.toList.drop 69 = dktX3_moment_3 := dk_seg dksX3_moment_2 22 rfl rfl
theorem dX3_moment_0 : decode cX3_moment 0 = .ok (.aload_n 0, 1) := dk_42 (dk_at dksX3_moment_0 0 rfl rfl)
theorem dX3_moment_1 : decode cX3_moment 1 = .ok (.iload_n 1, 1) := dk_27 (dk_at dksX3_moment_0 1 rfl rfl)
theorem dX3_moment_2 : decode cX3_moment 2 = .ok (.invokevirtual 130, 3) := dk_182 0 130 (dk_at dksX3_moment_0 2 rfl rfl)
theorem dX3_moment_5 : decode cX3_moment 5 = .ok (.ifCond .ne 5, 3) := dk_154 0 5 (dk_at dksX3_moment_0 5 rfl rfl)
theorem dX3_moment_8 : decode cX3_moment 8 = .ok (.lconst 0, 1) := dk_9 (dk_at dksX3_moment_0 8 rfl rfl)
theorem dX3_moment_9 : decode cX3_moment 9 = .ok (.lreturn, 1) := dk_173 (dk_at dksX3_moment_0 9 rfl rfl)
theorem dX3_moment_10 : decode cX3_moment 10 = .ok (.lconst 0, 1) := dk_9 (dk_at dksX3_moment_0 10 rfl rfl)
theorem dX3_moment_11 : decode cX3_moment 11 = .ok (.lstore_n 2, 1) := dk_65 (dk_at dksX3_moment_0 11 rfl rfl)
theorem dX3_moment_12 : decode cX3_moment 12 = .ok (.iconst 0, 1) := dk_3 (dk_at dksX3_moment_0 12 rfl rfl)
theorem dX3_moment_13 : decode cX3_moment 13 = .ok (.istore 4, 2) := dk_54 4 (dk_at dksX3_moment_0 13 rfl rfl)
theorem dX3_moment_15 : decode cX3_moment 15 = .ok (.iload 4, 2) := dk_21 4 (dk_at dksX3_moment_0 15 rfl rfl)
theorem dX3_moment_17 : decode cX3_moment 17 = .ok (.bipush 24, 2) := dk_16 24 (dk_at dksX3_moment_0 17 rfl rfl)
theorem dX3_moment_19 : decode cX3_moment 19 = .ok (.if_icmp .ge 56, 3) := dk_162 0 56 (dk_at dksX3_moment_0 19 rfl rfl)
theorem dX3_moment_22 : decode cX3_moment 22 = .ok (.iconst 0, 1) := dk_3 (dk_at dksX3_moment_0 22 rfl rfl)
theorem dX3_moment_23 : decode cX3_moment 23 = .ok (.istore 5, 2) := dk_54 5 (dk_at dksX3_moment_1 0 rfl rfl)
theorem dX3_moment_25 : decode cX3_moment 25 = .ok (.iload 5, 2) := dk_21 5 (dk_at dksX3_moment_1 2 rfl rfl)
theorem dX3_moment_27 : decode cX3_moment 27 = .ok (.bipush 24, 2) := dk_16 24 (dk_at dksX3_moment_1 4 rfl rfl)
theorem dX3_moment_29 : decode cX3_moment 29 = .ok (.if_icmp .ge 40, 3) := dk_162 0 40 (dk_at dksX3_moment_1 6 rfl rfl)
theorem dX3_moment_32 : decode cX3_moment 32 = .ok (.lload_n 2, 1) := dk_32 (dk_at dksX3_moment_1 9 rfl rfl)
theorem dX3_moment_33 : decode cX3_moment 33 = .ok (.aload_n 0, 1) := dk_42 (dk_at dksX3_moment_1 10 rfl rfl)
theorem dX3_moment_34 : decode cX3_moment 34 = .ok (.iload_n 1, 1) := dk_27 (dk_at dksX3_moment_1 11 rfl rfl)
theorem dX3_moment_35 : decode cX3_moment 35 = .ok (.iload 5, 2) := dk_21 5 (dk_at dksX3_moment_1 12 rfl rfl)
theorem dX3_moment_37 : decode cX3_moment 37 = .ok (.iload 4, 2) := dk_21 4 (dk_at dksX3_moment_1 14 rfl rfl)
theorem dX3_moment_39 : decode cX3_moment 39 = .ok (.invokevirtual 98, 3) := dk_182 0 98 (dk_at dksX3_moment_1 16 rfl rfl)
theorem dX3_moment_42 : decode cX3_moment 42 = .ok (.ifCond .eq 18, 3) := dk_153 0 18 (dk_at dksX3_moment_1 19 rfl rfl)
theorem dX3_moment_45 : decode cX3_moment 45 = .ok (.iload 5, 2) := dk_21 5 (dk_at dksX3_moment_1 22 rfl rfl)
theorem dX3_moment_47 : decode cX3_moment 47 = .ok (.iload 5, 2) := dk_21 5 (dk_at dksX3_moment_2 0 rfl rfl)
theorem dX3_moment_49 : decode cX3_moment 49 = .ok (.imul, 1) := dk_104 (dk_at dksX3_moment_2 2 rfl rfl)
theorem dX3_moment_50 : decode cX3_moment 50 = .ok (.iload 4, 2) := dk_21 4 (dk_at dksX3_moment_2 3 rfl rfl)
theorem dX3_moment_52 : decode cX3_moment 52 = .ok (.iload 4, 2) := dk_21 4 (dk_at dksX3_moment_2 5 rfl rfl)
theorem dX3_moment_54 : decode cX3_moment 54 = .ok (.imul, 1) := dk_104 (dk_at dksX3_moment_2 7 rfl rfl)
theorem dX3_moment_55 : decode cX3_moment 55 = .ok (.iadd, 1) := dk_96 (dk_at dksX3_moment_2 8 rfl rfl)
theorem dX3_moment_56 : decode cX3_moment 56 = .ok (.i2l, 1) := dk_133 (dk_at dksX3_moment_2 9 rfl rfl)
theorem dX3_moment_57 : decode cX3_moment 57 = .ok (.goto 4, 3) := dk_167 0 4 (dk_at dksX3_moment_2 10 rfl rfl)
theorem dX3_moment_60 : decode cX3_moment 60 = .ok (.lconst 0, 1) := dk_9 (dk_at dksX3_moment_2 13 rfl rfl)
theorem dX3_moment_61 : decode cX3_moment 61 = .ok (.ladd, 1) := dk_97 (dk_at dksX3_moment_2 14 rfl rfl)
theorem dX3_moment_62 : decode cX3_moment 62 = .ok (.lstore_n 2, 1) := dk_65 (dk_at dksX3_moment_2 15 rfl rfl)
theorem dX3_moment_63 : decode cX3_moment 63 = .ok (.iinc 5 1, 3) := dk_132 5 1 (dk_at dksX3_moment_2 16 rfl rfl)
theorem dX3_moment_66 : decode cX3_moment 66 = .ok (.goto (-41), 3) := dk_167 255 215 (dk_at dksX3_moment_2 19 rfl rfl)
theorem dX3_moment_69 : decode cX3_moment 69 = .ok (.iinc 4 1, 3) := dk_132 4 1 (dk_at dksX3_moment_3 0 rfl rfl)
theorem dX3_moment_72 : decode cX3_moment 72 = .ok (.goto (-57), 3) := dk_167 255 199 (dk_at dksX3_moment_3 3 rfl rfl)
theorem dX3_moment_75 : decode cX3_moment 75 = .ok (.lload_n 2, 1) := dk_32 (dk_at dksX3_moment_3 6 rfl rfl)
theorem dX3_moment_76 : decode cX3_moment 76 = .ok (.lreturn, 1) := dk_173 (dk_at dksX3_moment_3 7 rfl rfl)
abbrev cX3_momentByCells : ByteArray := prog_22_method_79_code
def yX3_momentByCells : MethodName := ⟨RX3, "momentByCells", "(I)J"⟩
def dkwX3_momentByCells_0 : List UInt8 := [42, 27, 182, 0, 193, 173]
abbrev dktX3_momentByCells_0 : List UInt8 := dkwX3_momentByCells_0 ++ []
theorem dksX3_momentByCells_0 : cX3_momentByCells.data.toList.drop 0 = dktX3_momentByCells_0 := by decide +kernel
theorem dX3_momentByCells_0 : decode cX3_momentByCells 0 = .ok (.aload_n 0, 1) := dk_42 (dk_at dksX3_momentByCells_0 0 rfl rfl)
theorem dX3_momentByCells_1 : decode cX3_momentByCells 1 = .ok (.iload_n 1, 1) := dk_27 (dk_at dksX3_momentByCells_0 1 rfl rfl)
theorem dX3_momentByCells_2 : decode cX3_momentByCells 2 = .ok (.invokevirtual 193, 3) := dk_182 0 193 (dk_at dksX3_momentByCells_0 2 rfl rfl)
theorem dX3_momentByCells_5 : decode cX3_momentByCells 5 = .ok (.lreturn, 1) := dk_173 (dk_at dksX3_momentByCells_0 5 rfl rfl)
abbrev cX3_middleX : ByteArray := prog_22_method_80_code
def yX3_middleX : MethodName := ⟨RX3, "middleX", "(I)D"⟩
def dkwX3_middleX_3 : List UInt8 := [111, 42, 27, 182, 0, 66, 135, 111, 175]
abbrev dktX3_middleX_3 : List UInt8 := dkwX3_middleX_3 ++ []
def dkwX3_middleX_2 : List UInt8 := [96, 167, 0, 4, 3, 96, 61, 132, 4, 1, 167, 255, 222, 132, 3, 1, 167, 255, 207, 28, 135, 20, 0, 197]
abbrev dktX3_middleX_2 : List UInt8 := dkwX3_middleX_2 ++ dktX3_middleX_3
def dkwX3_middleX_1 : List UInt8 := [21, 4, 16, 24, 162, 0, 33, 28, 42, 27, 21, 4, 29, 182, 0, 98, 153, 0, 12, 5, 21, 4, 104, 4]
abbrev dktX3_middleX_1 : List UInt8 := dkwX3_middleX_1 ++ dktX3_middleX_2
def dkwX3_middleX_0 : List UInt8 := [42, 27, 182, 0, 149, 154, 0, 5, 14, 175, 3, 61, 3, 62, 29, 16, 24, 162, 0, 49, 3, 54, 4]
abbrev dktX3_middleX_0 : List UInt8 := dkwX3_middleX_0 ++ dktX3_middleX_1
theorem dksX3_middleX_0 : cX3_middleX.data.toList.drop 0 = dktX3_middleX_0 := by decide +kernel
theorem dksX3_middleX_1 : cX3_middleX.data.toList.drop 23 = dktX3_middleX_1 := dk_seg dksX3_middleX_0 23 rfl rfl
theorem dksX3_middleX_2 : cX3_middleX.data.toList.drop 47 = dktX3_middleX_2 := dk_seg dksX3_middleX_1 24 rfl rfl
theorem dksX3_middleX_3 : cX3_middleX.data.toList.drop 71 = dktX3_middleX_3 := dk_seg dksX3_middleX_2 24 rfl rfl
theorem dX3_middleX_0 : decode cX3_middleX 0 = .ok (.aload_n 0, 1) := dk_42 (dk_at dksX3_middleX_0 0 rfl rfl)
theorem dX3_middleX_1 : decode cX3_middleX 1 = .ok (.iload_n 1, 1) := dk_27 (dk_at dksX3_middleX_0 1 rfl rfl)
theorem dX3_middleX_2 : decode cX3_middleX 2 = .ok (.invokevirtual 149, 3) := dk_182 0 149 (dk_at dksX3_middleX_0 2 rfl rfl)
theorem dX3_middleX_5 : decode cX3_middleX 5 = .ok (.ifCond .ne 5, 3) := dk_154 0 5 (dk_at dksX3_middleX_0 5 rfl rfl)
theorem dX3_middleX_8 : decode cX3_middleX 8 = .ok (.dconst 0, 1) := dk_14 (dk_at dksX3_middleX_0 8 rfl rfl)
theorem dX3_middleX_9 : decode cX3_middleX 9 = .ok (.dreturn, 1) := dk_175 (dk_at dksX3_middleX_0 9 rfl rfl)
theorem dX3_middleX_10 : decode cX3_middleX 10 = .ok (.iconst 0, 1) := dk_3 (dk_at dksX3_middleX_0 10 rfl rfl)
theorem dX3_middleX_11 : decode cX3_middleX 11 = .ok (.istore_n 2, 1) := dk_61 (dk_at dksX3_middleX_0 11 rfl rfl)
theorem dX3_middleX_12 : decode cX3_middleX 12 = .ok (.iconst 0, 1) := dk_3 (dk_at dksX3_middleX_0 12 rfl rfl)
theorem dX3_middleX_13 : decode cX3_middleX 13 = .ok (.istore_n 3, 1) := dk_62 (dk_at dksX3_middleX_0 13 rfl rfl)
theorem dX3_middleX_14 : decode cX3_middleX 14 = .ok (.iload_n 3, 1) := dk_29 (dk_at dksX3_middleX_0 14 rfl rfl)
theorem dX3_middleX_15 : decode cX3_middleX 15 = .ok (.bipush 24, 2) := dk_16 24 (dk_at dksX3_middleX_0 15 rfl rfl)
theorem dX3_middleX_17 : decode cX3_middleX 17 = .ok (.if_icmp .ge 49, 3) := dk_162 0 49 (dk_at dksX3_middleX_0 17 rfl rfl)
theorem dX3_middleX_20 : decode cX3_middleX 20 = .ok (.iconst 0, 1) := dk_3 (dk_at dksX3_middleX_0 20 rfl rfl)
theorem dX3_middleX_21 : decode cX3_middleX 21 = .ok (.istore 4, 2) := dk_54 4 (dk_at dksX3_middleX_0 21 rfl rfl)
theorem dX3_middleX_23 : decode cX3_middleX 23 = .ok (.iload 4, 2) := dk_21 4 (dk_at dksX3_middleX_1 0 rfl rfl)
theorem dX3_middleX_25 : decode cX3_middleX 25 = .ok (.bipush 24, 2) := dk_16 24 (dk_at dksX3_middleX_1 2 rfl rfl)
theorem dX3_middleX_27 : decode cX3_middleX 27 = .ok (.if_icmp .ge 33, 3) := dk_162 0 33 (dk_at dksX3_middleX_1 4 rfl rfl)
theorem dX3_middleX_30 : decode cX3_middleX 30 = .ok (.iload_n 2, 1) := dk_28 (dk_at dksX3_middleX_1 7 rfl rfl)
theorem dX3_middleX_31 : decode cX3_middleX 31 = .ok (.aload_n 0, 1) := dk_42 (dk_at dksX3_middleX_1 8 rfl rfl)
theorem dX3_middleX_32 : decode cX3_middleX 32 = .ok (.iload_n 1, 1) := dk_27 (dk_at dksX3_middleX_1 9 rfl rfl)
theorem dX3_middleX_33 : decode cX3_middleX 33 = .ok (.iload 4, 2) := dk_21 4 (dk_at dksX3_middleX_1 10 rfl rfl)
theorem dX3_middleX_35 : decode cX3_middleX 35 = .ok (.iload_n 3, 1) := dk_29 (dk_at dksX3_middleX_1 12 rfl rfl)
theorem dX3_middleX_36 : decode cX3_middleX 36 = .ok (.invokevirtual 98, 3) := dk_182 0 98 (dk_at dksX3_middleX_1 13 rfl rfl)
theorem dX3_middleX_39 : decode cX3_middleX 39 = .ok (.ifCond .eq 12, 3) := dk_153 0 12 (dk_at dksX3_middleX_1 16 rfl rfl)
theorem dX3_middleX_42 : decode cX3_middleX 42 = .ok (.iconst 2, 1) := dk_5 (dk_at dksX3_middleX_1 19 rfl rfl)
theorem dX3_middleX_43 : decode cX3_middleX 43 = .ok (.iload 4, 2) := dk_21 4 (dk_at dksX3_middleX_1 20 rfl rfl)
theorem dX3_middleX_45 : decode cX3_middleX 45 = .ok (.imul, 1) := dk_104 (dk_at dksX3_middleX_1 22 rfl rfl)
theorem dX3_middleX_46 : decode cX3_middleX 46 = .ok (.iconst 1, 1) := dk_4 (dk_at dksX3_middleX_1 23 rfl rfl)
theorem dX3_middleX_47 : decode cX3_middleX 47 = .ok (.iadd, 1) := dk_96 (dk_at dksX3_middleX_2 0 rfl rfl)
theorem dX3_middleX_48 : decode cX3_middleX 48 = .ok (.goto 4, 3) := dk_167 0 4 (dk_at dksX3_middleX_2 1 rfl rfl)
theorem dX3_middleX_51 : decode cX3_middleX 51 = .ok (.iconst 0, 1) := dk_3 (dk_at dksX3_middleX_2 4 rfl rfl)
theorem dX3_middleX_52 : decode cX3_middleX 52 = .ok (.iadd, 1) := dk_96 (dk_at dksX3_middleX_2 5 rfl rfl)
theorem dX3_middleX_53 : decode cX3_middleX 53 = .ok (.istore_n 2, 1) := dk_61 (dk_at dksX3_middleX_2 6 rfl rfl)
theorem dX3_middleX_54 : decode cX3_middleX 54 = .ok (.iinc 4 1, 3) := dk_132 4 1 (dk_at dksX3_middleX_2 7 rfl rfl)
theorem dX3_middleX_57 : decode cX3_middleX 57 = .ok (.goto (-34), 3) := dk_167 255 222 (dk_at dksX3_middleX_2 10 rfl rfl)
theorem dX3_middleX_60 : decode cX3_middleX 60 = .ok (.iinc 3 1, 3) := dk_132 3 1 (dk_at dksX3_middleX_2 13 rfl rfl)
theorem dX3_middleX_63 : decode cX3_middleX 63 = .ok (.goto (-49), 3) := dk_167 255 207 (dk_at dksX3_middleX_2 16 rfl rfl)
theorem dX3_middleX_66 : decode cX3_middleX 66 = .ok (.iload_n 2, 1) := dk_28 (dk_at dksX3_middleX_2 19 rfl rfl)
theorem dX3_middleX_67 : decode cX3_middleX 67 = .ok (.i2d, 1) := dk_135 (dk_at dksX3_middleX_2 20 rfl rfl)
theorem dX3_middleX_68 : decode cX3_middleX 68 = .ok (.ldc2_w 197, 3) := dk_20 0 197 (dk_at dksX3_middleX_2 21 rfl rfl)
theorem dX3_middleX_71 : decode cX3_middleX 71 = .ok (.ddiv, 1) := dk_111 (dk_at dksX3_middleX_3 0 rfl rfl)
theorem dX3_middleX_72 : decode cX3_middleX 72 = .ok (.aload_n 0, 1) := dk_42 (dk_at dksX3_middleX_3 1 rfl rfl)
theorem dX3_middleX_73 : decode cX3_middleX 73 = .ok (.iload_n 1, 1) := dk_27 (dk_at dksX3_middleX_3 2 rfl rfl)
theorem dX3_middleX_74 : decode cX3_middleX 74 = .ok (.invokevirtual 66, 3) := dk_182 0 66 (dk_at dksX3_middleX_3 3 rfl rfl)
theorem dX3_middleX_77 : decode cX3_middleX 77 = .ok (.i2d, 1) := dk_135 (dk_at dksX3_middleX_3 6 rfl rfl)
theorem dX3_middleX_78 : decode cX3_middleX 78 = .ok (.ddiv, 1) := dk_111 (dk_at dksX3_middleX_3 7 rfl rfl)
theorem dX3_middleX_79 : decode cX3_middleX 79 = .ok (.dreturn, 1) := dk_175 (dk_at dksX3_middleX_3 8 rfl rfl)
abbrev cX3_middleY : ByteArray := prog_22_method_81_code
def yX3_middleY : MethodName := ⟨RX3, "middleY", "(I)D"⟩
def dkwX3_middleY_2 : List UInt8 := [20, 0, 197, 111, 42, 27, 182, 0, 66, 135, 111, 175]
abbrev dktX3_middleY_2 : List UInt8 := dkwX3_middleY_2 ++ []
def dkwX3_middleY_1 : List UInt8 := [4, 96, 42, 27, 29, 182, 0, 58, 184, 0, 62, 104, 96, 61, 132, 3, 1, 167, 255, 229, 28, 135]
abbrev dktX3_middleY_1 : List UInt8 := dkwX3_middleY_1 ++ dktX3_middleY_2
def dkwX3_middleY_0 : List UInt8 := [42, 27, 182, 0, 149, 154, 0, 5, 14, 175, 3, 61, 3, 62, 29, 16, 24, 162, 0, 27, 28, 5, 29, 104]
abbrev dktX3_middleY_0 : List UInt8 := dkwX3_middleY_0 ++ dktX3_middleY_1
theorem dksX3_middleY_0 : cX3_middleY.data.toList.drop 0 = dktX3_middleY_0 := by decide +kernel
theorem dksX3_middleY_1 : cX3_middleY.data.toList.drop 24 = dktX3_middleY_1 := dk_seg dksX3_middleY_0 24 rfl rfl
theorem dksX3_middleY_2 : cX3_middleY.data.toList.drop 46 = dktX3_middleY_2 := dk_seg dksX3_middleY_1 22 rfl rfl
theorem dX3_middleY_0 : decode cX3_middleY 0 = .ok (.aload_n 0, 1) := dk_42 (dk_at dksX3_middleY_0 0 rfl rfl)
theorem dX3_middleY_1 : decode cX3_middleY 1 = .ok (.iload_n 1, 1) := dk_27 (dk_at dksX3_middleY_0 1 rfl rfl)
theorem dX3_middleY_2 : decode cX3_middleY 2 = .ok (.invokevirtual 149, 3) := dk_182 0 149 (dk_at dksX3_middleY_0 2 rfl rfl)
theorem dX3_middleY_5 : decode cX3_middleY 5 = .ok (.ifCond .ne 5, 3) := dk_154 0 5 (dk_at dksX3_middleY_0 5 rfl rfl)
theorem dX3_middleY_8 : decode cX3_middleY 8 = .ok (.dconst 0, 1) := dk_14 (dk_at dksX3_middleY_0 8 rfl rfl)
theorem dX3_middleY_9 : decode cX3_middleY 9 = .ok (.dreturn, 1) := dk_175 (dk_at dksX3_middleY_0 9 rfl rfl)
theorem dX3_middleY_10 : decode cX3_middleY 10 = .ok (.iconst 0, 1) := dk_3 (dk_at dksX3_middleY_0 10 rfl rfl)
theorem dX3_middleY_11 : decode cX3_middleY 11 = .ok (.istore_n 2, 1) := dk_61 (dk_at dksX3_middleY_0 11 rfl rfl)
theorem dX3_middleY_12 : decode cX3_middleY 12 = .ok (.iconst 0, 1) := dk_3 (dk_at dksX3_middleY_0 12 rfl rfl)
theorem dX3_middleY_13 : decode cX3_middleY 13 = .ok (.istore_n 3, 1) := dk_62 (dk_at dksX3_middleY_0 13 rfl rfl)
theorem dX3_middleY_14 : decode cX3_middleY 14 = .ok (.iload_n 3, 1) := dk_29 (dk_at dksX3_middleY_0 14 rfl rfl)
theorem dX3_middleY_15 : decode cX3_middleY 15 = .ok (.bipush 24, 2) := dk_16 24 (dk_at dksX3_middleY_0 15 rfl rfl)
theorem dX3_middleY_17 : decode cX3_middleY 17 = .ok (.if_icmp .ge 27, 3) := dk_162 0 27 (dk_at dksX3_middleY_0 17 rfl rfl)
theorem dX3_middleY_20 : decode cX3_middleY 20 = .ok (.iload_n 2, 1) := dk_28 (dk_at dksX3_middleY_0 20 rfl rfl)
theorem dX3_middleY_21 : decode cX3_middleY 21 = .ok (.iconst 2, 1) := dk_5 (dk_at dksX3_middleY_0 21 rfl rfl)
theorem dX3_middleY_22 : decode cX3_middleY 22 = .ok (.iload_n 3, 1) := dk_29 (dk_at dksX3_middleY_0 22 rfl rfl)
theorem dX3_middleY_23 : decode cX3_middleY 23 = .ok (.imul, 1) := dk_104 (dk_at dksX3_middleY_0 23 rfl rfl)
theorem dX3_middleY_24 : decode cX3_middleY 24 = .ok (.iconst 1, 1) := dk_4 (dk_at dksX3_middleY_1 0 rfl rfl)
theorem dX3_middleY_25 : decode cX3_middleY 25 = .ok (.iadd, 1) := dk_96 (dk_at dksX3_middleY_1 1 rfl rfl)
theorem dX3_middleY_26 : decode cX3_middleY 26 = .ok (.aload_n 0, 1) := dk_42 (dk_at dksX3_middleY_1 2 rfl rfl)
theorem dX3_middleY_27 : decode cX3_middleY 27 = .ok (.iload_n 1, 1) := dk_27 (dk_at dksX3_middleY_1 3 rfl rfl)
theorem dX3_middleY_28 : decode cX3_middleY 28 = .ok (.iload_n 3, 1) := dk_29 (dk_at dksX3_middleY_1 4 rfl rfl)
theorem dX3_middleY_29 : decode cX3_middleY 29 = .ok (.invokevirtual 58, 3) := dk_182 0 58 (dk_at dksX3_middleY_1 5 rfl rfl)
theorem dX3_middleY_32 : decode cX3_middleY 32 = .ok (.invokestatic 62, 3) := dk_184 0 62 (dk_at dksX3_middleY_1 8 rfl rfl)
theorem dX3_middleY_35 : decode cX3_middleY 35 = .ok (.imul, 1) := dk_104 (dk_at dksX3_middleY_1 11 rfl rfl)
theorem dX3_middleY_36 : decode cX3_middleY 36 = .ok (.iadd, 1) := dk_96 (dk_at dksX3_middleY_1 12 rfl rfl)
theorem dX3_middleY_37 : decode cX3_middleY 37 = .ok (.istore_n 2, 1) := dk_61 (dk_at dksX3_middleY_1 13 rfl rfl)
theorem dX3_middleY_38 : decode cX3_middleY 38 = .ok (.iinc 3 1, 3) := dk_132 3 1 (dk_at dksX3_middleY_1 14 rfl rfl)
theorem dX3_middleY_41 : decode cX3_middleY 41 = .ok (.goto (-27), 3) := dk_167 255 229 (dk_at dksX3_middleY_1 17 rfl rfl)
theorem dX3_middleY_44 : decode cX3_middleY 44 = .ok (.iload_n 2, 1) := dk_28 (dk_at dksX3_middleY_1 20 rfl rfl)
theorem dX3_middleY_45 : decode cX3_middleY 45 = .ok (.i2d, 1) := dk_135 (dk_at dksX3_middleY_1 21 rfl rfl)
theorem dX3_middleY_46 : decode cX3_middleY 46 = .ok (.ldc2_w 197, 3) := dk_20 0 197 (dk_at dksX3_middleY_2 0 rfl rfl)
theorem dX3_middleY_49 : decode cX3_middleY 49 = .ok (.ddiv, 1) := dk_111 (dk_at dksX3_middleY_2 3 rfl rfl)
theorem dX3_middleY_50 : decode cX3_middleY 50 = .ok (.aload_n 0, 1) := dk_42 (dk_at dksX3_middleY_2 4 rfl rfl)
theorem dX3_middleY_51 : decode cX3_middleY 51 = .ok (.iload_n 1, 1) := dk_27 (dk_at dksX3_middleY_2 5 rfl rfl)
theorem dX3_middleY_52 : decode cX3_middleY 52 = .ok (.invokevirtual 66, 3) := dk_182 0 66 (dk_at dksX3_middleY_2 6 rfl rfl)
theorem dX3_middleY_55 : decode cX3_middleY 55 = .ok (.i2d, 1) := dk_135 (dk_at dksX3_middleY_2 9 rfl rfl)
theorem dX3_middleY_56 : decode cX3_middleY 56 = .ok (.ddiv, 1) := dk_111 (dk_at dksX3_middleY_2 10 rfl rfl)
theorem dX3_middleY_57 : decode cX3_middleY 57 = .ok (.dreturn, 1) := dk_175 (dk_at dksX3_middleY_2 11 rfl rfl)
abbrev cX3_fullness : ByteArray := prog_22_method_82_code
def yX3_fullness : MethodName := ⟨RX3, "fullness", "(I)F"⟩
def dkwX3_fullness_1 : List UInt8 := [182, 0, 205, 42, 27, 182, 0, 208, 100, 104, 61, 42, 27, 182, 0, 66, 134, 28, 134, 110, 174]
abbrev dktX3_fullness_1 : List UInt8 := dkwX3_fullness_1 ++ []
def dkwX3_fullness_0 : List UInt8 := [42, 27, 182, 0, 149, 154, 0, 5, 11, 174, 42, 27, 182, 0, 199, 42, 27, 182, 0, 202, 100, 42, 27]
abbrev dktX3_fullness_0 : List UInt8 := dkwX3_fullness_0 ++ dktX3_fullness_1
theorem dksX3_fullness_0 : cX3_fullness.data.toList.drop 0 = dktX3_fullness_0 := by decide +kernel
theorem dksX3_fullness_1 : cX3_fullness.data.toList.drop 23 = dktX3_fullness_1 := dk_seg dksX3_fullness_0 23 rfl rfl
theorem dX3_fullness_0 : decode cX3_fullness 0 = .ok (.aload_n 0, 1) := dk_42 (dk_at dksX3_fullness_0 0 rfl rfl)
theorem dX3_fullness_1 : decode cX3_fullness 1 = .ok (.iload_n 1, 1) := dk_27 (dk_at dksX3_fullness_0 1 rfl rfl)
theorem dX3_fullness_2 : decode cX3_fullness 2 = .ok (.invokevirtual 149, 3) := dk_182 0 149 (dk_at dksX3_fullness_0 2 rfl rfl)
theorem dX3_fullness_5 : decode cX3_fullness 5 = .ok (.ifCond .ne 5, 3) := dk_154 0 5 (dk_at dksX3_fullness_0 5 rfl rfl)
theorem dX3_fullness_8 : decode cX3_fullness 8 = .ok (.fconst 0, 1) := dk_11 (dk_at dksX3_fullness_0 8 rfl rfl)
theorem dX3_fullness_9 : decode cX3_fullness 9 = .ok (.freturn, 1) := dk_174 (dk_at dksX3_fullness_0 9 rfl rfl)
theorem dX3_fullness_10 : decode cX3_fullness 10 = .ok (.aload_n 0, 1) := dk_42 (dk_at dksX3_fullness_0 10 rfl rfl)
theorem dX3_fullness_11 : decode cX3_fullness 11 = .ok (.iload_n 1, 1) := dk_27 (dk_at dksX3_fullness_0 11 rfl rfl)
theorem dX3_fullness_12 : decode cX3_fullness 12 = .ok (.invokevirtual 199, 3) := dk_182 0 199 (dk_at dksX3_fullness_0 12 rfl rfl)
theorem dX3_fullness_15 : decode cX3_fullness 15 = .ok (.aload_n 0, 1) := dk_42 (dk_at dksX3_fullness_0 15 rfl rfl)
theorem dX3_fullness_16 : decode cX3_fullness 16 = .ok (.iload_n 1, 1) := dk_27 (dk_at dksX3_fullness_0 16 rfl rfl)
theorem dX3_fullness_17 : decode cX3_fullness 17 = .ok (.invokevirtual 202, 3) := dk_182 0 202 (dk_at dksX3_fullness_0 17 rfl rfl)
theorem dX3_fullness_20 : decode cX3_fullness 20 = .ok (.isub, 1) := dk_100 (dk_at dksX3_fullness_0 20 rfl rfl)
theorem dX3_fullness_21 : decode cX3_fullness 21 = .ok (.aload_n 0, 1) := dk_42 (dk_at dksX3_fullness_0 21 rfl rfl)
theorem dX3_fullness_22 : decode cX3_fullness 22 = .ok (.iload_n 1, 1) := dk_27 (dk_at dksX3_fullness_0 22 rfl rfl)
theorem dX3_fullness_23 : decode cX3_fullness 23 = .ok (.invokevirtual 205, 3) := dk_182 0 205 (dk_at dksX3_fullness_1 0 rfl rfl)
theorem dX3_fullness_26 : decode cX3_fullness 26 = .ok (.aload_n 0, 1) := dk_42 (dk_at dksX3_fullness_1 3 rfl rfl)
theorem dX3_fullness_27 : decode cX3_fullness 27 = .ok (.iload_n 1, 1) := dk_27 (dk_at dksX3_fullness_1 4 rfl rfl)
theorem dX3_fullness_28 : decode cX3_fullness 28 = .ok (.invokevirtual 208, 3) := dk_182 0 208 (dk_at dksX3_fullness_1 5 rfl rfl)
theorem dX3_fullness_31 : decode cX3_fullness 31 = .ok (.isub, 1) := dk_100 (dk_at dksX3_fullness_1 8 rfl rfl)
theorem dX3_fullness_32 : decode cX3_fullness 32 = .ok (.imul, 1) := dk_104 (dk_at dksX3_fullness_1 9 rfl rfl)
theorem dX3_fullness_33 : decode cX3_fullness 33 = .ok (.istore_n 2, 1) := dk_61 (dk_at dksX3_fullness_1 10 rfl rfl)
theorem dX3_fullness_34 : decode cX3_fullness 34 = .ok (.aload_n 0, 1) := dk_42 (dk_at dksX3_fullness_1 11 rfl rfl)
theorem dX3_fullness_35 : decode cX3_fullness 35 = .ok (.iload_n 1, 1) := dk_27 (dk_at dksX3_fullness_1 12 rfl rfl)
theorem dX3_fullness_36 : decode cX3_fullness 36 = .ok (.invokevirtual 66, 3) := dk_182 0 66 (dk_at dksX3_fullness_1 13 rfl rfl)
theorem dX3_fullness_39 : decode cX3_fullness 39 = .ok (.i2f, 1) := dk_134 (dk_at dksX3_fullness_1 16 rfl rfl)
theorem dX3_fullness_40 : decode cX3_fullness 40 = .ok (.iload_n 2, 1) := dk_28 (dk_at dksX3_fullness_1 17 rfl rfl)
theorem dX3_fullness_41 : decode cX3_fullness 41 = .ok (.i2f, 1) := dk_134 (dk_at dksX3_fullness_1 18 rfl rfl)
theorem dX3_fullness_42 : decode cX3_fullness 42 = .ok (.fdiv, 1) := dk_110 (dk_at dksX3_fullness_1 19 rfl rfl)
theorem dX3_fullness_43 : decode cX3_fullness 43 = .ok (.freturn, 1) := dk_174 (dk_at dksX3_fullness_1 20 rfl rfl)
theorem q60 : (Jvm.Cond.initialized "PolygonBoardModel") ∈ lw_all := lw_g (lw_at lw_m1 10 rfl) rfl
theorem q201 : (Jvm.Cond.selects "PolygonBoardModel" ({ cls := "java/lang/Object", name := "getClass", desc := "()Ljava/lang/Class;" } : Jvm.MethodName) ({ cls := "java/lang/Object", name := "getClass", desc := "()Ljava/lang/Class;" } : Jvm.MethodName)) ∈ lw_all := lw_g (lw_at lw_m1 151 rfl) rfl
theorem q1732 : (Jvm.Cond.instantiable "PolygonBoardModel" (16 : Nat)) ∈ lw_all := lw_g (lw_at lw_m8 2 rfl) rfl
theorem q1734 : (Jvm.Cond.instanceMethod ({ cls := "PolygonBoardModel", name := "<init>", desc := "()V" } : Jvm.MethodName)) ∈ lw_all := lw_g (lw_at lw_m8 4 rfl) rfl
theorem q1735 : (Jvm.Cond.code ({ cls := "PolygonBoardModel", name := "<init>", desc := "()V" } : Jvm.MethodName) prog_22_method_1_code (1 : Nat) (Option.none : Option Jvm.ClassFile.FieldType)) ∈ lw_all := lw_g (lw_at lw_m8 5 rfl) rfl
theorem q1736 : (Jvm.Cond.methodLink "PolygonBoardModel" (1 : Nat) ({ cls := "java/lang/Object", name := "<init>", desc := "()V" } : Jvm.MethodName)) ∈ lw_all := lw_g (lw_at lw_m8 6 rfl) rfl
theorem q1737 : (Jvm.Cond.fieldLink "PolygonBoardModel" (46 : Nat) "PolygonBoardModel" "thrown" "I") ∈ lw_all := lw_g (lw_at lw_m8 7 rfl) rfl
theorem q1738 : (Jvm.Cond.fieldLink "PolygonBoardModel" (83 : Nat) "PolygonBoardModel" "points" "I") ∈ lw_all := lw_g (lw_at lw_m8 8 rfl) rfl
theorem q1739 : (Jvm.Cond.fieldLink "PolygonBoardModel" (7 : Nat) "PolygonBoardModel" "rows" "[I") ∈ lw_all := lw_g (lw_at lw_m8 9 rfl) rfl
theorem q1740 : (Jvm.Cond.fieldLink "PolygonBoardModel" (13 : Nat) "PolygonBoardModel" "made" "[I") ∈ lw_all := lw_g (lw_at lw_m8 10 rfl) rfl
theorem q1741 : (Jvm.Cond.fieldLink "PolygonBoardModel" (16 : Nat) "PolygonBoardModel" "spread" "[I") ∈ lw_all := lw_g (lw_at lw_m8 11 rfl) rfl
theorem q1742 : (Jvm.Cond.fieldLink "PolygonBoardModel" (19 : Nat) "PolygonBoardModel" "ground" "[I") ∈ lw_all := lw_g (lw_at lw_m8 12 rfl) rfl
theorem q1743 : (Jvm.Cond.fieldLink "PolygonBoardModel" (22 : Nat) "PolygonBoardModel" "pathX" "[I") ∈ lw_all := lw_g (lw_at lw_m8 13 rfl) rfl
theorem q1744 : (Jvm.Cond.fieldLink "PolygonBoardModel" (25 : Nat) "PolygonBoardModel" "pathY" "[I") ∈ lw_all := lw_g (lw_at lw_m8 14 rfl) rfl
theorem q1745 : (Jvm.Cond.fieldLink "PolygonBoardModel" (28 : Nat) "PolygonBoardModel" "far" "[I") ∈ lw_all := lw_g (lw_at lw_m8 15 rfl) rfl
theorem q1746 : (Jvm.Cond.fieldLink "PolygonBoardModel" (31 : Nat) "PolygonBoardModel" "cornersX" "[I") ∈ lw_all := lw_g (lw_at lw_m8 16 rfl) rfl
theorem q1747 : (Jvm.Cond.fieldLink "PolygonBoardModel" (34 : Nat) "PolygonBoardModel" "cornersY" "[I") ∈ lw_all := lw_g (lw_at lw_m8 17 rfl) rfl
theorem q1748 : (Jvm.Cond.fieldLink "PolygonBoardModel" (37 : Nat) "PolygonBoardModel" "begins" "[I") ∈ lw_all := lw_g (lw_at lw_m8 18 rfl) rfl
theorem q1749 : (Jvm.Cond.fieldLink "PolygonBoardModel" (40 : Nat) "PolygonBoardModel" "areas" "[I") ∈ lw_all := lw_g (lw_at lw_m8 19 rfl) rfl
theorem q1750 : (Jvm.Cond.fieldLink "PolygonBoardModel" (43 : Nat) "PolygonBoardModel" "walked" "[I") ∈ lw_all := lw_g (lw_at lw_m8 20 rfl) rfl
theorem q1751 : (Jvm.Cond.fieldLink "PolygonBoardModel" (168 : Nat) "PolygonBoardModel" "outlines" "I") ∈ lw_all := lw_g (lw_at lw_m8 21 rfl) rfl
theorem q1752 : (Jvm.Cond.fieldLink "PolygonBoardModel" (171 : Nat) "PolygonBoardModel" "corners" "I") ∈ lw_all := lw_g (lw_at lw_m8 22 rfl) rfl
theorem q1753 : (Jvm.Cond.lays "PolygonBoardModel" "PolygonBoardModel" "thrown" "I") ∈ lw_all := lw_g (lw_at lw_m8 23 rfl) rfl
theorem q1754 : (Jvm.Cond.soleField "PolygonBoardModel" "thrown") ∈ lw_all := lw_g (lw_at lw_m8 24 rfl) rfl
theorem q1755 : (Jvm.Cond.lays "PolygonBoardModel" "PolygonBoardModel" "points" "I") ∈ lw_all := lw_g (lw_at lw_m8 25 rfl) rfl
theorem q1756 : (Jvm.Cond.soleField "PolygonBoardModel" "points") ∈ lw_all := lw_g (lw_at lw_m8 26 rfl) rfl
theorem q1757 : (Jvm.Cond.laysFinal "PolygonBoardModel" "PolygonBoardModel" "rows" "[I") ∈ lw_all := lw_g (lw_at lw_m8 27 rfl) rfl
theorem q1758 : (Jvm.Cond.soleField "PolygonBoardModel" "rows") ∈ lw_all := lw_g (lw_at lw_m8 28 rfl) rfl
theorem q1759 : (Jvm.Cond.laysFinal "PolygonBoardModel" "PolygonBoardModel" "made" "[I") ∈ lw_all := lw_g (lw_at lw_m8 29 rfl) rfl
theorem q1760 : (Jvm.Cond.soleField "PolygonBoardModel" "made") ∈ lw_all := lw_g (lw_at lw_m8 30 rfl) rfl
theorem q1761 : (Jvm.Cond.laysFinal "PolygonBoardModel" "PolygonBoardModel" "spread" "[I") ∈ lw_all := lw_g (lw_at lw_m8 31 rfl) rfl
theorem q1762 : (Jvm.Cond.soleField "PolygonBoardModel" "spread") ∈ lw_all := lw_g (lw_at lw_m8 32 rfl) rfl
theorem q1763 : (Jvm.Cond.laysFinal "PolygonBoardModel" "PolygonBoardModel" "ground" "[I") ∈ lw_all := lw_g (lw_at lw_m8 33 rfl) rfl
theorem q1764 : (Jvm.Cond.soleField "PolygonBoardModel" "ground") ∈ lw_all := lw_g (lw_at lw_m8 34 rfl) rfl
theorem q1765 : (Jvm.Cond.laysFinal "PolygonBoardModel" "PolygonBoardModel" "pathX" "[I") ∈ lw_all := lw_g (lw_at lw_m8 35 rfl) rfl
theorem q1766 : (Jvm.Cond.soleField "PolygonBoardModel" "pathX") ∈ lw_all := lw_g (lw_at lw_m8 36 rfl) rfl
theorem q1767 : (Jvm.Cond.laysFinal "PolygonBoardModel" "PolygonBoardModel" "pathY" "[I") ∈ lw_all := lw_g (lw_at lw_m8 37 rfl) rfl
theorem q1768 : (Jvm.Cond.soleField "PolygonBoardModel" "pathY") ∈ lw_all := lw_g (lw_at lw_m8 38 rfl) rfl
theorem q1769 : (Jvm.Cond.laysFinal "PolygonBoardModel" "PolygonBoardModel" "far" "[I") ∈ lw_all := lw_g (lw_at lw_m8 39 rfl) rfl
theorem q1770 : (Jvm.Cond.soleField "PolygonBoardModel" "far") ∈ lw_all := lw_g (lw_at lw_m8 40 rfl) rfl
theorem q1771 : (Jvm.Cond.laysFinal "PolygonBoardModel" "PolygonBoardModel" "cornersX" "[I") ∈ lw_all := lw_g (lw_at lw_m8 41 rfl) rfl
theorem q1772 : (Jvm.Cond.soleField "PolygonBoardModel" "cornersX") ∈ lw_all := lw_g (lw_at lw_m8 42 rfl) rfl
theorem q1773 : (Jvm.Cond.laysFinal "PolygonBoardModel" "PolygonBoardModel" "cornersY" "[I") ∈ lw_all := lw_g (lw_at lw_m8 43 rfl) rfl
theorem q1774 : (Jvm.Cond.soleField "PolygonBoardModel" "cornersY") ∈ lw_all := lw_g (lw_at lw_m8 44 rfl) rfl
theorem q1775 : (Jvm.Cond.laysFinal "PolygonBoardModel" "PolygonBoardModel" "begins" "[I") ∈ lw_all := lw_g (lw_at lw_m8 45 rfl) rfl
theorem q1776 : (Jvm.Cond.soleField "PolygonBoardModel" "begins") ∈ lw_all := lw_g (lw_at lw_m8 46 rfl) rfl
theorem q1777 : (Jvm.Cond.laysFinal "PolygonBoardModel" "PolygonBoardModel" "areas" "[I") ∈ lw_all := lw_g (lw_at lw_m8 47 rfl) rfl
theorem q1778 : (Jvm.Cond.soleField "PolygonBoardModel" "areas") ∈ lw_all := lw_g (lw_at lw_m8 48 rfl) rfl
theorem q1779 : (Jvm.Cond.laysFinal "PolygonBoardModel" "PolygonBoardModel" "walked" "[I") ∈ lw_all := lw_g (lw_at lw_m8 49 rfl) rfl
theorem q1780 : (Jvm.Cond.soleField "PolygonBoardModel" "walked") ∈ lw_all := lw_g (lw_at lw_m8 50 rfl) rfl
theorem q1781 : (Jvm.Cond.lays "PolygonBoardModel" "PolygonBoardModel" "outlines" "I") ∈ lw_all := lw_g (lw_at lw_m8 51 rfl) rfl
theorem q1782 : (Jvm.Cond.soleField "PolygonBoardModel" "outlines") ∈ lw_all := lw_g (lw_at lw_m8 52 rfl) rfl
theorem q1783 : (Jvm.Cond.lays "PolygonBoardModel" "PolygonBoardModel" "corners" "I") ∈ lw_all := lw_g (lw_at lw_m8 53 rfl) rfl
theorem q1784 : (Jvm.Cond.soleField "PolygonBoardModel" "corners") ∈ lw_all := lw_g (lw_at lw_m8 54 rfl) rfl
theorem q1785 : (Jvm.Cond.superclass "PolygonBoardModel" "java/lang/Object") ∈ lw_all := lw_g (lw_at lw_m8 55 rfl) rfl
theorem q1787 : (Jvm.Cond.instanceMethod ({ cls := "PolygonBoardModel", name := "thrown", desc := "()I" } : Jvm.MethodName)) ∈ lw_all := lw_g (lw_at lw_m8 57 rfl) rfl
theorem q1788 : (Jvm.Cond.selects "PolygonBoardModel" ({ cls := "PolygonBoardModel", name := "thrown", desc := "()I" } : Jvm.MethodName) ({ cls := "PolygonBoardModel", name := "thrown", desc := "()I" } : Jvm.MethodName)) ∈ lw_all := lw_g (lw_at lw_m8 58 rfl) rfl
theorem q1789 : (Jvm.Cond.code ({ cls := "PolygonBoardModel", name := "thrown", desc := "()I" } : Jvm.MethodName) prog_22_method_2_code (1 : Nat) (Option.some Jvm.ClassFile.FieldType.int)) ∈ lw_all := lw_g (lw_at lw_m8 59 rfl) rfl
theorem q1791 : (Jvm.Cond.instanceMethod ({ cls := "PolygonBoardModel", name := "fill", desc := "(IIIII)I" } : Jvm.MethodName)) ∈ lw_all := lw_g (lw_at lw_m8 61 rfl) rfl
theorem q1792 : (Jvm.Cond.selects "PolygonBoardModel" ({ cls := "PolygonBoardModel", name := "fill", desc := "(IIIII)I" } : Jvm.MethodName) ({ cls := "PolygonBoardModel", name := "fill", desc := "(IIIII)I" } : Jvm.MethodName)) ∈ lw_all := lw_g (lw_at lw_m8 62 rfl) rfl
theorem q1793 : (Jvm.Cond.code ({ cls := "PolygonBoardModel", name := "fill", desc := "(IIIII)I" } : Jvm.MethodName) prog_22_method_14_code (8 : Nat) (Option.some Jvm.ClassFile.FieldType.int)) ∈ lw_all := lw_g (lw_at lw_m8 63 rfl) rfl
theorem q1794 : (Jvm.Cond.methodLink "PolygonBoardModel" (69 : Nat) ({ cls := "PolygonBoardModel", name := "isSheet", desc := "(I)Z" } : Jvm.MethodName)) ∈ lw_all := lw_g (lw_at lw_m8 64 rfl) rfl
theorem q1795 : (Jvm.Cond.static ({ cls := "PolygonBoardModel", name := "isSheet", desc := "(I)Z" } : Jvm.MethodName)) ∈ lw_all := lw_g (lw_at lw_m8 65 rfl) rfl
theorem q1796 : (Jvm.Cond.code ({ cls := "PolygonBoardModel", name := "isSheet", desc := "(I)Z" } : Jvm.MethodName) prog_22_method_5_code (1 : Nat) (Option.some Jvm.ClassFile.FieldType.boolean)) ∈ lw_all := lw_g (lw_at lw_m8 66 rfl) rfl
theorem q1797 : (Jvm.Cond.methodLink "PolygonBoardModel" (50 : Nat) ({ cls := "PolygonBoardModel", name := "isIn", desc := "(III)Z" } : Jvm.MethodName)) ∈ lw_all := lw_g (lw_at lw_m8 67 rfl) rfl
theorem q1798 : (Jvm.Cond.static ({ cls := "PolygonBoardModel", name := "isIn", desc := "(III)Z" } : Jvm.MethodName)) ∈ lw_all := lw_g (lw_at lw_m8 68 rfl) rfl
theorem q1799 : (Jvm.Cond.code ({ cls := "PolygonBoardModel", name := "isIn", desc := "(III)Z" } : Jvm.MethodName) prog_22_method_4_code (3 : Nat) (Option.some Jvm.ClassFile.FieldType.boolean)) ∈ lw_all := lw_g (lw_at lw_m8 69 rfl) rfl
theorem q1800 : (Jvm.Cond.methodLink "PolygonBoardModel" (73 : Nat) ({ cls := "PolygonBoardModel", name := "isBox", desc := "(IIII)Z" } : Jvm.MethodName)) ∈ lw_all := lw_g (lw_at lw_m8 70 rfl) rfl
theorem q1801 : (Jvm.Cond.static ({ cls := "PolygonBoardModel", name := "isBox", desc := "(IIII)Z" } : Jvm.MethodName)) ∈ lw_all := lw_g (lw_at lw_m8 71 rfl) rfl
theorem q1802 : (Jvm.Cond.code ({ cls := "PolygonBoardModel", name := "isBox", desc := "(IIII)Z" } : Jvm.MethodName) prog_22_method_13_code (4 : Nat) (Option.some Jvm.ClassFile.FieldType.boolean)) ∈ lw_all := lw_g (lw_at lw_m8 72 rfl) rfl
theorem q1803 : (Jvm.Cond.methodLink "PolygonBoardModel" (66 : Nat) ({ cls := "PolygonBoardModel", name := "count", desc := "(I)I" } : Jvm.MethodName)) ∈ lw_all := lw_g (lw_at lw_m8 73 rfl) rfl
theorem q1804 : (Jvm.Cond.privateMethod ({ cls := "PolygonBoardModel", name := "count", desc := "(I)I" } : Jvm.MethodName)) ∈ lw_tbl := lw_at lw_m8 74 rfl
theorem q1805 : (Jvm.Cond.instanceMethod ({ cls := "PolygonBoardModel", name := "count", desc := "(I)I" } : Jvm.MethodName)) ∈ lw_all := lw_g (lw_at lw_m8 75 rfl) rfl
theorem q1806 : (Jvm.Cond.code ({ cls := "PolygonBoardModel", name := "count", desc := "(I)I" } : Jvm.MethodName) prog_22_method_10_code (4 : Nat) (Option.some Jvm.ClassFile.FieldType.int)) ∈ lw_all := lw_g (lw_at lw_m8 76 rfl) rfl
theorem q1807 : (Jvm.Cond.methodLink "PolygonBoardModel" (58 : Nat) ({ cls := "PolygonBoardModel", name := "row", desc := "(II)I" } : Jvm.MethodName)) ∈ lw_all := lw_g (lw_at lw_m8 77 rfl) rfl
theorem q1808 : (Jvm.Cond.privateMethod ({ cls := "PolygonBoardModel", name := "row", desc := "(II)I" } : Jvm.MethodName)) ∈ lw_tbl := lw_at lw_m8 78 rfl
theorem q1809 : (Jvm.Cond.instanceMethod ({ cls := "PolygonBoardModel", name := "row", desc := "(II)I" } : Jvm.MethodName)) ∈ lw_all := lw_g (lw_at lw_m8 79 rfl) rfl
theorem q1810 : (Jvm.Cond.code ({ cls := "PolygonBoardModel", name := "row", desc := "(II)I" } : Jvm.MethodName) prog_22_method_7_code (3 : Nat) (Option.some Jvm.ClassFile.FieldType.int)) ∈ lw_all := lw_g (lw_at lw_m8 80 rfl) rfl
theorem q1811 : (Jvm.Cond.methodLink "PolygonBoardModel" (62 : Nat) ({ cls := "PolygonBoardModel", name := "bits", desc := "(I)I" } : Jvm.MethodName)) ∈ lw_all := lw_g (lw_at lw_m8 81 rfl) rfl
theorem q1812 : (Jvm.Cond.static ({ cls := "PolygonBoardModel", name := "bits", desc := "(I)I" } : Jvm.MethodName)) ∈ lw_all := lw_g (lw_at lw_m8 82 rfl) rfl
theorem q1813 : (Jvm.Cond.code ({ cls := "PolygonBoardModel", name := "bits", desc := "(I)I" } : Jvm.MethodName) prog_22_method_9_code (3 : Nat) (Option.some Jvm.ClassFile.FieldType.int)) ∈ lw_all := lw_g (lw_at lw_m8 83 rfl) rfl
theorem q1814 : (Jvm.Cond.methodLink "PolygonBoardModel" (77 : Nat) ({ cls := "PolygonBoardModel", name := "range", desc := "(II)I" } : Jvm.MethodName)) ∈ lw_all := lw_g (lw_at lw_m8 84 rfl) rfl
theorem q1815 : (Jvm.Cond.static ({ cls := "PolygonBoardModel", name := "range", desc := "(II)I" } : Jvm.MethodName)) ∈ lw_all := lw_g (lw_at lw_m8 85 rfl) rfl
theorem q1816 : (Jvm.Cond.code ({ cls := "PolygonBoardModel", name := "range", desc := "(II)I" } : Jvm.MethodName) prog_22_method_12_code (2 : Nat) (Option.some Jvm.ClassFile.FieldType.int)) ∈ lw_all := lw_g (lw_at lw_m8 86 rfl) rfl
theorem q1818 : (Jvm.Cond.instanceMethod ({ cls := "PolygonBoardModel", name := "erase", desc := "(IIIII)I" } : Jvm.MethodName)) ∈ lw_all := lw_g (lw_at lw_m8 88 rfl) rfl
theorem q1819 : (Jvm.Cond.selects "PolygonBoardModel" ({ cls := "PolygonBoardModel", name := "erase", desc := "(IIIII)I" } : Jvm.MethodName) ({ cls := "PolygonBoardModel", name := "erase", desc := "(IIIII)I" } : Jvm.MethodName)) ∈ lw_all := lw_g (lw_at lw_m8 89 rfl) rfl
theorem q1820 : (Jvm.Cond.code ({ cls := "PolygonBoardModel", name := "erase", desc := "(IIIII)I" } : Jvm.MethodName) prog_22_method_15_code (8 : Nat) (Option.some Jvm.ClassFile.FieldType.int)) ∈ lw_all := lw_g (lw_at lw_m8 90 rfl) rfl
theorem q1822 : (Jvm.Cond.instanceMethod ({ cls := "PolygonBoardModel", name := "clear", desc := "(I)I" } : Jvm.MethodName)) ∈ lw_all := lw_g (lw_at lw_m8 92 rfl) rfl
theorem q1823 : (Jvm.Cond.selects "PolygonBoardModel" ({ cls := "PolygonBoardModel", name := "clear", desc := "(I)I" } : Jvm.MethodName) ({ cls := "PolygonBoardModel", name := "clear", desc := "(I)I" } : Jvm.MethodName)) ∈ lw_all := lw_g (lw_at lw_m8 93 rfl) rfl
theorem q1824 : (Jvm.Cond.code ({ cls := "PolygonBoardModel", name := "clear", desc := "(I)I" } : Jvm.MethodName) prog_22_method_16_code (4 : Nat) (Option.some Jvm.ClassFile.FieldType.int)) ∈ lw_all := lw_g (lw_at lw_m8 94 rfl) rfl
theorem q1826 : (Jvm.Cond.instanceMethod ({ cls := "PolygonBoardModel", name := "moveTo", desc := "(II)I" } : Jvm.MethodName)) ∈ lw_all := lw_g (lw_at lw_m8 96 rfl) rfl
theorem q1827 : (Jvm.Cond.selects "PolygonBoardModel" ({ cls := "PolygonBoardModel", name := "moveTo", desc := "(II)I" } : Jvm.MethodName) ({ cls := "PolygonBoardModel", name := "moveTo", desc := "(II)I" } : Jvm.MethodName)) ∈ lw_all := lw_g (lw_at lw_m8 97 rfl) rfl
theorem q1828 : (Jvm.Cond.code ({ cls := "PolygonBoardModel", name := "moveTo", desc := "(II)I" } : Jvm.MethodName) prog_22_method_18_code (3 : Nat) (Option.some Jvm.ClassFile.FieldType.int)) ∈ lw_all := lw_g (lw_at lw_m8 98 rfl) rfl
theorem q1829 : (Jvm.Cond.methodLink "PolygonBoardModel" (80 : Nat) ({ cls := "PolygonBoardModel", name := "isPoint", desc := "(II)Z" } : Jvm.MethodName)) ∈ lw_all := lw_g (lw_at lw_m8 99 rfl) rfl
theorem q1830 : (Jvm.Cond.static ({ cls := "PolygonBoardModel", name := "isPoint", desc := "(II)Z" } : Jvm.MethodName)) ∈ lw_all := lw_g (lw_at lw_m8 100 rfl) rfl
theorem q1831 : (Jvm.Cond.code ({ cls := "PolygonBoardModel", name := "isPoint", desc := "(II)Z" } : Jvm.MethodName) prog_22_method_17_code (2 : Nat) (Option.some Jvm.ClassFile.FieldType.boolean)) ∈ lw_all := lw_g (lw_at lw_m8 101 rfl) rfl
theorem q1833 : (Jvm.Cond.instanceMethod ({ cls := "PolygonBoardModel", name := "lineTo", desc := "(II)I" } : Jvm.MethodName)) ∈ lw_all := lw_g (lw_at lw_m8 103 rfl) rfl
theorem q1834 : (Jvm.Cond.selects "PolygonBoardModel" ({ cls := "PolygonBoardModel", name := "lineTo", desc := "(II)I" } : Jvm.MethodName) ({ cls := "PolygonBoardModel", name := "lineTo", desc := "(II)I" } : Jvm.MethodName)) ∈ lw_all := lw_g (lw_at lw_m8 104 rfl) rfl
theorem q1835 : (Jvm.Cond.code ({ cls := "PolygonBoardModel", name := "lineTo", desc := "(II)I" } : Jvm.MethodName) prog_22_method_20_code (3 : Nat) (Option.some Jvm.ClassFile.FieldType.int)) ∈ lw_all := lw_g (lw_at lw_m8 105 rfl) rfl
theorem q1836 : (Jvm.Cond.methodLink "PolygonBoardModel" (86 : Nat) ({ cls := "PolygonBoardModel", name := "fail", desc := "(I)I" } : Jvm.MethodName)) ∈ lw_all := lw_g (lw_at lw_m8 106 rfl) rfl
theorem q1837 : (Jvm.Cond.privateMethod ({ cls := "PolygonBoardModel", name := "fail", desc := "(I)I" } : Jvm.MethodName)) ∈ lw_tbl := lw_at lw_m8 107 rfl
theorem q1838 : (Jvm.Cond.instanceMethod ({ cls := "PolygonBoardModel", name := "fail", desc := "(I)I" } : Jvm.MethodName)) ∈ lw_all := lw_g (lw_at lw_m8 108 rfl) rfl
theorem q1839 : (Jvm.Cond.code ({ cls := "PolygonBoardModel", name := "fail", desc := "(I)I" } : Jvm.MethodName) prog_22_method_3_code (2 : Nat) (Option.some Jvm.ClassFile.FieldType.int)) ∈ lw_all := lw_g (lw_at lw_m8 109 rfl) rfl
theorem q1840 : (Jvm.Cond.methodLink "PolygonBoardModel" (89 : Nat) ({ cls := "PolygonBoardModel", name := "isLine", desc := "(IIII)Z" } : Jvm.MethodName)) ∈ lw_all := lw_g (lw_at lw_m8 110 rfl) rfl
theorem q1841 : (Jvm.Cond.static ({ cls := "PolygonBoardModel", name := "isLine", desc := "(IIII)Z" } : Jvm.MethodName)) ∈ lw_all := lw_g (lw_at lw_m8 111 rfl) rfl
theorem q1842 : (Jvm.Cond.code ({ cls := "PolygonBoardModel", name := "isLine", desc := "(IIII)Z" } : Jvm.MethodName) prog_22_method_19_code (4 : Nat) (Option.some Jvm.ClassFile.FieldType.boolean)) ∈ lw_all := lw_g (lw_at lw_m8 112 rfl) rfl
theorem q1844 : (Jvm.Cond.instanceMethod ({ cls := "PolygonBoardModel", name := "closePath", desc := "(IZ)I" } : Jvm.MethodName)) ∈ lw_all := lw_g (lw_at lw_m8 114 rfl) rfl
theorem q1845 : (Jvm.Cond.selects "PolygonBoardModel" ({ cls := "PolygonBoardModel", name := "closePath", desc := "(IZ)I" } : Jvm.MethodName) ({ cls := "PolygonBoardModel", name := "closePath", desc := "(IZ)I" } : Jvm.MethodName)) ∈ lw_all := lw_g (lw_at lw_m8 115 rfl) rfl
theorem q1846 : (Jvm.Cond.code ({ cls := "PolygonBoardModel", name := "closePath", desc := "(IZ)I" } : Jvm.MethodName) prog_22_method_22_code (6 : Nat) (Option.some Jvm.ClassFile.FieldType.int)) ∈ lw_all := lw_g (lw_at lw_m8 116 rfl) rfl
theorem q1847 : (Jvm.Cond.methodLink "PolygonBoardModel" (92 : Nat) ({ cls := "PolygonBoardModel", name := "winding", desc := "(II)I" } : Jvm.MethodName)) ∈ lw_all := lw_g (lw_at lw_m8 117 rfl) rfl
theorem q1848 : (Jvm.Cond.privateMethod ({ cls := "PolygonBoardModel", name := "winding", desc := "(II)I" } : Jvm.MethodName)) ∈ lw_tbl := lw_at lw_m8 118 rfl
theorem q1849 : (Jvm.Cond.instanceMethod ({ cls := "PolygonBoardModel", name := "winding", desc := "(II)I" } : Jvm.MethodName)) ∈ lw_all := lw_g (lw_at lw_m8 119 rfl) rfl
theorem q1850 : (Jvm.Cond.code ({ cls := "PolygonBoardModel", name := "winding", desc := "(II)I" } : Jvm.MethodName) prog_22_method_21_code (6 : Nat) (Option.some Jvm.ClassFile.FieldType.int)) ∈ lw_all := lw_g (lw_at lw_m8 120 rfl) rfl
theorem q1851 : (Jvm.Cond.methodLink "PolygonBoardModel" (95 : Nat) ({ cls := "PolygonBoardModel", name := "puts", desc := "(I)I" } : Jvm.MethodName)) ∈ lw_all := lw_g (lw_at lw_m8 121 rfl) rfl
theorem q1852 : (Jvm.Cond.privateMethod ({ cls := "PolygonBoardModel", name := "puts", desc := "(I)I" } : Jvm.MethodName)) ∈ lw_tbl := lw_at lw_m8 122 rfl
theorem q1853 : (Jvm.Cond.instanceMethod ({ cls := "PolygonBoardModel", name := "puts", desc := "(I)I" } : Jvm.MethodName)) ∈ lw_all := lw_g (lw_at lw_m8 123 rfl) rfl
theorem q1854 : (Jvm.Cond.code ({ cls := "PolygonBoardModel", name := "puts", desc := "(I)I" } : Jvm.MethodName) prog_22_method_11_code (3 : Nat) (Option.some Jvm.ClassFile.FieldType.int)) ∈ lw_all := lw_g (lw_at lw_m8 124 rfl) rfl
theorem q1856 : (Jvm.Cond.instanceMethod ({ cls := "PolygonBoardModel", name := "combine", desc := "(CIII)I" } : Jvm.MethodName)) ∈ lw_all := lw_g (lw_at lw_m8 126 rfl) rfl
theorem q1857 : (Jvm.Cond.selects "PolygonBoardModel" ({ cls := "PolygonBoardModel", name := "combine", desc := "(CIII)I" } : Jvm.MethodName) ({ cls := "PolygonBoardModel", name := "combine", desc := "(CIII)I" } : Jvm.MethodName)) ∈ lw_all := lw_g (lw_at lw_m8 127 rfl) rfl
theorem q1858 : (Jvm.Cond.code ({ cls := "PolygonBoardModel", name := "combine", desc := "(CIII)I" } : Jvm.MethodName) prog_22_method_23_code (9 : Nat) (Option.some Jvm.ClassFile.FieldType.int)) ∈ lw_all := lw_g (lw_at lw_m8 128 rfl) rfl
theorem q1860 : (Jvm.Cond.instanceMethod ({ cls := "PolygonBoardModel", name := "grow", desc := "(III)I" } : Jvm.MethodName)) ∈ lw_all := lw_g (lw_at lw_m8 130 rfl) rfl
theorem q1861 : (Jvm.Cond.selects "PolygonBoardModel" ({ cls := "PolygonBoardModel", name := "grow", desc := "(III)I" } : Jvm.MethodName) ({ cls := "PolygonBoardModel", name := "grow", desc := "(III)I" } : Jvm.MethodName)) ∈ lw_all := lw_g (lw_at lw_m8 131 rfl) rfl
theorem q1862 : (Jvm.Cond.code ({ cls := "PolygonBoardModel", name := "grow", desc := "(III)I" } : Jvm.MethodName) prog_22_method_27_code (4 : Nat) (Option.some Jvm.ClassFile.FieldType.int)) ∈ lw_all := lw_g (lw_at lw_m8 132 rfl) rfl
theorem q1863 : (Jvm.Cond.methodLink "PolygonBoardModel" (105 : Nat) ({ cls := "PolygonBoardModel", name := "isDistance", desc := "(III)Z" } : Jvm.MethodName)) ∈ lw_all := lw_g (lw_at lw_m8 133 rfl) rfl
theorem q1864 : (Jvm.Cond.privateMethod ({ cls := "PolygonBoardModel", name := "isDistance", desc := "(III)Z" } : Jvm.MethodName)) ∈ lw_tbl := lw_at lw_m8 134 rfl
theorem q1865 : (Jvm.Cond.instanceMethod ({ cls := "PolygonBoardModel", name := "isDistance", desc := "(III)Z" } : Jvm.MethodName)) ∈ lw_all := lw_g (lw_at lw_m8 135 rfl) rfl
theorem q1866 : (Jvm.Cond.code ({ cls := "PolygonBoardModel", name := "isDistance", desc := "(III)Z" } : Jvm.MethodName) prog_22_method_24_code (4 : Nat) (Option.some Jvm.ClassFile.FieldType.boolean)) ∈ lw_all := lw_g (lw_at lw_m8 136 rfl) rfl
theorem q1867 : (Jvm.Cond.methodLink "PolygonBoardModel" (108 : Nat) ({ cls := "PolygonBoardModel", name := "changes", desc := "(IIIZ)I" } : Jvm.MethodName)) ∈ lw_all := lw_g (lw_at lw_m8 137 rfl) rfl
theorem q1868 : (Jvm.Cond.privateMethod ({ cls := "PolygonBoardModel", name := "changes", desc := "(IIIZ)I" } : Jvm.MethodName)) ∈ lw_tbl := lw_at lw_m8 138 rfl
theorem q1869 : (Jvm.Cond.instanceMethod ({ cls := "PolygonBoardModel", name := "changes", desc := "(IIIZ)I" } : Jvm.MethodName)) ∈ lw_all := lw_g (lw_at lw_m8 139 rfl) rfl
theorem q1870 : (Jvm.Cond.code ({ cls := "PolygonBoardModel", name := "changes", desc := "(IIIZ)I" } : Jvm.MethodName) prog_22_method_26_code (7 : Nat) (Option.some Jvm.ClassFile.FieldType.int)) ∈ lw_all := lw_g (lw_at lw_m8 140 rfl) rfl
theorem q1871 : (Jvm.Cond.methodLink "PolygonBoardModel" (101 : Nat) ({ cls := "PolygonBoardModel", name := "isAround", desc := "(IIIIZ)Z" } : Jvm.MethodName)) ∈ lw_all := lw_g (lw_at lw_m8 141 rfl) rfl
theorem q1872 : (Jvm.Cond.privateMethod ({ cls := "PolygonBoardModel", name := "isAround", desc := "(IIIIZ)Z" } : Jvm.MethodName)) ∈ lw_tbl := lw_at lw_m8 142 rfl
theorem q1873 : (Jvm.Cond.instanceMethod ({ cls := "PolygonBoardModel", name := "isAround", desc := "(IIIIZ)Z" } : Jvm.MethodName)) ∈ lw_all := lw_g (lw_at lw_m8 143 rfl) rfl
theorem q1874 : (Jvm.Cond.code ({ cls := "PolygonBoardModel", name := "isAround", desc := "(IIIIZ)Z" } : Jvm.MethodName) prog_22_method_25_code (8 : Nat) (Option.some Jvm.ClassFile.FieldType.boolean)) ∈ lw_all := lw_g (lw_at lw_m8 144 rfl) rfl
theorem q1875 : (Jvm.Cond.methodLink "PolygonBoardModel" (98 : Nat) ({ cls := "PolygonBoardModel", name := "has", desc := "(III)Z" } : Jvm.MethodName)) ∈ lw_all := lw_g (lw_at lw_m8 145 rfl) rfl
theorem q1876 : (Jvm.Cond.privateMethod ({ cls := "PolygonBoardModel", name := "has", desc := "(III)Z" } : Jvm.MethodName)) ∈ lw_tbl := lw_at lw_m8 146 rfl
theorem q1877 : (Jvm.Cond.instanceMethod ({ cls := "PolygonBoardModel", name := "has", desc := "(III)Z" } : Jvm.MethodName)) ∈ lw_all := lw_g (lw_at lw_m8 147 rfl) rfl
theorem q1878 : (Jvm.Cond.code ({ cls := "PolygonBoardModel", name := "has", desc := "(III)Z" } : Jvm.MethodName) prog_22_method_8_code (4 : Nat) (Option.some Jvm.ClassFile.FieldType.boolean)) ∈ lw_all := lw_g (lw_at lw_m8 148 rfl) rfl
theorem q1879 : (Jvm.Cond.methodLink "PolygonBoardModel" (54 : Nat) ({ cls := "PolygonBoardModel", name := "isCell", desc := "(II)Z" } : Jvm.MethodName)) ∈ lw_all := lw_g (lw_at lw_m8 149 rfl) rfl
theorem q1880 : (Jvm.Cond.static ({ cls := "PolygonBoardModel", name := "isCell", desc := "(II)Z" } : Jvm.MethodName)) ∈ lw_all := lw_g (lw_at lw_m8 150 rfl) rfl
theorem q1881 : (Jvm.Cond.code ({ cls := "PolygonBoardModel", name := "isCell", desc := "(II)Z" } : Jvm.MethodName) prog_22_method_6_code (2 : Nat) (Option.some Jvm.ClassFile.FieldType.boolean)) ∈ lw_all := lw_g (lw_at lw_m8 151 rfl) rfl
theorem q1883 : (Jvm.Cond.instanceMethod ({ cls := "PolygonBoardModel", name := "shrink", desc := "(III)I" } : Jvm.MethodName)) ∈ lw_all := lw_g (lw_at lw_m8 153 rfl) rfl
theorem q1884 : (Jvm.Cond.selects "PolygonBoardModel" ({ cls := "PolygonBoardModel", name := "shrink", desc := "(III)I" } : Jvm.MethodName) ({ cls := "PolygonBoardModel", name := "shrink", desc := "(III)I" } : Jvm.MethodName)) ∈ lw_all := lw_g (lw_at lw_m8 154 rfl) rfl
theorem q1885 : (Jvm.Cond.code ({ cls := "PolygonBoardModel", name := "shrink", desc := "(III)I" } : Jvm.MethodName) prog_22_method_28_code (4 : Nat) (Option.some Jvm.ClassFile.FieldType.int)) ∈ lw_all := lw_g (lw_at lw_m8 155 rfl) rfl
theorem q1887 : (Jvm.Cond.instanceMethod ({ cls := "PolygonBoardModel", name := "move", desc := "(IIII)I" } : Jvm.MethodName)) ∈ lw_all := lw_g (lw_at lw_m8 157 rfl) rfl
theorem q1888 : (Jvm.Cond.selects "PolygonBoardModel" ({ cls := "PolygonBoardModel", name := "move", desc := "(IIII)I" } : Jvm.MethodName) ({ cls := "PolygonBoardModel", name := "move", desc := "(IIII)I" } : Jvm.MethodName)) ∈ lw_all := lw_g (lw_at lw_m8 158 rfl) rfl
theorem q1889 : (Jvm.Cond.code ({ cls := "PolygonBoardModel", name := "move", desc := "(IIII)I" } : Jvm.MethodName) prog_22_method_29_code (7 : Nat) (Option.some Jvm.ClassFile.FieldType.int)) ∈ lw_all := lw_g (lw_at lw_m8 159 rfl) rfl
theorem q1890 : (Jvm.Cond.constantLong "PolygonBoardModel" (112 : Nat) (16777215 : Int64)) ∈ lw_all := lw_g (lw_at lw_m8 160 rfl) rfl
theorem q1892 : (Jvm.Cond.instanceMethod ({ cls := "PolygonBoardModel", name := "turn", desc := "(II)I" } : Jvm.MethodName)) ∈ lw_all := lw_g (lw_at lw_m8 162 rfl) rfl
theorem q1893 : (Jvm.Cond.selects "PolygonBoardModel" ({ cls := "PolygonBoardModel", name := "turn", desc := "(II)I" } : Jvm.MethodName) ({ cls := "PolygonBoardModel", name := "turn", desc := "(II)I" } : Jvm.MethodName)) ∈ lw_all := lw_g (lw_at lw_m8 163 rfl) rfl
theorem q1894 : (Jvm.Cond.code ({ cls := "PolygonBoardModel", name := "turn", desc := "(II)I" } : Jvm.MethodName) prog_22_method_30_code (5 : Nat) (Option.some Jvm.ClassFile.FieldType.int)) ∈ lw_all := lw_g (lw_at lw_m8 164 rfl) rfl
theorem q1896 : (Jvm.Cond.instanceMethod ({ cls := "PolygonBoardModel", name := "mirror", desc := "(II)I" } : Jvm.MethodName)) ∈ lw_all := lw_g (lw_at lw_m8 166 rfl) rfl
theorem q1897 : (Jvm.Cond.selects "PolygonBoardModel" ({ cls := "PolygonBoardModel", name := "mirror", desc := "(II)I" } : Jvm.MethodName) ({ cls := "PolygonBoardModel", name := "mirror", desc := "(II)I" } : Jvm.MethodName)) ∈ lw_all := lw_g (lw_at lw_m8 167 rfl) rfl
theorem q1898 : (Jvm.Cond.code ({ cls := "PolygonBoardModel", name := "mirror", desc := "(II)I" } : Jvm.MethodName) prog_22_method_31_code (5 : Nat) (Option.some Jvm.ClassFile.FieldType.int)) ∈ lw_all := lw_g (lw_at lw_m8 168 rfl) rfl
theorem q1900 : (Jvm.Cond.instanceMethod ({ cls := "PolygonBoardModel", name := "fillHoles", desc := "(II)I" } : Jvm.MethodName)) ∈ lw_all := lw_g (lw_at lw_m8 170 rfl) rfl
theorem q1901 : (Jvm.Cond.selects "PolygonBoardModel" ({ cls := "PolygonBoardModel", name := "fillHoles", desc := "(II)I" } : Jvm.MethodName) ({ cls := "PolygonBoardModel", name := "fillHoles", desc := "(II)I" } : Jvm.MethodName)) ∈ lw_all := lw_g (lw_at lw_m8 171 rfl) rfl
theorem q1902 : (Jvm.Cond.code ({ cls := "PolygonBoardModel", name := "fillHoles", desc := "(II)I" } : Jvm.MethodName) prog_22_method_36_code (4 : Nat) (Option.some Jvm.ClassFile.FieldType.int)) ∈ lw_all := lw_g (lw_at lw_m8 172 rfl) rfl
theorem q1903 : (Jvm.Cond.methodLink "PolygonBoardModel" (115 : Nat) ({ cls := "PolygonBoardModel", name := "outside", desc := "(I)V" } : Jvm.MethodName)) ∈ lw_all := lw_g (lw_at lw_m8 173 rfl) rfl
theorem q1904 : (Jvm.Cond.privateMethod ({ cls := "PolygonBoardModel", name := "outside", desc := "(I)V" } : Jvm.MethodName)) ∈ lw_tbl := lw_at lw_m8 174 rfl
theorem q1905 : (Jvm.Cond.instanceMethod ({ cls := "PolygonBoardModel", name := "outside", desc := "(I)V" } : Jvm.MethodName)) ∈ lw_all := lw_g (lw_at lw_m8 175 rfl) rfl
theorem q1906 : (Jvm.Cond.code ({ cls := "PolygonBoardModel", name := "outside", desc := "(I)V" } : Jvm.MethodName) prog_22_method_34_code (3 : Nat) (Option.none : Option Jvm.ClassFile.FieldType)) ∈ lw_all := lw_g (lw_at lw_m8 176 rfl) rfl
theorem q1907 : (Jvm.Cond.constant "PolygonBoardModel" (114 : Nat) (67108863 : Int32)) ∈ lw_all := lw_g (lw_at lw_m8 177 rfl) rfl
theorem q1908 : (Jvm.Cond.methodLink "PolygonBoardModel" (119 : Nat) ({ cls := "PolygonBoardModel", name := "empties", desc := "()V" } : Jvm.MethodName)) ∈ lw_all := lw_g (lw_at lw_m8 178 rfl) rfl
theorem q1909 : (Jvm.Cond.privateMethod ({ cls := "PolygonBoardModel", name := "empties", desc := "()V" } : Jvm.MethodName)) ∈ lw_tbl := lw_at lw_m8 179 rfl
theorem q1910 : (Jvm.Cond.instanceMethod ({ cls := "PolygonBoardModel", name := "empties", desc := "()V" } : Jvm.MethodName)) ∈ lw_all := lw_g (lw_at lw_m8 180 rfl) rfl
theorem q1911 : (Jvm.Cond.code ({ cls := "PolygonBoardModel", name := "empties", desc := "()V" } : Jvm.MethodName) prog_22_method_33_code (2 : Nat) (Option.none : Option Jvm.ClassFile.FieldType)) ∈ lw_all := lw_g (lw_at lw_m8 181 rfl) rfl
theorem q1912 : (Jvm.Cond.methodLink "PolygonBoardModel" (122 : Nat) ({ cls := "PolygonBoardModel", name := "spreads", desc := "(Z)V" } : Jvm.MethodName)) ∈ lw_all := lw_g (lw_at lw_m8 182 rfl) rfl
theorem q1913 : (Jvm.Cond.privateMethod ({ cls := "PolygonBoardModel", name := "spreads", desc := "(Z)V" } : Jvm.MethodName)) ∈ lw_tbl := lw_at lw_m8 183 rfl
theorem q1914 : (Jvm.Cond.instanceMethod ({ cls := "PolygonBoardModel", name := "spreads", desc := "(Z)V" } : Jvm.MethodName)) ∈ lw_all := lw_g (lw_at lw_m8 184 rfl) rfl
theorem q1915 : (Jvm.Cond.code ({ cls := "PolygonBoardModel", name := "spreads", desc := "(Z)V" } : Jvm.MethodName) prog_22_method_32_code (9 : Nat) (Option.none : Option Jvm.ClassFile.FieldType)) ∈ lw_all := lw_g (lw_at lw_m8 185 rfl) rfl
theorem q1916 : (Jvm.Cond.constant "PolygonBoardModel" (126 : Nat) (16777215 : Int32)) ∈ lw_all := lw_g (lw_at lw_m8 186 rfl) rfl
theorem q1918 : (Jvm.Cond.instanceMethod ({ cls := "PolygonBoardModel", name := "keepPart", desc := "(IIII)I" } : Jvm.MethodName)) ∈ lw_all := lw_g (lw_at lw_m8 188 rfl) rfl
theorem q1919 : (Jvm.Cond.selects "PolygonBoardModel" ({ cls := "PolygonBoardModel", name := "keepPart", desc := "(IIII)I" } : Jvm.MethodName) ({ cls := "PolygonBoardModel", name := "keepPart", desc := "(IIII)I" } : Jvm.MethodName)) ∈ lw_all := lw_g (lw_at lw_m8 189 rfl) rfl
theorem q1920 : (Jvm.Cond.code ({ cls := "PolygonBoardModel", name := "keepPart", desc := "(IIII)I" } : Jvm.MethodName) prog_22_method_37_code (6 : Nat) (Option.some Jvm.ClassFile.FieldType.int)) ∈ lw_all := lw_g (lw_at lw_m8 190 rfl) rfl
theorem q1921 : (Jvm.Cond.methodLink "PolygonBoardModel" (127 : Nat) ({ cls := "PolygonBoardModel", name := "inside", desc := "(I)V" } : Jvm.MethodName)) ∈ lw_all := lw_g (lw_at lw_m8 191 rfl) rfl
theorem q1922 : (Jvm.Cond.privateMethod ({ cls := "PolygonBoardModel", name := "inside", desc := "(I)V" } : Jvm.MethodName)) ∈ lw_tbl := lw_at lw_m8 192 rfl
theorem q1923 : (Jvm.Cond.instanceMethod ({ cls := "PolygonBoardModel", name := "inside", desc := "(I)V" } : Jvm.MethodName)) ∈ lw_all := lw_g (lw_at lw_m8 193 rfl) rfl
theorem q1924 : (Jvm.Cond.code ({ cls := "PolygonBoardModel", name := "inside", desc := "(I)V" } : Jvm.MethodName) prog_22_method_35_code (3 : Nat) (Option.none : Option Jvm.ClassFile.FieldType)) ∈ lw_all := lw_g (lw_at lw_m8 194 rfl) rfl
theorem q1926 : (Jvm.Cond.instanceMethod ({ cls := "PolygonBoardModel", name := "pointCount", desc := "()I" } : Jvm.MethodName)) ∈ lw_all := lw_g (lw_at lw_m8 196 rfl) rfl
theorem q1927 : (Jvm.Cond.selects "PolygonBoardModel" ({ cls := "PolygonBoardModel", name := "pointCount", desc := "()I" } : Jvm.MethodName) ({ cls := "PolygonBoardModel", name := "pointCount", desc := "()I" } : Jvm.MethodName)) ∈ lw_all := lw_g (lw_at lw_m8 197 rfl) rfl
theorem q1928 : (Jvm.Cond.code ({ cls := "PolygonBoardModel", name := "pointCount", desc := "()I" } : Jvm.MethodName) prog_22_method_39_code (1 : Nat) (Option.some Jvm.ClassFile.FieldType.int)) ∈ lw_all := lw_g (lw_at lw_m8 198 rfl) rfl
theorem q1930 : (Jvm.Cond.instanceMethod ({ cls := "PolygonBoardModel", name := "contains", desc := "(III)Z" } : Jvm.MethodName)) ∈ lw_all := lw_g (lw_at lw_m8 200 rfl) rfl
theorem q1931 : (Jvm.Cond.selects "PolygonBoardModel" ({ cls := "PolygonBoardModel", name := "contains", desc := "(III)Z" } : Jvm.MethodName) ({ cls := "PolygonBoardModel", name := "contains", desc := "(III)Z" } : Jvm.MethodName)) ∈ lw_all := lw_g (lw_at lw_m8 201 rfl) rfl
theorem q1932 : (Jvm.Cond.code ({ cls := "PolygonBoardModel", name := "contains", desc := "(III)Z" } : Jvm.MethodName) prog_22_method_40_code (4 : Nat) (Option.some Jvm.ClassFile.FieldType.boolean)) ∈ lw_all := lw_g (lw_at lw_m8 202 rfl) rfl
theorem q1934 : (Jvm.Cond.instanceMethod ({ cls := "PolygonBoardModel", name := "area", desc := "(I)I" } : Jvm.MethodName)) ∈ lw_all := lw_g (lw_at lw_m8 204 rfl) rfl
theorem q1935 : (Jvm.Cond.selects "PolygonBoardModel" ({ cls := "PolygonBoardModel", name := "area", desc := "(I)I" } : Jvm.MethodName) ({ cls := "PolygonBoardModel", name := "area", desc := "(I)I" } : Jvm.MethodName)) ∈ lw_all := lw_g (lw_at lw_m8 205 rfl) rfl
theorem q1936 : (Jvm.Cond.code ({ cls := "PolygonBoardModel", name := "area", desc := "(I)I" } : Jvm.MethodName) prog_22_method_41_code (2 : Nat) (Option.some Jvm.ClassFile.FieldType.int)) ∈ lw_all := lw_g (lw_at lw_m8 206 rfl) rfl
theorem q1937 : (Jvm.Cond.methodLink "PolygonBoardModel" (130 : Nat) ({ cls := "PolygonBoardModel", name := "looks", desc := "(I)Z" } : Jvm.MethodName)) ∈ lw_all := lw_g (lw_at lw_m8 207 rfl) rfl
theorem q1938 : (Jvm.Cond.privateMethod ({ cls := "PolygonBoardModel", name := "looks", desc := "(I)Z" } : Jvm.MethodName)) ∈ lw_tbl := lw_at lw_m8 208 rfl
theorem q1939 : (Jvm.Cond.instanceMethod ({ cls := "PolygonBoardModel", name := "looks", desc := "(I)Z" } : Jvm.MethodName)) ∈ lw_all := lw_g (lw_at lw_m8 209 rfl) rfl
theorem q1940 : (Jvm.Cond.code ({ cls := "PolygonBoardModel", name := "looks", desc := "(I)Z" } : Jvm.MethodName) prog_22_method_38_code (2 : Nat) (Option.some Jvm.ClassFile.FieldType.boolean)) ∈ lw_all := lw_g (lw_at lw_m8 210 rfl) rfl
theorem q1942 : (Jvm.Cond.instanceMethod ({ cls := "PolygonBoardModel", name := "areaByCells", desc := "(I)I" } : Jvm.MethodName)) ∈ lw_all := lw_g (lw_at lw_m8 212 rfl) rfl
theorem q1943 : (Jvm.Cond.selects "PolygonBoardModel" ({ cls := "PolygonBoardModel", name := "areaByCells", desc := "(I)I" } : Jvm.MethodName) ({ cls := "PolygonBoardModel", name := "areaByCells", desc := "(I)I" } : Jvm.MethodName)) ∈ lw_all := lw_g (lw_at lw_m8 213 rfl) rfl
theorem q1944 : (Jvm.Cond.code ({ cls := "PolygonBoardModel", name := "areaByCells", desc := "(I)I" } : Jvm.MethodName) prog_22_method_42_code (2 : Nat) (Option.some Jvm.ClassFile.FieldType.int)) ∈ lw_all := lw_g (lw_at lw_m8 214 rfl) rfl
theorem q1945 : (Jvm.Cond.methodLink "PolygonBoardModel" (133 : Nat) ({ cls := "PolygonBoardModel", name := "area", desc := "(I)I" } : Jvm.MethodName)) ∈ lw_all := lw_g (lw_at lw_m8 215 rfl) rfl
theorem q1947 : (Jvm.Cond.instanceMethod ({ cls := "PolygonBoardModel", name := "perimeter", desc := "(I)I" } : Jvm.MethodName)) ∈ lw_all := lw_g (lw_at lw_m8 217 rfl) rfl
theorem q1948 : (Jvm.Cond.selects "PolygonBoardModel" ({ cls := "PolygonBoardModel", name := "perimeter", desc := "(I)I" } : Jvm.MethodName) ({ cls := "PolygonBoardModel", name := "perimeter", desc := "(I)I" } : Jvm.MethodName)) ∈ lw_all := lw_g (lw_at lw_m8 218 rfl) rfl
theorem q1949 : (Jvm.Cond.code ({ cls := "PolygonBoardModel", name := "perimeter", desc := "(I)I" } : Jvm.MethodName) prog_22_method_43_code (5 : Nat) (Option.some Jvm.ClassFile.FieldType.int)) ∈ lw_all := lw_g (lw_at lw_m8 219 rfl) rfl
theorem q1951 : (Jvm.Cond.instanceMethod ({ cls := "PolygonBoardModel", name := "perimeterByCells", desc := "(I)I" } : Jvm.MethodName)) ∈ lw_all := lw_g (lw_at lw_m8 221 rfl) rfl
theorem q1952 : (Jvm.Cond.selects "PolygonBoardModel" ({ cls := "PolygonBoardModel", name := "perimeterByCells", desc := "(I)I" } : Jvm.MethodName) ({ cls := "PolygonBoardModel", name := "perimeterByCells", desc := "(I)I" } : Jvm.MethodName)) ∈ lw_all := lw_g (lw_at lw_m8 222 rfl) rfl
theorem q1953 : (Jvm.Cond.code ({ cls := "PolygonBoardModel", name := "perimeterByCells", desc := "(I)I" } : Jvm.MethodName) prog_22_method_44_code (2 : Nat) (Option.some Jvm.ClassFile.FieldType.int)) ∈ lw_all := lw_g (lw_at lw_m8 223 rfl) rfl
theorem q1954 : (Jvm.Cond.methodLink "PolygonBoardModel" (136 : Nat) ({ cls := "PolygonBoardModel", name := "perimeter", desc := "(I)I" } : Jvm.MethodName)) ∈ lw_all := lw_g (lw_at lw_m8 224 rfl) rfl
theorem q1956 : (Jvm.Cond.instanceMethod ({ cls := "PolygonBoardModel", name := "bandCount", desc := "(I)I" } : Jvm.MethodName)) ∈ lw_all := lw_g (lw_at lw_m8 226 rfl) rfl
theorem q1957 : (Jvm.Cond.selects "PolygonBoardModel" ({ cls := "PolygonBoardModel", name := "bandCount", desc := "(I)I" } : Jvm.MethodName) ({ cls := "PolygonBoardModel", name := "bandCount", desc := "(I)I" } : Jvm.MethodName)) ∈ lw_all := lw_g (lw_at lw_m8 227 rfl) rfl
theorem q1958 : (Jvm.Cond.code ({ cls := "PolygonBoardModel", name := "bandCount", desc := "(I)I" } : Jvm.MethodName) prog_22_method_45_code (4 : Nat) (Option.some Jvm.ClassFile.FieldType.int)) ∈ lw_all := lw_g (lw_at lw_m8 228 rfl) rfl
theorem q1960 : (Jvm.Cond.instanceMethod ({ cls := "PolygonBoardModel", name := "rectangleCount", desc := "(I)I" } : Jvm.MethodName)) ∈ lw_all := lw_g (lw_at lw_m8 230 rfl) rfl
theorem q1961 : (Jvm.Cond.selects "PolygonBoardModel" ({ cls := "PolygonBoardModel", name := "rectangleCount", desc := "(I)I" } : Jvm.MethodName) ({ cls := "PolygonBoardModel", name := "rectangleCount", desc := "(I)I" } : Jvm.MethodName)) ∈ lw_all := lw_g (lw_at lw_m8 231 rfl) rfl
theorem q1962 : (Jvm.Cond.code ({ cls := "PolygonBoardModel", name := "rectangleCount", desc := "(I)I" } : Jvm.MethodName) prog_22_method_46_code (5 : Nat) (Option.some Jvm.ClassFile.FieldType.int)) ∈ lw_all := lw_g (lw_at lw_m8 232 rfl) rfl
theorem q1964 : (Jvm.Cond.instanceMethod ({ cls := "PolygonBoardModel", name := "partCount", desc := "(I)I" } : Jvm.MethodName)) ∈ lw_all := lw_g (lw_at lw_m8 234 rfl) rfl
theorem q1965 : (Jvm.Cond.selects "PolygonBoardModel" ({ cls := "PolygonBoardModel", name := "partCount", desc := "(I)I" } : Jvm.MethodName) ({ cls := "PolygonBoardModel", name := "partCount", desc := "(I)I" } : Jvm.MethodName)) ∈ lw_all := lw_g (lw_at lw_m8 235 rfl) rfl
theorem q1966 : (Jvm.Cond.code ({ cls := "PolygonBoardModel", name := "partCount", desc := "(I)I" } : Jvm.MethodName) prog_22_method_48_code (2 : Nat) (Option.some Jvm.ClassFile.FieldType.int)) ∈ lw_all := lw_g (lw_at lw_m8 236 rfl) rfl
theorem q1967 : (Jvm.Cond.methodLink "PolygonBoardModel" (139 : Nat) ({ cls := "PolygonBoardModel", name := "pieces", desc := "(Z)I" } : Jvm.MethodName)) ∈ lw_all := lw_g (lw_at lw_m8 237 rfl) rfl
theorem q1968 : (Jvm.Cond.privateMethod ({ cls := "PolygonBoardModel", name := "pieces", desc := "(Z)I" } : Jvm.MethodName)) ∈ lw_tbl := lw_at lw_m8 238 rfl
theorem q1969 : (Jvm.Cond.instanceMethod ({ cls := "PolygonBoardModel", name := "pieces", desc := "(Z)I" } : Jvm.MethodName)) ∈ lw_all := lw_g (lw_at lw_m8 239 rfl) rfl
theorem q1970 : (Jvm.Cond.code ({ cls := "PolygonBoardModel", name := "pieces", desc := "(Z)I" } : Jvm.MethodName) prog_22_method_47_code (5 : Nat) (Option.some Jvm.ClassFile.FieldType.int)) ∈ lw_all := lw_g (lw_at lw_m9 0 rfl) rfl
theorem q1972 : (Jvm.Cond.instanceMethod ({ cls := "PolygonBoardModel", name := "partCountByCells", desc := "(I)I" } : Jvm.MethodName)) ∈ lw_all := lw_g (lw_at lw_m9 2 rfl) rfl
theorem q1973 : (Jvm.Cond.selects "PolygonBoardModel" ({ cls := "PolygonBoardModel", name := "partCountByCells", desc := "(I)I" } : Jvm.MethodName) ({ cls := "PolygonBoardModel", name := "partCountByCells", desc := "(I)I" } : Jvm.MethodName)) ∈ lw_all := lw_g (lw_at lw_m9 3 rfl) rfl
theorem q1974 : (Jvm.Cond.code ({ cls := "PolygonBoardModel", name := "partCountByCells", desc := "(I)I" } : Jvm.MethodName) prog_22_method_49_code (2 : Nat) (Option.some Jvm.ClassFile.FieldType.int)) ∈ lw_all := lw_g (lw_at lw_m9 4 rfl) rfl
theorem q1975 : (Jvm.Cond.methodLink "PolygonBoardModel" (143 : Nat) ({ cls := "PolygonBoardModel", name := "partCount", desc := "(I)I" } : Jvm.MethodName)) ∈ lw_all := lw_g (lw_at lw_m9 5 rfl) rfl
theorem q1977 : (Jvm.Cond.instanceMethod ({ cls := "PolygonBoardModel", name := "holeCount", desc := "(I)I" } : Jvm.MethodName)) ∈ lw_all := lw_g (lw_at lw_m9 7 rfl) rfl
theorem q1978 : (Jvm.Cond.selects "PolygonBoardModel" ({ cls := "PolygonBoardModel", name := "holeCount", desc := "(I)I" } : Jvm.MethodName) ({ cls := "PolygonBoardModel", name := "holeCount", desc := "(I)I" } : Jvm.MethodName)) ∈ lw_all := lw_g (lw_at lw_m9 8 rfl) rfl
theorem q1979 : (Jvm.Cond.code ({ cls := "PolygonBoardModel", name := "holeCount", desc := "(I)I" } : Jvm.MethodName) prog_22_method_50_code (2 : Nat) (Option.some Jvm.ClassFile.FieldType.int)) ∈ lw_all := lw_g (lw_at lw_m9 9 rfl) rfl
theorem q1981 : (Jvm.Cond.instanceMethod ({ cls := "PolygonBoardModel", name := "holeCountByCells", desc := "(I)I" } : Jvm.MethodName)) ∈ lw_all := lw_g (lw_at lw_m9 11 rfl) rfl
theorem q1982 : (Jvm.Cond.selects "PolygonBoardModel" ({ cls := "PolygonBoardModel", name := "holeCountByCells", desc := "(I)I" } : Jvm.MethodName) ({ cls := "PolygonBoardModel", name := "holeCountByCells", desc := "(I)I" } : Jvm.MethodName)) ∈ lw_all := lw_g (lw_at lw_m9 12 rfl) rfl
theorem q1983 : (Jvm.Cond.code ({ cls := "PolygonBoardModel", name := "holeCountByCells", desc := "(I)I" } : Jvm.MethodName) prog_22_method_51_code (2 : Nat) (Option.some Jvm.ClassFile.FieldType.int)) ∈ lw_all := lw_g (lw_at lw_m9 13 rfl) rfl
theorem q1984 : (Jvm.Cond.methodLink "PolygonBoardModel" (146 : Nat) ({ cls := "PolygonBoardModel", name := "holeCount", desc := "(I)I" } : Jvm.MethodName)) ∈ lw_all := lw_g (lw_at lw_m9 14 rfl) rfl
theorem q1986 : (Jvm.Cond.instanceMethod ({ cls := "PolygonBoardModel", name := "isSame", desc := "(II)Z" } : Jvm.MethodName)) ∈ lw_all := lw_g (lw_at lw_m9 16 rfl) rfl
theorem q1987 : (Jvm.Cond.selects "PolygonBoardModel" ({ cls := "PolygonBoardModel", name := "isSame", desc := "(II)Z" } : Jvm.MethodName) ({ cls := "PolygonBoardModel", name := "isSame", desc := "(II)Z" } : Jvm.MethodName)) ∈ lw_all := lw_g (lw_at lw_m9 17 rfl) rfl
theorem q1988 : (Jvm.Cond.code ({ cls := "PolygonBoardModel", name := "isSame", desc := "(II)Z" } : Jvm.MethodName) prog_22_method_52_code (5 : Nat) (Option.some Jvm.ClassFile.FieldType.boolean)) ∈ lw_all := lw_g (lw_at lw_m9 18 rfl) rfl
theorem q1990 : (Jvm.Cond.instanceMethod ({ cls := "PolygonBoardModel", name := "covers", desc := "(II)Z" } : Jvm.MethodName)) ∈ lw_all := lw_g (lw_at lw_m9 20 rfl) rfl
theorem q1991 : (Jvm.Cond.selects "PolygonBoardModel" ({ cls := "PolygonBoardModel", name := "covers", desc := "(II)Z" } : Jvm.MethodName) ({ cls := "PolygonBoardModel", name := "covers", desc := "(II)Z" } : Jvm.MethodName)) ∈ lw_all := lw_g (lw_at lw_m9 21 rfl) rfl
theorem q1992 : (Jvm.Cond.code ({ cls := "PolygonBoardModel", name := "covers", desc := "(II)Z" } : Jvm.MethodName) prog_22_method_53_code (5 : Nat) (Option.some Jvm.ClassFile.FieldType.boolean)) ∈ lw_all := lw_g (lw_at lw_m9 22 rfl) rfl
theorem q1994 : (Jvm.Cond.instanceMethod ({ cls := "PolygonBoardModel", name := "left", desc := "(I)I" } : Jvm.MethodName)) ∈ lw_all := lw_g (lw_at lw_m9 24 rfl) rfl
theorem q1995 : (Jvm.Cond.selects "PolygonBoardModel" ({ cls := "PolygonBoardModel", name := "left", desc := "(I)I" } : Jvm.MethodName) ({ cls := "PolygonBoardModel", name := "left", desc := "(I)I" } : Jvm.MethodName)) ∈ lw_all := lw_g (lw_at lw_m9 25 rfl) rfl
theorem q1996 : (Jvm.Cond.code ({ cls := "PolygonBoardModel", name := "left", desc := "(I)I" } : Jvm.MethodName) prog_22_method_56_code (3 : Nat) (Option.some Jvm.ClassFile.FieldType.int)) ∈ lw_all := lw_g (lw_at lw_m9 26 rfl) rfl
theorem q1997 : (Jvm.Cond.methodLink "PolygonBoardModel" (149 : Nat) ({ cls := "PolygonBoardModel", name := "hasCells", desc := "(I)Z" } : Jvm.MethodName)) ∈ lw_all := lw_g (lw_at lw_m9 27 rfl) rfl
theorem q1998 : (Jvm.Cond.privateMethod ({ cls := "PolygonBoardModel", name := "hasCells", desc := "(I)Z" } : Jvm.MethodName)) ∈ lw_tbl := lw_at lw_m9 28 rfl
theorem q1999 : (Jvm.Cond.instanceMethod ({ cls := "PolygonBoardModel", name := "hasCells", desc := "(I)Z" } : Jvm.MethodName)) ∈ lw_all := lw_g (lw_at lw_m9 29 rfl) rfl
theorem q2000 : (Jvm.Cond.code ({ cls := "PolygonBoardModel", name := "hasCells", desc := "(I)Z" } : Jvm.MethodName) prog_22_method_54_code (2 : Nat) (Option.some Jvm.ClassFile.FieldType.boolean)) ∈ lw_all := lw_g (lw_at lw_m9 30 rfl) rfl
theorem q2001 : (Jvm.Cond.methodLink "PolygonBoardModel" (152 : Nat) ({ cls := "PolygonBoardModel", name := "shade", desc := "(I)I" } : Jvm.MethodName)) ∈ lw_all := lw_g (lw_at lw_m9 31 rfl) rfl
theorem q2002 : (Jvm.Cond.privateMethod ({ cls := "PolygonBoardModel", name := "shade", desc := "(I)I" } : Jvm.MethodName)) ∈ lw_tbl := lw_at lw_m9 32 rfl
theorem q2003 : (Jvm.Cond.instanceMethod ({ cls := "PolygonBoardModel", name := "shade", desc := "(I)I" } : Jvm.MethodName)) ∈ lw_all := lw_g (lw_at lw_m9 33 rfl) rfl
theorem q2004 : (Jvm.Cond.code ({ cls := "PolygonBoardModel", name := "shade", desc := "(I)I" } : Jvm.MethodName) prog_22_method_55_code (4 : Nat) (Option.some Jvm.ClassFile.FieldType.int)) ∈ lw_all := lw_g (lw_at lw_m9 34 rfl) rfl
theorem q2006 : (Jvm.Cond.instanceMethod ({ cls := "PolygonBoardModel", name := "right", desc := "(I)I" } : Jvm.MethodName)) ∈ lw_all := lw_g (lw_at lw_m9 36 rfl) rfl
theorem q2007 : (Jvm.Cond.selects "PolygonBoardModel" ({ cls := "PolygonBoardModel", name := "right", desc := "(I)I" } : Jvm.MethodName) ({ cls := "PolygonBoardModel", name := "right", desc := "(I)I" } : Jvm.MethodName)) ∈ lw_all := lw_g (lw_at lw_m9 37 rfl) rfl
theorem q2008 : (Jvm.Cond.code ({ cls := "PolygonBoardModel", name := "right", desc := "(I)I" } : Jvm.MethodName) prog_22_method_57_code (3 : Nat) (Option.some Jvm.ClassFile.FieldType.int)) ∈ lw_all := lw_g (lw_at lw_m9 38 rfl) rfl
theorem q2010 : (Jvm.Cond.instanceMethod ({ cls := "PolygonBoardModel", name := "bottom", desc := "(I)I" } : Jvm.MethodName)) ∈ lw_all := lw_g (lw_at lw_m9 40 rfl) rfl
theorem q2011 : (Jvm.Cond.selects "PolygonBoardModel" ({ cls := "PolygonBoardModel", name := "bottom", desc := "(I)I" } : Jvm.MethodName) ({ cls := "PolygonBoardModel", name := "bottom", desc := "(I)I" } : Jvm.MethodName)) ∈ lw_all := lw_g (lw_at lw_m9 41 rfl) rfl
theorem q2012 : (Jvm.Cond.code ({ cls := "PolygonBoardModel", name := "bottom", desc := "(I)I" } : Jvm.MethodName) prog_22_method_58_code (3 : Nat) (Option.some Jvm.ClassFile.FieldType.int)) ∈ lw_all := lw_g (lw_at lw_m9 42 rfl) rfl
theorem q2014 : (Jvm.Cond.instanceMethod ({ cls := "PolygonBoardModel", name := "top", desc := "(I)I" } : Jvm.MethodName)) ∈ lw_all := lw_g (lw_at lw_m9 44 rfl) rfl
theorem q2015 : (Jvm.Cond.selects "PolygonBoardModel" ({ cls := "PolygonBoardModel", name := "top", desc := "(I)I" } : Jvm.MethodName) ({ cls := "PolygonBoardModel", name := "top", desc := "(I)I" } : Jvm.MethodName)) ∈ lw_all := lw_g (lw_at lw_m9 45 rfl) rfl
theorem q2016 : (Jvm.Cond.code ({ cls := "PolygonBoardModel", name := "top", desc := "(I)I" } : Jvm.MethodName) prog_22_method_59_code (3 : Nat) (Option.some Jvm.ClassFile.FieldType.int)) ∈ lw_all := lw_g (lw_at lw_m9 46 rfl) rfl
theorem q2018 : (Jvm.Cond.instanceMethod ({ cls := "PolygonBoardModel", name := "largestRectangle", desc := "(I)I" } : Jvm.MethodName)) ∈ lw_all := lw_g (lw_at lw_m9 48 rfl) rfl
theorem q2019 : (Jvm.Cond.selects "PolygonBoardModel" ({ cls := "PolygonBoardModel", name := "largestRectangle", desc := "(I)I" } : Jvm.MethodName) ({ cls := "PolygonBoardModel", name := "largestRectangle", desc := "(I)I" } : Jvm.MethodName)) ∈ lw_all := lw_g (lw_at lw_m9 49 rfl) rfl
theorem q2020 : (Jvm.Cond.code ({ cls := "PolygonBoardModel", name := "largestRectangle", desc := "(I)I" } : Jvm.MethodName) prog_22_method_61_code (7 : Nat) (Option.some Jvm.ClassFile.FieldType.int)) ∈ lw_all := lw_g (lw_at lw_m9 50 rfl) rfl
theorem q2021 : (Jvm.Cond.methodLink "PolygonBoardModel" (155 : Nat) ({ cls := "PolygonBoardModel", name := "widest", desc := "(I)I" } : Jvm.MethodName)) ∈ lw_all := lw_g (lw_at lw_m9 51 rfl) rfl
theorem q2022 : (Jvm.Cond.static ({ cls := "PolygonBoardModel", name := "widest", desc := "(I)I" } : Jvm.MethodName)) ∈ lw_all := lw_g (lw_at lw_m9 52 rfl) rfl
theorem q2023 : (Jvm.Cond.code ({ cls := "PolygonBoardModel", name := "widest", desc := "(I)I" } : Jvm.MethodName) prog_22_method_60_code (3 : Nat) (Option.some Jvm.ClassFile.FieldType.int)) ∈ lw_all := lw_g (lw_at lw_m9 53 rfl) rfl
theorem q2025 : (Jvm.Cond.instanceMethod ({ cls := "PolygonBoardModel", name := "largestRectangleByCells", desc := "(I)I" } : Jvm.MethodName)) ∈ lw_all := lw_g (lw_at lw_m9 55 rfl) rfl
theorem q2026 : (Jvm.Cond.selects "PolygonBoardModel" ({ cls := "PolygonBoardModel", name := "largestRectangleByCells", desc := "(I)I" } : Jvm.MethodName) ({ cls := "PolygonBoardModel", name := "largestRectangleByCells", desc := "(I)I" } : Jvm.MethodName)) ∈ lw_all := lw_g (lw_at lw_m9 56 rfl) rfl
theorem q2027 : (Jvm.Cond.code ({ cls := "PolygonBoardModel", name := "largestRectangleByCells", desc := "(I)I" } : Jvm.MethodName) prog_22_method_62_code (2 : Nat) (Option.some Jvm.ClassFile.FieldType.int)) ∈ lw_all := lw_g (lw_at lw_m9 57 rfl) rfl
theorem q2028 : (Jvm.Cond.methodLink "PolygonBoardModel" (158 : Nat) ({ cls := "PolygonBoardModel", name := "largestRectangle", desc := "(I)I" } : Jvm.MethodName)) ∈ lw_all := lw_g (lw_at lw_m9 58 rfl) rfl
theorem q2030 : (Jvm.Cond.instanceMethod ({ cls := "PolygonBoardModel", name := "largestSquare", desc := "(I)I" } : Jvm.MethodName)) ∈ lw_all := lw_g (lw_at lw_m9 60 rfl) rfl
theorem q2031 : (Jvm.Cond.selects "PolygonBoardModel" ({ cls := "PolygonBoardModel", name := "largestSquare", desc := "(I)I" } : Jvm.MethodName) ({ cls := "PolygonBoardModel", name := "largestSquare", desc := "(I)I" } : Jvm.MethodName)) ∈ lw_all := lw_g (lw_at lw_m9 61 rfl) rfl
theorem q2032 : (Jvm.Cond.code ({ cls := "PolygonBoardModel", name := "largestSquare", desc := "(I)I" } : Jvm.MethodName) prog_22_method_63_code (8 : Nat) (Option.some Jvm.ClassFile.FieldType.int)) ∈ lw_all := lw_g (lw_at lw_m9 62 rfl) rfl
theorem q2034 : (Jvm.Cond.instanceMethod ({ cls := "PolygonBoardModel", name := "largestSquareByCells", desc := "(I)I" } : Jvm.MethodName)) ∈ lw_all := lw_g (lw_at lw_m9 64 rfl) rfl
theorem q2035 : (Jvm.Cond.selects "PolygonBoardModel" ({ cls := "PolygonBoardModel", name := "largestSquareByCells", desc := "(I)I" } : Jvm.MethodName) ({ cls := "PolygonBoardModel", name := "largestSquareByCells", desc := "(I)I" } : Jvm.MethodName)) ∈ lw_all := lw_g (lw_at lw_m9 65 rfl) rfl
theorem q2036 : (Jvm.Cond.code ({ cls := "PolygonBoardModel", name := "largestSquareByCells", desc := "(I)I" } : Jvm.MethodName) prog_22_method_64_code (2 : Nat) (Option.some Jvm.ClassFile.FieldType.int)) ∈ lw_all := lw_g (lw_at lw_m9 66 rfl) rfl
theorem q2037 : (Jvm.Cond.methodLink "PolygonBoardModel" (161 : Nat) ({ cls := "PolygonBoardModel", name := "largestSquare", desc := "(I)I" } : Jvm.MethodName)) ∈ lw_all := lw_g (lw_at lw_m9 67 rfl) rfl
theorem q2039 : (Jvm.Cond.instanceMethod ({ cls := "PolygonBoardModel", name := "steps", desc := "(IIIII)I" } : Jvm.MethodName)) ∈ lw_all := lw_g (lw_at lw_m9 69 rfl) rfl
theorem q2040 : (Jvm.Cond.selects "PolygonBoardModel" ({ cls := "PolygonBoardModel", name := "steps", desc := "(IIIII)I" } : Jvm.MethodName) ({ cls := "PolygonBoardModel", name := "steps", desc := "(IIIII)I" } : Jvm.MethodName)) ∈ lw_all := lw_g (lw_at lw_m9 70 rfl) rfl
theorem q2041 : (Jvm.Cond.code ({ cls := "PolygonBoardModel", name := "steps", desc := "(IIIII)I" } : Jvm.MethodName) prog_22_method_65_code (12 : Nat) (Option.some Jvm.ClassFile.FieldType.int)) ∈ lw_all := lw_g (lw_at lw_m9 71 rfl) rfl
theorem q2043 : (Jvm.Cond.instanceMethod ({ cls := "PolygonBoardModel", name := "stepsByRows", desc := "(IIIII)I" } : Jvm.MethodName)) ∈ lw_all := lw_g (lw_at lw_m9 73 rfl) rfl
theorem q2044 : (Jvm.Cond.selects "PolygonBoardModel" ({ cls := "PolygonBoardModel", name := "stepsByRows", desc := "(IIIII)I" } : Jvm.MethodName) ({ cls := "PolygonBoardModel", name := "stepsByRows", desc := "(IIIII)I" } : Jvm.MethodName)) ∈ lw_all := lw_g (lw_at lw_m9 74 rfl) rfl
theorem q2045 : (Jvm.Cond.code ({ cls := "PolygonBoardModel", name := "stepsByRows", desc := "(IIIII)I" } : Jvm.MethodName) prog_22_method_66_code (6 : Nat) (Option.some Jvm.ClassFile.FieldType.int)) ∈ lw_all := lw_g (lw_at lw_m9 75 rfl) rfl
theorem q2046 : (Jvm.Cond.methodLink "PolygonBoardModel" (164 : Nat) ({ cls := "PolygonBoardModel", name := "steps", desc := "(IIIII)I" } : Jvm.MethodName)) ∈ lw_all := lw_g (lw_at lw_m9 76 rfl) rfl
theorem q2048 : (Jvm.Cond.instanceMethod ({ cls := "PolygonBoardModel", name := "outlineCount", desc := "(I)I" } : Jvm.MethodName)) ∈ lw_all := lw_g (lw_at lw_m9 78 rfl) rfl
theorem q2049 : (Jvm.Cond.selects "PolygonBoardModel" ({ cls := "PolygonBoardModel", name := "outlineCount", desc := "(I)I" } : Jvm.MethodName) ({ cls := "PolygonBoardModel", name := "outlineCount", desc := "(I)I" } : Jvm.MethodName)) ∈ lw_all := lw_g (lw_at lw_m9 79 rfl) rfl
theorem q2050 : (Jvm.Cond.code ({ cls := "PolygonBoardModel", name := "outlineCount", desc := "(I)I" } : Jvm.MethodName) prog_22_method_71_code (2 : Nat) (Option.some Jvm.ClassFile.FieldType.int)) ∈ lw_all := lw_g (lw_at lw_m9 80 rfl) rfl
theorem q2051 : (Jvm.Cond.methodLink "PolygonBoardModel" (184 : Nat) ({ cls := "PolygonBoardModel", name := "outlinesOf", desc := "(I)V" } : Jvm.MethodName)) ∈ lw_all := lw_g (lw_at lw_m9 81 rfl) rfl
theorem q2052 : (Jvm.Cond.privateMethod ({ cls := "PolygonBoardModel", name := "outlinesOf", desc := "(I)V" } : Jvm.MethodName)) ∈ lw_tbl := lw_at lw_m9 82 rfl
theorem q2053 : (Jvm.Cond.instanceMethod ({ cls := "PolygonBoardModel", name := "outlinesOf", desc := "(I)V" } : Jvm.MethodName)) ∈ lw_all := lw_g (lw_at lw_m9 83 rfl) rfl
theorem q2054 : (Jvm.Cond.code ({ cls := "PolygonBoardModel", name := "outlinesOf", desc := "(I)V" } : Jvm.MethodName) prog_22_method_70_code (4 : Nat) (Option.none : Option Jvm.ClassFile.FieldType)) ∈ lw_all := lw_g (lw_at lw_m9 84 rfl) rfl
theorem q2055 : (Jvm.Cond.methodLink "PolygonBoardModel" (177 : Nat) ({ cls := "PolygonBoardModel", name := "leads", desc := "(IIII)Z" } : Jvm.MethodName)) ∈ lw_all := lw_g (lw_at lw_m9 85 rfl) rfl
theorem q2056 : (Jvm.Cond.privateMethod ({ cls := "PolygonBoardModel", name := "leads", desc := "(IIII)Z" } : Jvm.MethodName)) ∈ lw_tbl := lw_at lw_m9 86 rfl
theorem q2057 : (Jvm.Cond.instanceMethod ({ cls := "PolygonBoardModel", name := "leads", desc := "(IIII)Z" } : Jvm.MethodName)) ∈ lw_all := lw_g (lw_at lw_m9 87 rfl) rfl
theorem q2058 : (Jvm.Cond.code ({ cls := "PolygonBoardModel", name := "leads", desc := "(IIII)Z" } : Jvm.MethodName) prog_22_method_67_code (5 : Nat) (Option.some Jvm.ClassFile.FieldType.boolean)) ∈ lw_all := lw_g (lw_at lw_m9 88 rfl) rfl
theorem q2059 : (Jvm.Cond.methodLink "PolygonBoardModel" (174 : Nat) ({ cls := "PolygonBoardModel", name := "isWalked", desc := "(III)Z" } : Jvm.MethodName)) ∈ lw_all := lw_g (lw_at lw_m9 89 rfl) rfl
theorem q2060 : (Jvm.Cond.privateMethod ({ cls := "PolygonBoardModel", name := "isWalked", desc := "(III)Z" } : Jvm.MethodName)) ∈ lw_tbl := lw_at lw_m9 90 rfl
theorem q2061 : (Jvm.Cond.instanceMethod ({ cls := "PolygonBoardModel", name := "isWalked", desc := "(III)Z" } : Jvm.MethodName)) ∈ lw_all := lw_g (lw_at lw_m9 91 rfl) rfl
theorem q2062 : (Jvm.Cond.code ({ cls := "PolygonBoardModel", name := "isWalked", desc := "(III)Z" } : Jvm.MethodName) prog_22_method_68_code (4 : Nat) (Option.some Jvm.ClassFile.FieldType.boolean)) ∈ lw_all := lw_g (lw_at lw_m9 92 rfl) rfl
theorem q2063 : (Jvm.Cond.methodLink "PolygonBoardModel" (180 : Nat) ({ cls := "PolygonBoardModel", name := "walks", desc := "(IIII)V" } : Jvm.MethodName)) ∈ lw_all := lw_g (lw_at lw_m9 93 rfl) rfl
theorem q2064 : (Jvm.Cond.privateMethod ({ cls := "PolygonBoardModel", name := "walks", desc := "(IIII)V" } : Jvm.MethodName)) ∈ lw_tbl := lw_at lw_m9 94 rfl
theorem q2065 : (Jvm.Cond.instanceMethod ({ cls := "PolygonBoardModel", name := "walks", desc := "(IIII)V" } : Jvm.MethodName)) ∈ lw_all := lw_g (lw_at lw_m9 95 rfl) rfl
theorem q2066 : (Jvm.Cond.code ({ cls := "PolygonBoardModel", name := "walks", desc := "(IIII)V" } : Jvm.MethodName) prog_22_method_69_code (11 : Nat) (Option.none : Option Jvm.ClassFile.FieldType)) ∈ lw_all := lw_g (lw_at lw_m9 96 rfl) rfl
theorem q2068 : (Jvm.Cond.instanceMethod ({ cls := "PolygonBoardModel", name := "cornerCount", desc := "(II)I" } : Jvm.MethodName)) ∈ lw_all := lw_g (lw_at lw_m9 98 rfl) rfl
theorem q2069 : (Jvm.Cond.selects "PolygonBoardModel" ({ cls := "PolygonBoardModel", name := "cornerCount", desc := "(II)I" } : Jvm.MethodName) ({ cls := "PolygonBoardModel", name := "cornerCount", desc := "(II)I" } : Jvm.MethodName)) ∈ lw_all := lw_g (lw_at lw_m9 99 rfl) rfl
theorem q2070 : (Jvm.Cond.code ({ cls := "PolygonBoardModel", name := "cornerCount", desc := "(II)I" } : Jvm.MethodName) prog_22_method_73_code (3 : Nat) (Option.some Jvm.ClassFile.FieldType.int)) ∈ lw_all := lw_g (lw_at lw_m9 100 rfl) rfl
theorem q2071 : (Jvm.Cond.methodLink "PolygonBoardModel" (187 : Nat) ({ cls := "PolygonBoardModel", name := "looksAtOutline", desc := "(II)Z" } : Jvm.MethodName)) ∈ lw_all := lw_g (lw_at lw_m9 101 rfl) rfl
theorem q2072 : (Jvm.Cond.privateMethod ({ cls := "PolygonBoardModel", name := "looksAtOutline", desc := "(II)Z" } : Jvm.MethodName)) ∈ lw_tbl := lw_at lw_m9 102 rfl
theorem q2073 : (Jvm.Cond.instanceMethod ({ cls := "PolygonBoardModel", name := "looksAtOutline", desc := "(II)Z" } : Jvm.MethodName)) ∈ lw_all := lw_g (lw_at lw_m9 103 rfl) rfl
theorem q2074 : (Jvm.Cond.code ({ cls := "PolygonBoardModel", name := "looksAtOutline", desc := "(II)Z" } : Jvm.MethodName) prog_22_method_72_code (3 : Nat) (Option.some Jvm.ClassFile.FieldType.boolean)) ∈ lw_all := lw_g (lw_at lw_m9 104 rfl) rfl
theorem q2076 : (Jvm.Cond.instanceMethod ({ cls := "PolygonBoardModel", name := "cornerX", desc := "(III)I" } : Jvm.MethodName)) ∈ lw_all := lw_g (lw_at lw_m9 106 rfl) rfl
theorem q2077 : (Jvm.Cond.selects "PolygonBoardModel" ({ cls := "PolygonBoardModel", name := "cornerX", desc := "(III)I" } : Jvm.MethodName) ({ cls := "PolygonBoardModel", name := "cornerX", desc := "(III)I" } : Jvm.MethodName)) ∈ lw_all := lw_g (lw_at lw_m9 107 rfl) rfl
theorem q2078 : (Jvm.Cond.code ({ cls := "PolygonBoardModel", name := "cornerX", desc := "(III)I" } : Jvm.MethodName) prog_22_method_75_code (4 : Nat) (Option.some Jvm.ClassFile.FieldType.int)) ∈ lw_all := lw_g (lw_at lw_m9 108 rfl) rfl
theorem q2079 : (Jvm.Cond.methodLink "PolygonBoardModel" (190 : Nat) ({ cls := "PolygonBoardModel", name := "looksAtCorner", desc := "(III)Z" } : Jvm.MethodName)) ∈ lw_all := lw_g (lw_at lw_m9 109 rfl) rfl
theorem q2080 : (Jvm.Cond.privateMethod ({ cls := "PolygonBoardModel", name := "looksAtCorner", desc := "(III)Z" } : Jvm.MethodName)) ∈ lw_tbl := lw_at lw_m9 110 rfl
theorem q2081 : (Jvm.Cond.instanceMethod ({ cls := "PolygonBoardModel", name := "looksAtCorner", desc := "(III)Z" } : Jvm.MethodName)) ∈ lw_all := lw_g (lw_at lw_m9 111 rfl) rfl
theorem q2082 : (Jvm.Cond.code ({ cls := "PolygonBoardModel", name := "looksAtCorner", desc := "(III)Z" } : Jvm.MethodName) prog_22_method_74_code (4 : Nat) (Option.some Jvm.ClassFile.FieldType.boolean)) ∈ lw_all := lw_g (lw_at lw_m9 112 rfl) rfl
theorem q2084 : (Jvm.Cond.instanceMethod ({ cls := "PolygonBoardModel", name := "cornerY", desc := "(III)I" } : Jvm.MethodName)) ∈ lw_all := lw_g (lw_at lw_m9 114 rfl) rfl
theorem q2085 : (Jvm.Cond.selects "PolygonBoardModel" ({ cls := "PolygonBoardModel", name := "cornerY", desc := "(III)I" } : Jvm.MethodName) ({ cls := "PolygonBoardModel", name := "cornerY", desc := "(III)I" } : Jvm.MethodName)) ∈ lw_all := lw_g (lw_at lw_m9 115 rfl) rfl
theorem q2086 : (Jvm.Cond.code ({ cls := "PolygonBoardModel", name := "cornerY", desc := "(III)I" } : Jvm.MethodName) prog_22_method_76_code (4 : Nat) (Option.some Jvm.ClassFile.FieldType.int)) ∈ lw_all := lw_g (lw_at lw_m9 116 rfl) rfl
theorem q2088 : (Jvm.Cond.instanceMethod ({ cls := "PolygonBoardModel", name := "signedArea", desc := "(II)I" } : Jvm.MethodName)) ∈ lw_all := lw_g (lw_at lw_m9 118 rfl) rfl
theorem q2089 : (Jvm.Cond.selects "PolygonBoardModel" ({ cls := "PolygonBoardModel", name := "signedArea", desc := "(II)I" } : Jvm.MethodName) ({ cls := "PolygonBoardModel", name := "signedArea", desc := "(II)I" } : Jvm.MethodName)) ∈ lw_all := lw_g (lw_at lw_m9 119 rfl) rfl
theorem q2090 : (Jvm.Cond.code ({ cls := "PolygonBoardModel", name := "signedArea", desc := "(II)I" } : Jvm.MethodName) prog_22_method_77_code (3 : Nat) (Option.some Jvm.ClassFile.FieldType.int)) ∈ lw_all := lw_g (lw_at lw_m9 120 rfl) rfl
theorem q2092 : (Jvm.Cond.instanceMethod ({ cls := "PolygonBoardModel", name := "moment", desc := "(I)J" } : Jvm.MethodName)) ∈ lw_all := lw_g (lw_at lw_m9 122 rfl) rfl
theorem q2093 : (Jvm.Cond.selects "PolygonBoardModel" ({ cls := "PolygonBoardModel", name := "moment", desc := "(I)J" } : Jvm.MethodName) ({ cls := "PolygonBoardModel", name := "moment", desc := "(I)J" } : Jvm.MethodName)) ∈ lw_all := lw_g (lw_at lw_m9 123 rfl) rfl
theorem q2094 : (Jvm.Cond.code ({ cls := "PolygonBoardModel", name := "moment", desc := "(I)J" } : Jvm.MethodName) prog_22_method_78_code (6 : Nat) (Option.some Jvm.ClassFile.FieldType.long)) ∈ lw_all := lw_g (lw_at lw_m9 124 rfl) rfl
theorem q2096 : (Jvm.Cond.instanceMethod ({ cls := "PolygonBoardModel", name := "momentByCells", desc := "(I)J" } : Jvm.MethodName)) ∈ lw_all := lw_g (lw_at lw_m9 126 rfl) rfl
theorem q2097 : (Jvm.Cond.selects "PolygonBoardModel" ({ cls := "PolygonBoardModel", name := "momentByCells", desc := "(I)J" } : Jvm.MethodName) ({ cls := "PolygonBoardModel", name := "momentByCells", desc := "(I)J" } : Jvm.MethodName)) ∈ lw_all := lw_g (lw_at lw_m9 127 rfl) rfl
theorem q2098 : (Jvm.Cond.code ({ cls := "PolygonBoardModel", name := "momentByCells", desc := "(I)J" } : Jvm.MethodName) prog_22_method_79_code (2 : Nat) (Option.some Jvm.ClassFile.FieldType.long)) ∈ lw_all := lw_g (lw_at lw_m9 128 rfl) rfl
theorem q2099 : (Jvm.Cond.methodLink "PolygonBoardModel" (193 : Nat) ({ cls := "PolygonBoardModel", name := "moment", desc := "(I)J" } : Jvm.MethodName)) ∈ lw_all := lw_g (lw_at lw_m9 129 rfl) rfl
theorem q2101 : (Jvm.Cond.instanceMethod ({ cls := "PolygonBoardModel", name := "middleX", desc := "(I)D" } : Jvm.MethodName)) ∈ lw_all := lw_g (lw_at lw_m9 131 rfl) rfl
theorem q2102 : (Jvm.Cond.selects "PolygonBoardModel" ({ cls := "PolygonBoardModel", name := "middleX", desc := "(I)D" } : Jvm.MethodName) ({ cls := "PolygonBoardModel", name := "middleX", desc := "(I)D" } : Jvm.MethodName)) ∈ lw_all := lw_g (lw_at lw_m9 132 rfl) rfl
theorem q2103 : (Jvm.Cond.code ({ cls := "PolygonBoardModel", name := "middleX", desc := "(I)D" } : Jvm.MethodName) prog_22_method_80_code (5 : Nat) (Option.some Jvm.ClassFile.FieldType.double)) ∈ lw_all := lw_g (lw_at lw_m9 133 rfl) rfl
theorem q2104 : (Jvm.Cond.constantDouble "PolygonBoardModel" (197 : Nat) (4611686018427387904 : UInt64)) ∈ lw_all := lw_g (lw_at lw_m9 134 rfl) rfl
theorem q2106 : (Jvm.Cond.instanceMethod ({ cls := "PolygonBoardModel", name := "middleY", desc := "(I)D" } : Jvm.MethodName)) ∈ lw_all := lw_g (lw_at lw_m9 136 rfl) rfl
theorem q2107 : (Jvm.Cond.selects "PolygonBoardModel" ({ cls := "PolygonBoardModel", name := "middleY", desc := "(I)D" } : Jvm.MethodName) ({ cls := "PolygonBoardModel", name := "middleY", desc := "(I)D" } : Jvm.MethodName)) ∈ lw_all := lw_g (lw_at lw_m9 137 rfl) rfl
theorem q2108 : (Jvm.Cond.code ({ cls := "PolygonBoardModel", name := "middleY", desc := "(I)D" } : Jvm.MethodName) prog_22_method_81_code (4 : Nat) (Option.some Jvm.ClassFile.FieldType.double)) ∈ lw_all := lw_g (lw_at lw_m9 138 rfl) rfl
theorem q2110 : (Jvm.Cond.instanceMethod ({ cls := "PolygonBoardModel", name := "fullness", desc := "(I)F" } : Jvm.MethodName)) ∈ lw_all := lw_g (lw_at lw_m9 140 rfl) rfl
theorem q2111 : (Jvm.Cond.selects "PolygonBoardModel" ({ cls := "PolygonBoardModel", name := "fullness", desc := "(I)F" } : Jvm.MethodName) ({ cls := "PolygonBoardModel", name := "fullness", desc := "(I)F" } : Jvm.MethodName)) ∈ lw_all := lw_g (lw_at lw_m9 141 rfl) rfl
theorem q2112 : (Jvm.Cond.code ({ cls := "PolygonBoardModel", name := "fullness", desc := "(I)F" } : Jvm.MethodName) prog_22_method_82_code (3 : Nat) (Option.some Jvm.ClassFile.FieldType.float)) ∈ lw_all := lw_g (lw_at lw_m9 142 rfl) rfl
theorem q2113 : (Jvm.Cond.methodLink "PolygonBoardModel" (199 : Nat) ({ cls := "PolygonBoardModel", name := "right", desc := "(I)I" } : Jvm.MethodName)) ∈ lw_all := lw_g (lw_at lw_m9 143 rfl) rfl
theorem q2114 : (Jvm.Cond.methodLink "PolygonBoardModel" (202 : Nat) ({ cls := "PolygonBoardModel", name := "left", desc := "(I)I" } : Jvm.MethodName)) ∈ lw_all := lw_g (lw_at lw_m9 144 rfl) rfl
theorem q2115 : (Jvm.Cond.methodLink "PolygonBoardModel" (205 : Nat) ({ cls := "PolygonBoardModel", name := "top", desc := "(I)I" } : Jvm.MethodName)) ∈ lw_all := lw_g (lw_at lw_m9 145 rfl) rfl
theorem q2116 : (Jvm.Cond.methodLink "PolygonBoardModel" (208 : Nat) ({ cls := "PolygonBoardModel", name := "bottom", desc := "(I)I" } : Jvm.MethodName)) ∈ lw_all := lw_g (lw_at lw_m9 146 rfl) rfl
theorem q2131 : (Jvm.Cond.castable "PolygonBoardModel" "java/lang/Object") ∈ lw_tbl := lw_at lw_m9 161 rfl
theorem in_X3 : ∀ w ∈ wsX30, w ∈ lw_all := lw_in wsX30 [1753, 1755, 1757, 1759, 1761, 1763, 1765, 1767, 1769, 1771, 1773, 1775, 1777, 1779, 1781, 1783] (by decide +kernel) (by decide +kernel)
