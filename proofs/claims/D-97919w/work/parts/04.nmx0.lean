/-! WellNames -/
set_option maxRecDepth 100000
def RX0 : String := "WellNames"
def TX0 : u_T := fun k => match k with
  | 0 => ("WellNames", "finding", "LWellNames$Finding;", true)
  | 1 => ("WellNames", "desert", "LWellNames$Desert;", true)
  | 2 => ("WellNames", "image", "LWellNames$Desert;", true)
  | 3 => ("WellNames", "tried", "LWellNames$Desert;", true)
  | 4 => ("WellNames", "images", "I", false)
  | 5 => ("WellNames", "trace", "LWellNames$Trace;", true)
  | 6 => ("WellNames", "errors", "[I", true)
  | 7 => ("WellNames", "sheets", "[LWellNames$Shelf;", true)
  | 8 => ("WellNames", "least", "[I", true)
  | 9 => ("WellNames", "isByDrinks", "Z", false)
  | 10 => ("WellNames", "limit", "I", false)
  | _ => ("WellNames", "far", "[I", true)
def tyX0 : Nat → FieldType := fun k => match k with
  | 0 => .object "WellNames$Finding"
  | 1 => .object "WellNames$Desert"
  | 2 => .object "WellNames$Desert"
  | 3 => .object "WellNames$Desert"
  | 4 => .int
  | 5 => .object "WellNames$Trace"
  | 6 => .array .int
  | 7 => .array (.object "WellNames$Shelf")
  | 8 => .array .int
  | 9 => .boolean
  | 10 => .int
  | _ => .array .int
abbrev wsX00 : List Cond := u_ws RX0 TX0 12
theorem nmX0 : ∀ a, a < 12 → ∀ b, b < 12 → a ≠ b → (TX0 a).2.1 ≠ (TX0 b).2.1 := by decide +kernel
theorem tyX0_ok : ∀ k, k < 12 → parseFieldDescriptor (TX0 k).2.2.1 = some (tyX0 k) := by decide +kernel
abbrev cX0_init : ByteArray := prog_1_method_5_code
def yX0_init : MethodName := ⟨RX0, "<init>", "()V"⟩
def dkwX0_init_5 : List UInt8 := [167, 255, 235, 177]
abbrev dktX0_init_5 : List UInt8 := dkwX0_init_5 ++ []
def dkwX0_init_4 : List UInt8 := [60, 27, 7, 162, 0, 22, 42, 180, 0, 69, 27, 187, 0, 67, 89, 183, 0, 79, 83, 132, 1, 1]
abbrev dktX0_init_4 : List UInt8 := dkwX0_init_4 ++ dktX0_init_5
def dkwX0_init_3 : List UInt8 := [189, 0, 67, 181, 0, 69, 42, 17, 1, 64, 188, 10, 181, 0, 73, 42, 16, 8, 188, 10, 181, 0, 76, 3]
abbrev dktX0_init_3 : List UInt8 := dkwX0_init_3 ++ dktX0_init_4
def dkwX0_init_2 : List UInt8 := [181, 0, 53, 42, 187, 0, 56, 89, 183, 0, 58, 181, 0, 59, 42, 16, 6, 188, 10, 181, 0, 63, 42, 7]
abbrev dktX0_init_2 : List UInt8 := dkwX0_init_2 ++ dktX0_init_3
def dkwX0_init_1 : List UInt8 := [181, 0, 46, 42, 187, 0, 43, 89, 183, 0, 45, 181, 0, 50, 42, 187, 0, 43, 89, 183, 0, 45]
abbrev dktX0_init_1 : List UInt8 := dkwX0_init_1 ++ dktX0_init_2
def dkwX0_init_0 : List UInt8 := [42, 183, 0, 37, 42, 187, 0, 8, 89, 183, 0, 42, 181, 0, 1, 42, 187, 0, 43, 89, 183, 0, 45]
abbrev dktX0_init_0 : List UInt8 := dkwX0_init_0 ++ dktX0_init_1
theorem dksX0_init_0 : cX0_init.data.toList.drop 0 = dktX0_init_0 := by decide +kernel
theorem dksX0_init_1 : cX0_init.data.toList.drop 23 = dktX0_init_1 := dk_seg dksX0_init_0 23 rfl rfl
theorem dksX0_init_2 : cX0_init.data.toList.drop 45 = dktX0_init_2 := dk_seg dksX0_init_1 22 rfl rfl
theorem dksX0_init_3 : cX0_init.data.toList.drop 69 = dktX0_init_3 := dk_seg dksX0_init_2 24 rfl rfl
theorem dksX0_init_4 : cX0_init.data.toList.drop 93 = dktX0_init_4 := dk_seg dksX0_init_3 24 rfl rfl
theorem dksX0_init_5 : cX0_init.data.toList.drop 115 = dktX0_init_5 := dk_seg dksX0_init_4 22 rfl rfl
theorem dX0_init_0 : decode cX0_init 0 = .ok (.aload_n 0, 1) := dk_42 (dk_at dksX0_init_0 0 rfl rfl)
theorem dX0_init_1 : decode cX0_init 1 = .ok (.invokespecial 37, 3) := dk_183 0 37 (dk_at dksX0_init_0 1 rfl rfl)
theorem dX0_init_4 : decode cX0_init 4 = .ok (.aload_n 0, 1) := dk_42 (dk_at dksX0_init_0 4 rfl rfl)
theorem dX0_init_5 : decode cX0_init 5 = .ok (.new 8, 3) := dk_187 0 8 (dk_at dksX0_init_0 5 rfl rfl)
theorem dX0_init_8 : decode cX0_init 8 = .ok (.dup, 1) := dk_89 (dk_at dksX0_init_0 8 rfl rfl)
theorem dX0_init_9 : decode cX0_init 9 = .ok (.invokespecial 42, 3) := dk_183 0 42 (dk_at dksX0_init_0 9 rfl rfl)
theorem dX0_init_12 : decode cX0_init 12 = .ok (.putfield 1, 3) := dk_181 0 1 (dk_at dksX0_init_0 12 rfl rfl)
theorem dX0_init_15 : decode cX0_init 15 = .ok (.aload_n 0, 1) := dk_42 (dk_at dksX0_init_0 15 rfl rfl)
theorem dX0_init_16 : decode cX0_init 16 = .ok (.new 43, 3) := dk_187 0 43 (dk_at dksX0_init_0 16 rfl rfl)
theorem dX0_init_19 : decode cX0_init 19 = .ok (.dup, 1) := dk_89 (dk_at dksX0_init_0 19 rfl rfl)
theorem dX0_init_20 : decode cX0_init 20 = .ok (.invokespecial 45, 3) := dk_183 0 45 (dk_at dksX0_init_0 20 rfl rfl)
theorem dX0_init_23 : decode cX0_init 23 = .ok (.putfield 46, 3) := dk_181 0 46 (dk_at dksX0_init_1 0 rfl rfl)
theorem dX0_init_26 : decode cX0_init 26 = .ok (.aload_n 0, 1) := dk_42 (dk_at dksX0_init_1 3 rfl rfl)
theorem dX0_init_27 : decode cX0_init 27 = .ok (.new 43, 3) := dk_187 0 43 (dk_at dksX0_init_1 4 rfl rfl)
theorem dX0_init_30 : decode cX0_init 30 = .ok (.dup, 1) := dk_89 (dk_at dksX0_init_1 7 rfl rfl)
theorem dX0_init_31 : decode cX0_init 31 = .ok (.invokespecial 45, 3) := dk_183 0 45 (dk_at dksX0_init_1 8 rfl rfl)
theorem dX0_init_34 : decode cX0_init 34 = .ok (.putfield 50, 3) := dk_181 0 50 (dk_at dksX0_init_1 11 rfl rfl)
theorem dX0_init_37 : decode cX0_init 37 = .ok (.aload_n 0, 1) := dk_42 (dk_at dksX0_init_1 14 rfl rfl)
theorem dX0_init_38 : decode cX0_init 38 = .ok (.new 43, 3) := dk_187 0 43 (dk_at dksX0_init_1 15 rfl rfl)
theorem dX0_init_41 : decode cX0_init 41 = .ok (.dup, 1) := dk_89 (dk_at dksX0_init_1 18 rfl rfl)
theorem dX0_init_42 : decode cX0_init 42 = .ok (.invokespecial 45, 3) := dk_183 0 45 (dk_at dksX0_init_1 19 rfl rfl)
theorem dX0_init_45 : decode cX0_init 45 = .ok (.putfield 53, 3) := dk_181 0 53 (dk_at dksX0_init_2 0 rfl rfl)
theorem dX0_init_48 : decode cX0_init 48 = .ok (.aload_n 0, 1) := dk_42 (dk_at dksX0_init_2 3 rfl rfl)
theorem dX0_init_49 : decode cX0_init 49 = .ok (.new 56, 3) := dk_187 0 56 (dk_at dksX0_init_2 4 rfl rfl)
theorem dX0_init_52 : decode cX0_init 52 = .ok (.dup, 1) := dk_89 (dk_at dksX0_init_2 7 rfl rfl)
theorem dX0_init_53 : decode cX0_init 53 = .ok (.invokespecial 58, 3) := dk_183 0 58 (dk_at dksX0_init_2 8 rfl rfl)
theorem dX0_init_56 : decode cX0_init 56 = .ok (.putfield 59, 3) := dk_181 0 59 (dk_at dksX0_init_2 11 rfl rfl)
theorem dX0_init_59 : decode cX0_init 59 = .ok (.aload_n 0, 1) := dk_42 (dk_at dksX0_init_2 14 rfl rfl)
theorem dX0_init_60 : decode cX0_init 60 = .ok (.bipush 6, 2) := dk_16 6 (dk_at dksX0_init_2 15 rfl rfl)
theorem dX0_init_62 : decode cX0_init 62 = .ok (.newarray .int, 2) := dk_188_10 (dk_at dksX0_init_2 17 rfl rfl)
theorem dX0_init_64 : decode cX0_init 64 = .ok (.putfield 63, 3) := dk_181 0 63 (dk_at dksX0_init_2 19 rfl rfl)
theorem dX0_init_67 : decode cX0_init 67 = .ok (.aload_n 0, 1) := dk_42 (dk_at dksX0_init_2 22 rfl rfl)
theorem dX0_init_68 : decode cX0_init 68 = .ok (.iconst 4, 1) := dk_7 (dk_at dksX0_init_2 23 rfl rfl)
theorem dX0_init_69 : decode cX0_init 69 = .ok (.anewarray 67, 3) := dk_189 0 67 (dk_at dksX0_init_3 0 rfl rfl)
theorem dX0_init_72 : decode cX0_init 72 = .ok (.putfield 69, 3) := dk_181 0 69 (dk_at dksX0_init_3 3 rfl rfl)
theorem dX0_init_75 : decode cX0_init 75 = .ok (.aload_n 0, 1) := dk_42 (dk_at dksX0_init_3 6 rfl rfl)
theorem dX0_init_76 : decode cX0_init 76 = .ok (.sipush 320, 3) := dk_17 1 64 (dk_at dksX0_init_3 7 rfl rfl)
theorem dX0_init_79 : decode cX0_init 79 = .ok (.newarray .int, 2) := dk_188_10 (dk_at dksX0_init_3 10 rfl rfl)
theorem dX0_init_81 : decode cX0_init 81 = .ok (.putfield 73, 3) := dk_181 0 73 (dk_at dksX0_init_3 12 rfl rfl)
theorem dX0_init_84 : decode cX0_init 84 = .ok (.aload_n 0, 1) := dk_42 (dk_at dksX0_init_3 15 rfl rfl)
theorem dX0_init_85 : decode cX0_init 85 = .ok (.bipush 8, 2) := dk_16 8 (dk_at dksX0_init_3 16 rfl rfl)
theorem dX0_init_87 : decode cX0_init 87 = .ok (.newarray .int, 2) := dk_188_10 (dk_at dksX0_init_3 18 rfl rfl)
theorem dX0_init_89 : decode cX0_init 89 = .ok (.putfield 76, 3) := dk_181 0 76 (dk_at dksX0_init_3 20 rfl rfl)
theorem dX0_init_92 : decode cX0_init 92 = .ok (.iconst 0, 1) := dk_3 (dk_at dksX0_init_3 23 rfl rfl)
theorem dX0_init_93 : decode cX0_init 93 = .ok (.istore_n 1, 1) := dk_60 (dk_at dksX0_init_4 0 rfl rfl)
theorem dX0_init_94 : decode cX0_init 94 = .ok (.iload_n 1, 1) := dk_27 (dk_at dksX0_init_4 1 rfl rfl)
theorem dX0_init_95 : decode cX0_init 95 = .ok (.iconst 4, 1) := dk_7 (dk_at dksX0_init_4 2 rfl rfl)
theorem dX0_init_96 : decode cX0_init 96 = .ok (.if_icmp .ge 22, 3) := dk_162 0 22 (dk_at dksX0_init_4 3 rfl rfl)
theorem dX0_init_99 : decode cX0_init 99 = .ok (.aload_n 0, 1) := dk_42 (dk_at dksX0_init_4 6 rfl rfl)
theorem dX0_init_100 : decode cX0_init 100 = .ok (.getfield 69, 3) := dk_180 0 69 (dk_at dksX0_init_4 7 rfl rfl)
theorem dX0_init_103 : decode cX0_init 103 = .ok (.iload_n 1, 1) := dk_27 (dk_at dksX0_init_4 10 rfl rfl)
theorem dX0_init_104 : decode cX0_init 104 = .ok (.new 67, 3) := dk_187 0 67 (dk_at dksX0_init_4 11 rfl rfl)
theorem dX0_init_107 : decode cX0_init 107 = .ok (.dup, 1) := dk_89 (dk_at dksX0_init_4 14 rfl rfl)
theorem dX0_init_108 : decode cX0_init 108 = .ok (.invokespecial 79, 3) := dk_183 0 79 (dk_at dksX0_init_4 15 rfl rfl)
theorem dX0_init_111 : decode cX0_init 111 = .ok (.aastore, 1) := dk_83 (dk_at dksX0_init_4 18 rfl rfl)
theorem dX0_init_112 : decode cX0_init 112 = .ok (.iinc 1 1, 3) := dk_132 1 1 (dk_at dksX0_init_4 19 rfl rfl)
theorem dX0_init_115 : decode cX0_init 115 = .ok (.goto (-21), 3) := dk_167 255 235 (dk_at dksX0_init_5 0 rfl rfl)
theorem dX0_init_118 : decode cX0_init 118 = .ok (.return_, 1) := dk_177 (dk_at dksX0_init_5 3 rfl rfl)
abbrev cX0_water : ByteArray := prog_1_method_15_code
def yX0_water : MethodName := ⟨RX0, "water", "(II)I"⟩
def dkwX0_water_2 : List UInt8 := [172, 78, 42, 45, 182, 0, 109, 172]
abbrev dktX0_water_2 : List UInt8 := dkwX0_water_2 ++ []
def dkwX0_water_1 : List UInt8 := [182, 0, 100, 42, 180, 0, 46, 180, 0, 106, 27, 46, 62, 42, 180, 0, 46, 180, 0, 106, 27, 28, 79, 29]
abbrev dktX0_water_1 : List UInt8 := dkwX0_water_1 ++ dktX0_water_2
def dkwX0_water_0 : List UInt8 := [42, 27, 184, 0, 89, 153, 0, 17, 28, 3, 16, 99, 184, 0, 85, 153, 0, 7, 4, 167, 0, 4, 3, 4]
abbrev dktX0_water_0 : List UInt8 := dkwX0_water_0 ++ dktX0_water_1
theorem dksX0_water_0 : cX0_water.data.toList.drop 0 = dktX0_water_0 := by decide +kernel
theorem dksX0_water_1 : cX0_water.data.toList.drop 24 = dktX0_water_1 := dk_seg dksX0_water_0 24 rfl rfl
theorem dksX0_water_2 : cX0_water.data.toList.drop 48 = dktX0_water_2 := dk_seg dksX0_water_1 24 rfl rfl
theorem dX0_water_0 : decode cX0_water 0 = .ok (.aload_n 0, 1) := dk_42 (dk_at dksX0_water_0 0 rfl rfl)
theorem dX0_water_1 : decode cX0_water 1 = .ok (.iload_n 1, 1) := dk_27 (dk_at dksX0_water_0 1 rfl rfl)
theorem dX0_water_2 : decode cX0_water 2 = .ok (.invokestatic 89, 3) := dk_184 0 89 (dk_at dksX0_water_0 2 rfl rfl)
theorem dX0_water_5 : decode cX0_water 5 = .ok (.ifCond .eq 17, 3) := dk_153 0 17 (dk_at dksX0_water_0 5 rfl rfl)
theorem dX0_water_8 : decode cX0_water 8 = .ok (.iload_n 2, 1) := dk_28 (dk_at dksX0_water_0 8 rfl rfl)
theorem dX0_water_9 : decode cX0_water 9 = .ok (.iconst 0, 1) := dk_3 (dk_at dksX0_water_0 9 rfl rfl)
theorem dX0_water_10 : decode cX0_water 10 = .ok (.bipush 99, 2) := dk_16 99 (dk_at dksX0_water_0 10 rfl rfl)
theorem dX0_water_12 : decode cX0_water 12 = .ok (.invokestatic 85, 3) := dk_184 0 85 (dk_at dksX0_water_0 12 rfl rfl)
theorem dX0_water_15 : decode cX0_water 15 = .ok (.ifCond .eq 7, 3) := dk_153 0 7 (dk_at dksX0_water_0 15 rfl rfl)
theorem dX0_water_18 : decode cX0_water 18 = .ok (.iconst 1, 1) := dk_4 (dk_at dksX0_water_0 18 rfl rfl)
theorem dX0_water_19 : decode cX0_water 19 = .ok (.goto 4, 3) := dk_167 0 4 (dk_at dksX0_water_0 19 rfl rfl)
theorem dX0_water_22 : decode cX0_water 22 = .ok (.iconst 0, 1) := dk_3 (dk_at dksX0_water_0 22 rfl rfl)
theorem dX0_water_23 : decode cX0_water 23 = .ok (.iconst 1, 1) := dk_4 (dk_at dksX0_water_0 23 rfl rfl)
theorem dX0_water_24 : decode cX0_water 24 = .ok (.invokevirtual 100, 3) := dk_182 0 100 (dk_at dksX0_water_1 0 rfl rfl)
theorem dX0_water_27 : decode cX0_water 27 = .ok (.aload_n 0, 1) := dk_42 (dk_at dksX0_water_1 3 rfl rfl)
theorem dX0_water_28 : decode cX0_water 28 = .ok (.getfield 46, 3) := dk_180 0 46 (dk_at dksX0_water_1 4 rfl rfl)
theorem dX0_water_31 : decode cX0_water 31 = .ok (.getfield 106, 3) := dk_180 0 106 (dk_at dksX0_water_1 7 rfl rfl)
theorem dX0_water_34 : decode cX0_water 34 = .ok (.iload_n 1, 1) := dk_27 (dk_at dksX0_water_1 10 rfl rfl)
theorem dX0_water_35 : decode cX0_water 35 = .ok (.iaload, 1) := dk_46 (dk_at dksX0_water_1 11 rfl rfl)
theorem dX0_water_36 : decode cX0_water 36 = .ok (.istore_n 3, 1) := dk_62 (dk_at dksX0_water_1 12 rfl rfl)
theorem dX0_water_37 : decode cX0_water 37 = .ok (.aload_n 0, 1) := dk_42 (dk_at dksX0_water_1 13 rfl rfl)
theorem dX0_water_38 : decode cX0_water 38 = .ok (.getfield 46, 3) := dk_180 0 46 (dk_at dksX0_water_1 14 rfl rfl)
theorem dX0_water_41 : decode cX0_water 41 = .ok (.getfield 106, 3) := dk_180 0 106 (dk_at dksX0_water_1 17 rfl rfl)
theorem dX0_water_44 : decode cX0_water 44 = .ok (.iload_n 1, 1) := dk_27 (dk_at dksX0_water_1 20 rfl rfl)
theorem dX0_water_45 : decode cX0_water 45 = .ok (.iload_n 2, 1) := dk_28 (dk_at dksX0_water_1 21 rfl rfl)
theorem dX0_water_46 : decode cX0_water 46 = .ok (.iastore, 1) := dk_79 (dk_at dksX0_water_1 22 rfl rfl)
theorem dX0_water_47 : decode cX0_water 47 = .ok (.iload_n 3, 1) := dk_29 (dk_at dksX0_water_1 23 rfl rfl)
theorem dX0_water_48 : decode cX0_water 48 = .ok (.ireturn, 1) := dk_172 (dk_at dksX0_water_2 0 rfl rfl)
theorem dX0_water_49 : decode cX0_water 49 = .ok (.astore_n 3, 1) := dk_78 (dk_at dksX0_water_2 1 rfl rfl)
theorem dX0_water_50 : decode cX0_water 50 = .ok (.aload_n 0, 1) := dk_42 (dk_at dksX0_water_2 2 rfl rfl)
theorem dX0_water_51 : decode cX0_water 51 = .ok (.aload_n 3, 1) := dk_45 (dk_at dksX0_water_2 3 rfl rfl)
theorem dX0_water_52 : decode cX0_water 52 = .ok (.invokevirtual 109, 3) := dk_182 0 109 (dk_at dksX0_water_2 4 rfl rfl)
theorem dX0_water_55 : decode cX0_water 55 = .ok (.ireturn, 1) := dk_172 (dk_at dksX0_water_2 7 rfl rfl)
abbrev cX0_isWell : ByteArray := prog_1_method_7_code
def yX0_isWell : MethodName := ⟨RX0, "isWell", "(I)Z"⟩
def dkwX0_isWell_0 : List UInt8 := [26, 3, 16, 7, 184, 0, 85, 172]
abbrev dktX0_isWell_0 : List UInt8 := dkwX0_isWell_0 ++ []
theorem dksX0_isWell_0 : cX0_isWell.data.toList.drop 0 = dktX0_isWell_0 := by decide +kernel
theorem dX0_isWell_0 : decode cX0_isWell 0 = .ok (.iload_n 0, 1) := dk_26 (dk_at dksX0_isWell_0 0 rfl rfl)
theorem dX0_isWell_1 : decode cX0_isWell 1 = .ok (.iconst 0, 1) := dk_3 (dk_at dksX0_isWell_0 1 rfl rfl)
theorem dX0_isWell_2 : decode cX0_isWell 2 = .ok (.bipush 7, 2) := dk_16 7 (dk_at dksX0_isWell_0 2 rfl rfl)
theorem dX0_isWell_4 : decode cX0_isWell 4 = .ok (.invokestatic 85, 3) := dk_184 0 85 (dk_at dksX0_isWell_0 4 rfl rfl)
theorem dX0_isWell_7 : decode cX0_isWell 7 = .ok (.ireturn, 1) := dk_172 (dk_at dksX0_isWell_0 7 rfl rfl)
abbrev cX0_in : ByteArray := prog_1_method_1_code
def yX0_in : MethodName := ⟨RX0, "in", "(III)Z"⟩
def dkwX0_in_0 : List UInt8 := [26, 27, 161, 0, 12, 26, 28, 163, 0, 7, 4, 167, 0, 4, 3, 172]
abbrev dktX0_in_0 : List UInt8 := dkwX0_in_0 ++ []
theorem dksX0_in_0 : cX0_in.data.toList.drop 0 = dktX0_in_0 := by decide +kernel
theorem dX0_in_0 : decode cX0_in 0 = .ok (.iload_n 0, 1) := dk_26 (dk_at dksX0_in_0 0 rfl rfl)
theorem dX0_in_1 : decode cX0_in 1 = .ok (.iload_n 1, 1) := dk_27 (dk_at dksX0_in_0 1 rfl rfl)
theorem dX0_in_2 : decode cX0_in 2 = .ok (.if_icmp .lt 12, 3) := dk_161 0 12 (dk_at dksX0_in_0 2 rfl rfl)
theorem dX0_in_5 : decode cX0_in 5 = .ok (.iload_n 0, 1) := dk_26 (dk_at dksX0_in_0 5 rfl rfl)
theorem dX0_in_6 : decode cX0_in 6 = .ok (.iload_n 2, 1) := dk_28 (dk_at dksX0_in_0 6 rfl rfl)
theorem dX0_in_7 : decode cX0_in 7 = .ok (.if_icmp .gt 7, 3) := dk_163 0 7 (dk_at dksX0_in_0 7 rfl rfl)
theorem dX0_in_10 : decode cX0_in 10 = .ok (.iconst 1, 1) := dk_4 (dk_at dksX0_in_0 10 rfl rfl)
theorem dX0_in_11 : decode cX0_in 11 = .ok (.goto 4, 3) := dk_167 0 4 (dk_at dksX0_in_0 11 rfl rfl)
theorem dX0_in_14 : decode cX0_in 14 = .ok (.iconst 0, 1) := dk_3 (dk_at dksX0_in_0 14 rfl rfl)
theorem dX0_in_15 : decode cX0_in 15 = .ok (.ireturn, 1) := dk_172 (dk_at dksX0_in_0 15 rfl rfl)
abbrev cX0_need : ByteArray := prog_1_method_3_code
def yX0_need : MethodName := ⟨RX0, "need", "(ZI)V"⟩
def dkwX0_need_0 : List UInt8 := [27, 154, 0, 12, 42, 180, 0, 1, 28, 182, 0, 7, 191, 177]
abbrev dktX0_need_0 : List UInt8 := dkwX0_need_0 ++ []
theorem dksX0_need_0 : cX0_need.data.toList.drop 0 = dktX0_need_0 := by decide +kernel
theorem dX0_need_0 : decode cX0_need 0 = .ok (.iload_n 1, 1) := dk_27 (dk_at dksX0_need_0 0 rfl rfl)
theorem dX0_need_1 : decode cX0_need 1 = .ok (.ifCond .ne 12, 3) := dk_154 0 12 (dk_at dksX0_need_0 1 rfl rfl)
theorem dX0_need_4 : decode cX0_need 4 = .ok (.aload_n 0, 1) := dk_42 (dk_at dksX0_need_0 4 rfl rfl)
theorem dX0_need_5 : decode cX0_need 5 = .ok (.getfield 1, 3) := dk_180 0 1 (dk_at dksX0_need_0 5 rfl rfl)
theorem dX0_need_8 : decode cX0_need 8 = .ok (.iload_n 2, 1) := dk_28 (dk_at dksX0_need_0 8 rfl rfl)
theorem dX0_need_9 : decode cX0_need 9 = .ok (.invokevirtual 7, 3) := dk_182 0 7 (dk_at dksX0_need_0 9 rfl rfl)
theorem dX0_need_12 : decode cX0_need 12 = .ok (.athrow, 1) := dk_191 (dk_at dksX0_need_0 12 rfl rfl)
theorem dX0_need_13 : decode cX0_need 13 = .ok (.return_, 1) := dk_177 (dk_at dksX0_need_0 13 rfl rfl)
abbrev cX0_finds : ByteArray := prog_1_method_6_code
def yX0_finds : MethodName := ⟨RX0, "finds", "(LWellNames$Finding;)I"⟩
def dkwX0_finds_0 : List UInt8 := [42, 180, 0, 63, 43, 180, 0, 80, 92, 46, 4, 96, 79, 18, 84, 43, 180, 0, 80, 100, 172]
abbrev dktX0_finds_0 : List UInt8 := dkwX0_finds_0 ++ []
theorem dksX0_finds_0 : cX0_finds.data.toList.drop 0 = dktX0_finds_0 := by decide +kernel
theorem dX0_finds_0 : decode cX0_finds 0 = .ok (.aload_n 0, 1) := dk_42 (dk_at dksX0_finds_0 0 rfl rfl)
theorem dX0_finds_1 : decode cX0_finds 1 = .ok (.getfield 63, 3) := dk_180 0 63 (dk_at dksX0_finds_0 1 rfl rfl)
theorem dX0_finds_4 : decode cX0_finds 4 = .ok (.aload_n 1, 1) := dk_43 (dk_at dksX0_finds_0 4 rfl rfl)
theorem dX0_finds_5 : decode cX0_finds 5 = .ok (.getfield 80, 3) := dk_180 0 80 (dk_at dksX0_finds_0 5 rfl rfl)
theorem dX0_finds_8 : decode cX0_finds 8 = .ok (.dup2, 1) := dk_92 (dk_at dksX0_finds_0 8 rfl rfl)
theorem dX0_finds_9 : decode cX0_finds 9 = .ok (.iaload, 1) := dk_46 (dk_at dksX0_finds_0 9 rfl rfl)
theorem dX0_finds_10 : decode cX0_finds 10 = .ok (.iconst 1, 1) := dk_4 (dk_at dksX0_finds_0 10 rfl rfl)
theorem dX0_finds_11 : decode cX0_finds 11 = .ok (.iadd, 1) := dk_96 (dk_at dksX0_finds_0 11 rfl rfl)
theorem dX0_finds_12 : decode cX0_finds 12 = .ok (.iastore, 1) := dk_79 (dk_at dksX0_finds_0 12 rfl rfl)
theorem dX0_finds_13 : decode cX0_finds 13 = .ok (.ldc 84, 2) := dk_18 84 (dk_at dksX0_finds_0 13 rfl rfl)
theorem dX0_finds_15 : decode cX0_finds 15 = .ok (.aload_n 1, 1) := dk_43 (dk_at dksX0_finds_0 15 rfl rfl)
theorem dX0_finds_16 : decode cX0_finds 16 = .ok (.getfield 80, 3) := dk_180 0 80 (dk_at dksX0_finds_0 16 rfl rfl)
theorem dX0_finds_19 : decode cX0_finds 19 = .ok (.isub, 1) := dk_100 (dk_at dksX0_finds_0 19 rfl rfl)
theorem dX0_finds_20 : decode cX0_finds 20 = .ok (.ireturn, 1) := dk_172 (dk_at dksX0_finds_0 20 rfl rfl)
abbrev cX0_road : ByteArray := prog_1_method_16_code
def yX0_road : MethodName := ⟨RX0, "road", "(III)I"⟩
def dkwX0_road_3 : List UInt8 := [58, 4, 42, 25, 4, 182, 0, 109, 172]
abbrev dktX0_road_3 : List UInt8 := dkwX0_road_3 ++ []
def dkwX0_road_2 : List UInt8 := [27, 104, 28, 96, 29, 79, 42, 180, 0, 46, 180, 0, 121, 16, 8, 28, 104, 27, 96, 29, 79, 21, 4, 172]
abbrev dktX0_road_2 : List UInt8 := dkwX0_road_2 ++ dktX0_road_3
def dkwX0_road_1 : List UInt8 := [4, 182, 0, 100, 42, 180, 0, 46, 27, 28, 182, 0, 117, 54, 4, 42, 180, 0, 46, 180, 0, 121, 16, 8]
abbrev dktX0_road_1 : List UInt8 := dkwX0_road_1 ++ dktX0_road_2
def dkwX0_road_0 : List UInt8 := [42, 27, 28, 184, 0, 113, 153, 0, 17, 29, 3, 16, 20, 184, 0, 85, 153, 0, 7, 4, 167, 0, 4, 3]
abbrev dktX0_road_0 : List UInt8 := dkwX0_road_0 ++ dktX0_road_1
theorem dksX0_road_0 : cX0_road.data.toList.drop 0 = dktX0_road_0 := by decide +kernel
theorem dksX0_road_1 : cX0_road.data.toList.drop 24 = dktX0_road_1 := dk_seg dksX0_road_0 24 rfl rfl
theorem dksX0_road_2 : cX0_road.data.toList.drop 48 = dktX0_road_2 := dk_seg dksX0_road_1 24 rfl rfl
theorem dksX0_road_3 : cX0_road.data.toList.drop 72 = dktX0_road_3 := dk_seg dksX0_road_2 24 rfl rfl
theorem dX0_road_0 : decode cX0_road 0 = .ok (.aload_n 0, 1) := dk_42 (dk_at dksX0_road_0 0 rfl rfl)
theorem dX0_road_1 : decode cX0_road 1 = .ok (.iload_n 1, 1) := dk_27 (dk_at dksX0_road_0 1 rfl rfl)
theorem dX0_road_2 : decode cX0_road 2 = .ok (.iload_n 2, 1) := dk_28 (dk_at dksX0_road_0 2 rfl rfl)
theorem dX0_road_3 : decode cX0_road 3 = .ok (.invokestatic 113, 3) := dk_184 0 113 (dk_at dksX0_road_0 3 rfl rfl)
theorem dX0_road_6 : decode cX0_road 6 = .ok (.ifCond .eq 17, 3) := dk_153 0 17 (dk_at dksX0_road_0 6 rfl rfl)
theorem dX0_road_9 : decode cX0_road 9 = .ok (.iload_n 3, 1) := dk_29 (dk_at dksX0_road_0 9 rfl rfl)
theorem dX0_road_10 : decode cX0_road 10 = .ok (.iconst 0, 1) := dk_3 (dk_at dksX0_road_0 10 rfl rfl)
theorem dX0_road_11 : decode cX0_road 11 = .ok (.bipush 20, 2) := dk_16 20 (dk_at dksX0_road_0 11 rfl rfl)
theorem dX0_road_13 : decode cX0_road 13 = .ok (.invokestatic 85, 3) := dk_184 0 85 (dk_at dksX0_road_0 13 rfl rfl)
theorem dX0_road_16 : decode cX0_road 16 = .ok (.ifCond .eq 7, 3) := dk_153 0 7 (dk_at dksX0_road_0 16 rfl rfl)
theorem dX0_road_19 : decode cX0_road 19 = .ok (.iconst 1, 1) := dk_4 (dk_at dksX0_road_0 19 rfl rfl)
theorem dX0_road_20 : decode cX0_road 20 = .ok (.goto 4, 3) := dk_167 0 4 (dk_at dksX0_road_0 20 rfl rfl)
theorem dX0_road_23 : decode cX0_road 23 = .ok (.iconst 0, 1) := dk_3 (dk_at dksX0_road_0 23 rfl rfl)
theorem dX0_road_24 : decode cX0_road 24 = .ok (.iconst 1, 1) := dk_4 (dk_at dksX0_road_1 0 rfl rfl)
theorem dX0_road_25 : decode cX0_road 25 = .ok (.invokevirtual 100, 3) := dk_182 0 100 (dk_at dksX0_road_1 1 rfl rfl)
theorem dX0_road_28 : decode cX0_road 28 = .ok (.aload_n 0, 1) := dk_42 (dk_at dksX0_road_1 4 rfl rfl)
theorem dX0_road_29 : decode cX0_road 29 = .ok (.getfield 46, 3) := dk_180 0 46 (dk_at dksX0_road_1 5 rfl rfl)
theorem dX0_road_32 : decode cX0_road 32 = .ok (.iload_n 1, 1) := dk_27 (dk_at dksX0_road_1 8 rfl rfl)
theorem dX0_road_33 : decode cX0_road 33 = .ok (.iload_n 2, 1) := dk_28 (dk_at dksX0_road_1 9 rfl rfl)
theorem dX0_road_34 : decode cX0_road 34 = .ok (.invokevirtual 117, 3) := dk_182 0 117 (dk_at dksX0_road_1 10 rfl rfl)
theorem dX0_road_37 : decode cX0_road 37 = .ok (.istore 4, 2) := dk_54 4 (dk_at dksX0_road_1 13 rfl rfl)
theorem dX0_road_39 : decode cX0_road 39 = .ok (.aload_n 0, 1) := dk_42 (dk_at dksX0_road_1 15 rfl rfl)
theorem dX0_road_40 : decode cX0_road 40 = .ok (.getfield 46, 3) := dk_180 0 46 (dk_at dksX0_road_1 16 rfl rfl)
theorem dX0_road_43 : decode cX0_road 43 = .ok (.getfield 121, 3) := dk_180 0 121 (dk_at dksX0_road_1 19 rfl rfl)
theorem dX0_road_46 : decode cX0_road 46 = .ok (.bipush 8, 2) := dk_16 8 (dk_at dksX0_road_1 22 rfl rfl)
theorem dX0_road_48 : decode cX0_road 48 = .ok (.iload_n 1, 1) := dk_27 (dk_at dksX0_road_2 0 rfl rfl)
theorem dX0_road_49 : decode cX0_road 49 = .ok (.imul, 1) := dk_104 (dk_at dksX0_road_2 1 rfl rfl)
theorem dX0_road_50 : decode cX0_road 50 = .ok (.iload_n 2, 1) := dk_28 (dk_at dksX0_road_2 2 rfl rfl)
theorem dX0_road_51 : decode cX0_road 51 = .ok (.iadd, 1) := dk_96 (dk_at dksX0_road_2 3 rfl rfl)
theorem dX0_road_52 : decode cX0_road 52 = .ok (.iload_n 3, 1) := dk_29 (dk_at dksX0_road_2 4 rfl rfl)
theorem dX0_road_53 : decode cX0_road 53 = .ok (.iastore, 1) := dk_79 (dk_at dksX0_road_2 5 rfl rfl)
theorem dX0_road_54 : decode cX0_road 54 = .ok (.aload_n 0, 1) := dk_42 (dk_at dksX0_road_2 6 rfl rfl)
theorem dX0_road_55 : decode cX0_road 55 = .ok (.getfield 46, 3) := dk_180 0 46 (dk_at dksX0_road_2 7 rfl rfl)
theorem dX0_road_58 : decode cX0_road 58 = .ok (.getfield 121, 3) := dk_180 0 121 (dk_at dksX0_road_2 10 rfl rfl)
theorem dX0_road_61 : decode cX0_road 61 = .ok (.bipush 8, 2) := dk_16 8 (dk_at dksX0_road_2 13 rfl rfl)
theorem dX0_road_63 : decode cX0_road 63 = .ok (.iload_n 2, 1) := dk_28 (dk_at dksX0_road_2 15 rfl rfl)
theorem dX0_road_64 : decode cX0_road 64 = .ok (.imul, 1) := dk_104 (dk_at dksX0_road_2 16 rfl rfl)
theorem dX0_road_65 : decode cX0_road 65 = .ok (.iload_n 1, 1) := dk_27 (dk_at dksX0_road_2 17 rfl rfl)
theorem dX0_road_66 : decode cX0_road 66 = .ok (.iadd, 1) := dk_96 (dk_at dksX0_road_2 18 rfl rfl)
theorem dX0_road_67 : decode cX0_road 67 = .ok (.iload_n 3, 1) := dk_29 (dk_at dksX0_road_2 19 rfl rfl)
theorem dX0_road_68 : decode cX0_road 68 = .ok (.iastore, 1) := dk_79 (dk_at dksX0_road_2 20 rfl rfl)
theorem dX0_road_69 : decode cX0_road 69 = .ok (.iload 4, 2) := dk_21 4 (dk_at dksX0_road_2 21 rfl rfl)
theorem dX0_road_71 : decode cX0_road 71 = .ok (.ireturn, 1) := dk_172 (dk_at dksX0_road_2 23 rfl rfl)
theorem dX0_road_72 : decode cX0_road 72 = .ok (.astore 4, 2) := dk_58 4 (dk_at dksX0_road_3 0 rfl rfl)
theorem dX0_road_74 : decode cX0_road 74 = .ok (.aload_n 0, 1) := dk_42 (dk_at dksX0_road_3 2 rfl rfl)
theorem dX0_road_75 : decode cX0_road 75 = .ok (.aload 4, 2) := dk_25 4 (dk_at dksX0_road_3 3 rfl rfl)
theorem dX0_road_77 : decode cX0_road 77 = .ok (.invokevirtual 109, 3) := dk_182 0 109 (dk_at dksX0_road_3 5 rfl rfl)
theorem dX0_road_80 : decode cX0_road 80 = .ok (.ireturn, 1) := dk_172 (dk_at dksX0_road_3 8 rfl rfl)
abbrev cX0_areTwo : ByteArray := prog_1_method_8_code
def yX0_areTwo : MethodName := ⟨RX0, "areTwo", "(II)Z"⟩
def dkwX0_areTwo_1 : List UInt8 := [172]
abbrev dktX0_areTwo_1 : List UInt8 := dkwX0_areTwo_1 ++ []
def dkwX0_areTwo_0 : List UInt8 := [26, 184, 0, 89, 153, 0, 19, 27, 184, 0, 89, 153, 0, 12, 26, 27, 159, 0, 7, 4, 167, 0, 4, 3]
abbrev dktX0_areTwo_0 : List UInt8 := dkwX0_areTwo_0 ++ dktX0_areTwo_1
theorem dksX0_areTwo_0 : cX0_areTwo.data.toList.drop 0 = dktX0_areTwo_0 := by decide +kernel
theorem dksX0_areTwo_1 : cX0_areTwo.data.toList.drop 24 = dktX0_areTwo_1 := dk_seg dksX0_areTwo_0 24 rfl rfl
theorem dX0_areTwo_0 : decode cX0_areTwo 0 = .ok (.iload_n 0, 1) := dk_26 (dk_at dksX0_areTwo_0 0 rfl rfl)
theorem dX0_areTwo_1 : decode cX0_areTwo 1 = .ok (.invokestatic 89, 3) := dk_184 0 89 (dk_at dksX0_areTwo_0 1 rfl rfl)
theorem dX0_areTwo_4 : decode cX0_areTwo 4 = .ok (.ifCond .eq 19, 3) := dk_153 0 19 (dk_at dksX0_areTwo_0 4 rfl rfl)
theorem dX0_areTwo_7 : decode cX0_areTwo 7 = .ok (.iload_n 1, 1) := dk_27 (dk_at dksX0_areTwo_0 7 rfl rfl)
theorem dX0_areTwo_8 : decode cX0_areTwo 8 = .ok (.invokestatic 89, 3) := dk_184 0 89 (dk_at dksX0_areTwo_0 8 rfl rfl)
theorem dX0_areTwo_11 : decode cX0_areTwo 11 = .ok (.ifCond .eq 12, 3) := dk_153 0 12 (dk_at dksX0_areTwo_0 11 rfl rfl)
theorem dX0_areTwo_14 : decode cX0_areTwo 14 = .ok (.iload_n 0, 1) := dk_26 (dk_at dksX0_areTwo_0 14 rfl rfl)
theorem dX0_areTwo_15 : decode cX0_areTwo 15 = .ok (.iload_n 1, 1) := dk_27 (dk_at dksX0_areTwo_0 15 rfl rfl)
theorem dX0_areTwo_16 : decode cX0_areTwo 16 = .ok (.if_icmp .eq 7, 3) := dk_159 0 7 (dk_at dksX0_areTwo_0 16 rfl rfl)
theorem dX0_areTwo_19 : decode cX0_areTwo 19 = .ok (.iconst 1, 1) := dk_4 (dk_at dksX0_areTwo_0 19 rfl rfl)
theorem dX0_areTwo_20 : decode cX0_areTwo 20 = .ok (.goto 4, 3) := dk_167 0 4 (dk_at dksX0_areTwo_0 20 rfl rfl)
theorem dX0_areTwo_23 : decode cX0_areTwo 23 = .ok (.iconst 0, 1) := dk_3 (dk_at dksX0_areTwo_0 23 rfl rfl)
theorem dX0_areTwo_24 : decode cX0_areTwo 24 = .ok (.ireturn, 1) := dk_172 (dk_at dksX0_areTwo_1 0 rfl rfl)
abbrev cX0_owe : ByteArray := prog_1_method_17_code
def yX0_owe : MethodName := ⟨RX0, "owe", "(III)I"⟩
def dkwX0_owe_3 : List UInt8 := [182, 0, 109, 172]
abbrev dktX0_owe_3 : List UInt8 := dkwX0_owe_3 ++ []
def dkwX0_owe_2 : List UInt8 := [180, 0, 46, 180, 0, 124, 16, 8, 27, 104, 28, 96, 29, 79, 21, 4, 172, 58, 4, 42, 25, 4]
abbrev dktX0_owe_2 : List UInt8 := dkwX0_owe_2 ++ dktX0_owe_3
def dkwX0_owe_1 : List UInt8 := [3, 4, 182, 0, 100, 42, 180, 0, 46, 180, 0, 124, 16, 8, 27, 104, 28, 96, 46, 54, 4, 42]
abbrev dktX0_owe_1 : List UInt8 := dkwX0_owe_1 ++ dktX0_owe_2
def dkwX0_owe_0 : List UInt8 := [42, 27, 28, 184, 0, 113, 153, 0, 18, 29, 3, 17, 39, 15, 184, 0, 85, 153, 0, 7, 4, 167, 0, 4]
abbrev dktX0_owe_0 : List UInt8 := dkwX0_owe_0 ++ dktX0_owe_1
theorem dksX0_owe_0 : cX0_owe.data.toList.drop 0 = dktX0_owe_0 := by decide +kernel
theorem dksX0_owe_1 : cX0_owe.data.toList.drop 24 = dktX0_owe_1 := dk_seg dksX0_owe_0 24 rfl rfl
theorem dksX0_owe_2 : cX0_owe.data.toList.drop 46 = dktX0_owe_2 := dk_seg dksX0_owe_1 22 rfl rfl
theorem dksX0_owe_3 : cX0_owe.data.toList.drop 68 = dktX0_owe_3 := dk_seg dksX0_owe_2 22 rfl rfl
theorem dX0_owe_0 : decode cX0_owe 0 = .ok (.aload_n 0, 1) := dk_42 (dk_at dksX0_owe_0 0 rfl rfl)
theorem dX0_owe_1 : decode cX0_owe 1 = .ok (.iload_n 1, 1) := dk_27 (dk_at dksX0_owe_0 1 rfl rfl)
theorem dX0_owe_2 : decode cX0_owe 2 = .ok (.iload_n 2, 1) := dk_28 (dk_at dksX0_owe_0 2 rfl rfl)
theorem dX0_owe_3 : decode cX0_owe 3 = .ok (.invokestatic 113, 3) := dk_184 0 113 (dk_at dksX0_owe_0 3 rfl rfl)
theorem dX0_owe_6 : decode cX0_owe 6 = .ok (.ifCond .eq 18, 3) := dk_153 0 18 (dk_at dksX0_owe_0 6 rfl rfl)
theorem dX0_owe_9 : decode cX0_owe 9 = .ok (.iload_n 3, 1) := dk_29 (dk_at dksX0_owe_0 9 rfl rfl)
theorem dX0_owe_10 : decode cX0_owe 10 = .ok (.iconst 0, 1) := dk_3 (dk_at dksX0_owe_0 10 rfl rfl)
theorem dX0_owe_11 : decode cX0_owe 11 = .ok (.sipush 9999, 3) := dk_17 39 15 (dk_at dksX0_owe_0 11 rfl rfl)
theorem dX0_owe_14 : decode cX0_owe 14 = .ok (.invokestatic 85, 3) := dk_184 0 85 (dk_at dksX0_owe_0 14 rfl rfl)
theorem dX0_owe_17 : decode cX0_owe 17 = .ok (.ifCond .eq 7, 3) := dk_153 0 7 (dk_at dksX0_owe_0 17 rfl rfl)
theorem dX0_owe_20 : decode cX0_owe 20 = .ok (.iconst 1, 1) := dk_4 (dk_at dksX0_owe_0 20 rfl rfl)
theorem dX0_owe_21 : decode cX0_owe 21 = .ok (.goto 4, 3) := dk_167 0 4 (dk_at dksX0_owe_0 21 rfl rfl)
theorem dX0_owe_24 : decode cX0_owe 24 = .ok (.iconst 0, 1) := dk_3 (dk_at dksX0_owe_1 0 rfl rfl)
theorem dX0_owe_25 : decode cX0_owe 25 = .ok (.iconst 1, 1) := dk_4 (dk_at dksX0_owe_1 1 rfl rfl)
theorem dX0_owe_26 : decode cX0_owe 26 = .ok (.invokevirtual 100, 3) := dk_182 0 100 (dk_at dksX0_owe_1 2 rfl rfl)
theorem dX0_owe_29 : decode cX0_owe 29 = .ok (.aload_n 0, 1) := dk_42 (dk_at dksX0_owe_1 5 rfl rfl)
theorem dX0_owe_30 : decode cX0_owe 30 = .ok (.getfield 46, 3) := dk_180 0 46 (dk_at dksX0_owe_1 6 rfl rfl)
theorem dX0_owe_33 : decode cX0_owe 33 = .ok (.getfield 124, 3) := dk_180 0 124 (dk_at dksX0_owe_1 9 rfl rfl)
theorem dX0_owe_36 : decode cX0_owe 36 = .ok (.bipush 8, 2) := dk_16 8 (dk_at dksX0_owe_1 12 rfl rfl)
theorem dX0_owe_38 : decode cX0_owe 38 = .ok (.iload_n 1, 1) := dk_27 (dk_at dksX0_owe_1 14 rfl rfl)
theorem dX0_owe_39 : decode cX0_owe 39 = .ok (.imul, 1) := dk_104 (dk_at dksX0_owe_1 15 rfl rfl)
theorem dX0_owe_40 : decode cX0_owe 40 = .ok (.iload_n 2, 1) := dk_28 (dk_at dksX0_owe_1 16 rfl rfl)
theorem dX0_owe_41 : decode cX0_owe 41 = .ok (.iadd, 1) := dk_96 (dk_at dksX0_owe_1 17 rfl rfl)
theorem dX0_owe_42 : decode cX0_owe 42 = .ok (.iaload, 1) := dk_46 (dk_at dksX0_owe_1 18 rfl rfl)
theorem dX0_owe_43 : decode cX0_owe 43 = .ok (.istore 4, 2) := dk_54 4 (dk_at dksX0_owe_1 19 rfl rfl)
theorem dX0_owe_45 : decode cX0_owe 45 = .ok (.aload_n 0, 1) := dk_42 (dk_at dksX0_owe_1 21 rfl rfl)
theorem dX0_owe_46 : decode cX0_owe 46 = .ok (.getfield 46, 3) := dk_180 0 46 (dk_at dksX0_owe_2 0 rfl rfl)
theorem dX0_owe_49 : decode cX0_owe 49 = .ok (.getfield 124, 3) := dk_180 0 124 (dk_at dksX0_owe_2 3 rfl rfl)
theorem dX0_owe_52 : decode cX0_owe 52 = .ok (.bipush 8, 2) := dk_16 8 (dk_at dksX0_owe_2 6 rfl rfl)
theorem dX0_owe_54 : decode cX0_owe 54 = .ok (.iload_n 1, 1) := dk_27 (dk_at dksX0_owe_2 8 rfl rfl)
theorem dX0_owe_55 : decode cX0_owe 55 = .ok (.imul, 1) := dk_104 (dk_at dksX0_owe_2 9 rfl rfl)
theorem dX0_owe_56 : decode cX0_owe 56 = .ok (.iload_n 2, 1) := dk_28 (dk_at dksX0_owe_2 10 rfl rfl)
theorem dX0_owe_57 : decode cX0_owe 57 = .ok (.iadd, 1) := dk_96 (dk_at dksX0_owe_2 11 rfl rfl)
theorem dX0_owe_58 : decode cX0_owe 58 = .ok (.iload_n 3, 1) := dk_29 (dk_at dksX0_owe_2 12 rfl rfl)
theorem dX0_owe_59 : decode cX0_owe 59 = .ok (.iastore, 1) := dk_79 (dk_at dksX0_owe_2 13 rfl rfl)
theorem dX0_owe_60 : decode cX0_owe 60 = .ok (.iload 4, 2) := dk_21 4 (dk_at dksX0_owe_2 14 rfl rfl)
theorem dX0_owe_62 : decode cX0_owe 62 = .ok (.ireturn, 1) := dk_172 (dk_at dksX0_owe_2 16 rfl rfl)
theorem dX0_owe_63 : decode cX0_owe 63 = .ok (.astore 4, 2) := dk_58 4 (dk_at dksX0_owe_2 17 rfl rfl)
theorem dX0_owe_65 : decode cX0_owe 65 = .ok (.aload_n 0, 1) := dk_42 (dk_at dksX0_owe_2 19 rfl rfl)
theorem dX0_owe_66 : decode cX0_owe 66 = .ok (.aload 4, 2) := dk_25 4 (dk_at dksX0_owe_2 20 rfl rfl)
theorem dX0_owe_68 : decode cX0_owe 68 = .ok (.invokevirtual 109, 3) := dk_182 0 109 (dk_at dksX0_owe_3 0 rfl rfl)
theorem dX0_owe_71 : decode cX0_owe 71 = .ok (.ireturn, 1) := dk_172 (dk_at dksX0_owe_3 3 rfl rfl)
abbrev cX0_ofWell : ByteArray := prog_1_method_18_code
def yX0_ofWell : MethodName := ⟨RX0, "ofWell", "(II)I"⟩
def dkwX0_ofWell_10 : List UInt8 := [182, 0, 137, 172, 78, 42, 45, 182, 0, 109, 172]
abbrev dktX0_ofWell_10 : List UInt8 := dkwX0_ofWell_10 ++ []
def dkwX0_ofWell_9 : List UInt8 := [42, 180, 0, 46, 180, 0, 106, 27, 46, 172, 29, 172, 21, 4, 172, 21, 5, 172, 42, 180, 0, 46, 27]
abbrev dktX0_ofWell_9 : List UInt8 := dkwX0_ofWell_9 ++ dktX0_ofWell_10
def dkwX0_ofWell_8 : List UInt8 := [170, 0, 0, 0, 0, 0, 49, 0, 0, 0, 0, 0, 0, 0, 3, 0, 0, 0, 31, 0, 0, 0, 41, 0, 0, 0, 43, 0, 0, 0, 46]
abbrev dktX0_ofWell_8 : List UInt8 := dkwX0_ofWell_8 ++ dktX0_ofWell_9
def dkwX0_ofWell_7 : List UInt8 := [120, 167, 0, 4, 3, 128, 54, 5, 132, 6, 1, 167, 255, 157, 28]
abbrev dktX0_ofWell_7 : List UInt8 := dkwX0_ofWell_7 ++ dktX0_ofWell_8
def dkwX0_ofWell_6 : List UInt8 := [21, 5, 21, 7, 153, 0, 24, 42, 180, 0, 46, 180, 0, 134, 21, 6, 46, 27, 160, 0, 10, 4, 21, 6]
abbrev dktX0_ofWell_6 : List UInt8 := dkwX0_ofWell_6 ++ dktX0_ofWell_7
def dkwX0_ofWell_5 : List UInt8 := [180, 0, 46, 180, 0, 131, 21, 6, 46, 27, 160, 0, 10, 4, 21, 6, 120, 167, 0, 4, 3, 128, 54, 4]
abbrev dktX0_ofWell_5 : List UInt8 := dkwX0_ofWell_5 ++ dktX0_ofWell_6
def dkwX0_ofWell_4 : List UInt8 := [180, 0, 127, 21, 6, 51, 154, 0, 7, 4, 167, 0, 4, 3, 54, 7, 21, 4, 21, 7, 153, 0, 24, 42]
abbrev dktX0_ofWell_4 : List UInt8 := dkwX0_ofWell_4 ++ dktX0_ofWell_5
def dkwX0_ofWell_3 : List UInt8 := [167, 255, 225, 3, 54, 6, 21, 6, 42, 180, 0, 46, 180, 0, 93, 162, 0, 93, 42, 180, 0, 46]
abbrev dktX0_ofWell_3 : List UInt8 := dkwX0_ofWell_3 ++ dktX0_ofWell_4
def dkwX0_ofWell_2 : List UInt8 := [180, 0, 46, 27, 21, 6, 182, 0, 117, 158, 0, 7, 4, 167, 0, 4, 3, 96, 62, 132, 6, 1]
abbrev dktX0_ofWell_2 : List UInt8 := dkwX0_ofWell_2 ++ dktX0_ofWell_3
def dkwX0_ofWell_1 : List UInt8 := [182, 0, 100, 3, 62, 3, 54, 4, 3, 54, 5, 3, 54, 6, 21, 6, 16, 8, 162, 0, 30, 29, 42]
abbrev dktX0_ofWell_1 : List UInt8 := dkwX0_ofWell_1 ++ dktX0_ofWell_2
def dkwX0_ofWell_0 : List UInt8 := [42, 27, 184, 0, 89, 153, 0, 16, 28, 3, 7, 184, 0, 85, 153, 0, 7, 4, 167, 0, 4, 3, 4]
abbrev dktX0_ofWell_0 : List UInt8 := dkwX0_ofWell_0 ++ dktX0_ofWell_1
theorem dksX0_ofWell_0 : cX0_ofWell.data.toList.drop 0 = dktX0_ofWell_0 := by decide +kernel
theorem dksX0_ofWell_1 : cX0_ofWell.data.toList.drop 23 = dktX0_ofWell_1 := dk_seg dksX0_ofWell_0 23 rfl rfl
theorem dksX0_ofWell_2 : cX0_ofWell.data.toList.drop 46 = dktX0_ofWell_2 := dk_seg dksX0_ofWell_1 23 rfl rfl
theorem dksX0_ofWell_3 : cX0_ofWell.data.toList.drop 68 = dktX0_ofWell_3 := dk_seg dksX0_ofWell_2 22 rfl rfl
theorem dksX0_ofWell_4 : cX0_ofWell.data.toList.drop 90 = dktX0_ofWell_4 := dk_seg dksX0_ofWell_3 22 rfl rfl
theorem dksX0_ofWell_5 : cX0_ofWell.data.toList.drop 114 = dktX0_ofWell_5 := dk_seg dksX0_ofWell_4 24 rfl rfl
theorem dksX0_ofWell_6 : cX0_ofWell.data.toList.drop 138 = dktX0_ofWell_6 := dk_seg dksX0_ofWell_5 24 rfl rfl
theorem dksX0_ofWell_7 : cX0_ofWell.data.toList.drop 162 = dktX0_ofWell_7 := dk_seg dksX0_ofWell_6 24 rfl rfl
theorem dksX0_ofWell_8 : cX0_ofWell.data.toList.drop 177 = dktX0_ofWell_8 := dk_seg dksX0_ofWell_7 15 rfl rfl
theorem dksX0_ofWell_9 : cX0_ofWell.data.toList.drop 208 = dktX0_ofWell_9 := dk_seg dksX0_ofWell_8 31 rfl rfl
theorem dksX0_ofWell_10 : cX0_ofWell.data.toList.drop 231 = dktX0_ofWell_10 := dk_seg dksX0_ofWell_9 23 rfl rfl
theorem dX0_ofWell_0 : decode cX0_ofWell 0 = .ok (.aload_n 0, 1) := dk_42 (dk_at dksX0_ofWell_0 0 rfl rfl)
theorem dX0_ofWell_1 : decode cX0_ofWell 1 = .ok (.iload_n 1, 1) := dk_27 (dk_at dksX0_ofWell_0 1 rfl rfl)
theorem dX0_ofWell_2 : decode cX0_ofWell 2 = .ok (.invokestatic 89, 3) := dk_184 0 89 (dk_at dksX0_ofWell_0 2 rfl rfl)
theorem dX0_ofWell_5 : decode cX0_ofWell 5 = .ok (.ifCond .eq 16, 3) := dk_153 0 16 (dk_at dksX0_ofWell_0 5 rfl rfl)
theorem dX0_ofWell_8 : decode cX0_ofWell 8 = .ok (.iload_n 2, 1) := dk_28 (dk_at dksX0_ofWell_0 8 rfl rfl)
theorem dX0_ofWell_9 : decode cX0_ofWell 9 = .ok (.iconst 0, 1) := dk_3 (dk_at dksX0_ofWell_0 9 rfl rfl)
theorem dX0_ofWell_10 : decode cX0_ofWell 10 = .ok (.iconst 4, 1) := dk_7 (dk_at dksX0_ofWell_0 10 rfl rfl)
theorem dX0_ofWell_11 : decode cX0_ofWell 11 = .ok (.invokestatic 85, 3) := dk_184 0 85 (dk_at dksX0_ofWell_0 11 rfl rfl)
theorem dX0_ofWell_14 : decode cX0_ofWell 14 = .ok (.ifCond .eq 7, 3) := dk_153 0 7 (dk_at dksX0_ofWell_0 14 rfl rfl)
theorem dX0_ofWell_17 : decode cX0_ofWell 17 = .ok (.iconst 1, 1) := dk_4 (dk_at dksX0_ofWell_0 17 rfl rfl)
theorem dX0_ofWell_18 : decode cX0_ofWell 18 = .ok (.goto 4, 3) := dk_167 0 4 (dk_at dksX0_ofWell_0 18 rfl rfl)
theorem dX0_ofWell_21 : decode cX0_ofWell 21 = .ok (.iconst 0, 1) := dk_3 (dk_at dksX0_ofWell_0 21 rfl rfl)
theorem dX0_ofWell_22 : decode cX0_ofWell 22 = .ok (.iconst 1, 1) := dk_4 (dk_at dksX0_ofWell_0 22 rfl rfl)
theorem dX0_ofWell_23 : decode cX0_ofWell 23 = .ok (.invokevirtual 100, 3) := dk_182 0 100 (dk_at dksX0_ofWell_1 0 rfl rfl)
theorem dX0_ofWell_26 : decode cX0_ofWell 26 = .ok (.iconst 0, 1) := dk_3 (dk_at dksX0_ofWell_1 3 rfl rfl)
theorem dX0_ofWell_27 : decode cX0_ofWell 27 = .ok (.istore_n 3, 1) := dk_62 (dk_at dksX0_ofWell_1 4 rfl rfl)
theorem dX0_ofWell_28 : decode cX0_ofWell 28 = .ok (.iconst 0, 1) := dk_3 (dk_at dksX0_ofWell_1 5 rfl rfl)
theorem dX0_ofWell_29 : decode cX0_ofWell 29 = .ok (.istore 4, 2) := dk_54 4 (dk_at dksX0_ofWell_1 6 rfl rfl)
theorem dX0_ofWell_31 : decode cX0_ofWell 31 = .ok (.iconst 0, 1) := dk_3 (dk_at dksX0_ofWell_1 8 rfl rfl)
theorem dX0_ofWell_32 : decode cX0_ofWell 32 = .ok (.istore 5, 2) := dk_54 5 (dk_at dksX0_ofWell_1 9 rfl rfl)
theorem dX0_ofWell_34 : decode cX0_ofWell 34 = .ok (.iconst 0, 1) := dk_3 (dk_at dksX0_ofWell_1 11 rfl rfl)
theorem dX0_ofWell_35 : decode cX0_ofWell 35 = .ok (.istore 6, 2) := dk_54 6 (dk_at dksX0_ofWell_1 12 rfl rfl)
theorem dX0_ofWell_37 : decode cX0_ofWell 37 = .ok (.iload 6, 2) := dk_21 6 (dk_at dksX0_ofWell_1 14 rfl rfl)
theorem dX0_ofWell_39 : decode cX0_ofWell 39 = .ok (.bipush 8, 2) := dk_16 8 (dk_at dksX0_ofWell_1 16 rfl rfl)
theorem dX0_ofWell_41 : decode cX0_ofWell 41 = .ok (.if_icmp .ge 30, 3) := dk_162 0 30 (dk_at dksX0_ofWell_1 18 rfl rfl)
theorem dX0_ofWell_44 : decode cX0_ofWell 44 = .ok (.iload_n 3, 1) := dk_29 (dk_at dksX0_ofWell_1 21 rfl rfl)
theorem dX0_ofWell_45 : decode cX0_ofWell 45 = .ok (.aload_n 0, 1) := dk_42 (dk_at dksX0_ofWell_1 22 rfl rfl)
theorem dX0_ofWell_46 : decode cX0_ofWell 46 = .ok (.getfield 46, 3) := dk_180 0 46 (dk_at dksX0_ofWell_2 0 rfl rfl)
theorem dX0_ofWell_49 : decode cX0_ofWell 49 = .ok (.iload_n 1, 1) := dk_27 (dk_at dksX0_ofWell_2 3 rfl rfl)
theorem dX0_ofWell_50 : decode cX0_ofWell 50 = .ok (.iload 6, 2) := dk_21 6 (dk_at dksX0_ofWell_2 4 rfl rfl)
theorem dX0_ofWell_52 : decode cX0_ofWell 52 = .ok (.invokevirtual 117, 3) := dk_182 0 117 (dk_at dksX0_ofWell_2 6 rfl rfl)
theorem dX0_ofWell_55 : decode cX0_ofWell 55 = .ok (.ifCond .le 7, 3) := dk_158 0 7 (dk_at dksX0_ofWell_2 9 rfl rfl)
theorem dX0_ofWell_58 : decode cX0_ofWell 58 = .ok (.iconst 1, 1) := dk_4 (dk_at dksX0_ofWell_2 12 rfl rfl)
theorem dX0_ofWell_59 : decode cX0_ofWell 59 = .ok (.goto 4, 3) := dk_167 0 4 (dk_at dksX0_ofWell_2 13 rfl rfl)
theorem dX0_ofWell_62 : decode cX0_ofWell 62 = .ok (.iconst 0, 1) := dk_3 (dk_at dksX0_ofWell_2 16 rfl rfl)
theorem dX0_ofWell_63 : decode cX0_ofWell 63 = .ok (.iadd, 1) := dk_96 (dk_at dksX0_ofWell_2 17 rfl rfl)
theorem dX0_ofWell_64 : decode cX0_ofWell 64 = .ok (.istore_n 3, 1) := dk_62 (dk_at dksX0_ofWell_2 18 rfl rfl)
theorem dX0_ofWell_65 : decode cX0_ofWell 65 = .ok (.iinc 6 1, 3) := dk_132 6 1 (dk_at dksX0_ofWell_2 19 rfl rfl)
theorem dX0_ofWell_68 : decode cX0_ofWell 68 = .ok (.goto (-31), 3) := dk_167 255 225 (dk_at dksX0_ofWell_3 0 rfl rfl)
theorem dX0_ofWell_71 : decode cX0_ofWell 71 = .ok (.iconst 0, 1) := dk_3 (dk_at dksX0_ofWell_3 3 rfl rfl)
theorem dX0_ofWell_72 : decode cX0_ofWell 72 = .ok (.istore 6, 2) := dk_54 6 (dk_at dksX0_ofWell_3 4 rfl rfl)
theorem dX0_ofWell_74 : decode cX0_ofWell 74 = .ok (.iload 6, 2) := dk_21 6 (dk_at dksX0_ofWell_3 6 rfl rfl)
theorem dX0_ofWell_76 : decode cX0_ofWell 76 = .ok (.aload_n 0, 1) := dk_42 (dk_at dksX0_ofWell_3 8 rfl rfl)
theorem dX0_ofWell_77 : decode cX0_ofWell 77 = .ok (.getfield 46, 3) := dk_180 0 46 (dk_at dksX0_ofWell_3 9 rfl rfl)
theorem dX0_ofWell_80 : decode cX0_ofWell 80 = .ok (.getfield 93, 3) := dk_180 0 93 (dk_at dksX0_ofWell_3 12 rfl rfl)
theorem dX0_ofWell_83 : decode cX0_ofWell 83 = .ok (.if_icmp .ge 93, 3) := dk_162 0 93 (dk_at dksX0_ofWell_3 15 rfl rfl)
theorem dX0_ofWell_86 : decode cX0_ofWell 86 = .ok (.aload_n 0, 1) := dk_42 (dk_at dksX0_ofWell_3 18 rfl rfl)
theorem dX0_ofWell_87 : decode cX0_ofWell 87 = .ok (.getfield 46, 3) := dk_180 0 46 (dk_at dksX0_ofWell_3 19 rfl rfl)
theorem dX0_ofWell_90 : decode cX0_ofWell 90 = .ok (.getfield 127, 3) := dk_180 0 127 (dk_at dksX0_ofWell_4 0 rfl rfl)
theorem dX0_ofWell_93 : decode cX0_ofWell 93 = .ok (.iload 6, 2) := dk_21 6 (dk_at dksX0_ofWell_4 3 rfl rfl)
theorem dX0_ofWell_95 : decode cX0_ofWell 95 = .ok (.baload, 1) := dk_51 (dk_at dksX0_ofWell_4 5 rfl rfl)
theorem dX0_ofWell_96 : decode cX0_ofWell 96 = .ok (.ifCond .ne 7, 3) := dk_154 0 7 (dk_at dksX0_ofWell_4 6 rfl rfl)
theorem dX0_ofWell_99 : decode cX0_ofWell 99 = .ok (.iconst 1, 1) := dk_4 (dk_at dksX0_ofWell_4 9 rfl rfl)
theorem dX0_ofWell_100 : decode cX0_ofWell 100 = .ok (.goto 4, 3) := dk_167 0 4 (dk_at dksX0_ofWell_4 10 rfl rfl)
theorem dX0_ofWell_103 : decode cX0_ofWell 103 = .ok (.iconst 0, 1) := dk_3 (dk_at dksX0_ofWell_4 13 rfl rfl)
theorem dX0_ofWell_104 : decode cX0_ofWell 104 = .ok (.istore 7, 2) := dk_54 7 (dk_at dksX0_ofWell_4 14 rfl rfl)
theorem dX0_ofWell_106 : decode cX0_ofWell 106 = .ok (.iload 4, 2) := dk_21 4 (dk_at dksX0_ofWell_4 16 rfl rfl)
theorem dX0_ofWell_108 : decode cX0_ofWell 108 = .ok (.iload 7, 2) := dk_21 7 (dk_at dksX0_ofWell_4 18 rfl rfl)
theorem dX0_ofWell_110 : decode cX0_ofWell 110 = .ok (.ifCond .eq 24, 3) := dk_153 0 24 (dk_at dksX0_ofWell_4 20 rfl rfl)
theorem dX0_ofWell_113 : decode cX0_ofWell 113 = .ok (.aload_n 0, 1) := dk_42 (dk_at dksX0_ofWell_4 23 rfl rfl)
theorem dX0_ofWell_114 : decode cX0_ofWell 114 = .ok (.getfield 46, 3) := dk_180 0 46 (dk_at dksX0_ofWell_5 0 rfl rfl)
theorem dX0_ofWell_117 : decode cX0_ofWell 117 = .ok (.getfield 131, 3) := dk_180 0 131 (dk_at dksX0_ofWell_5 3 rfl rfl)
theorem dX0_ofWell_120 : decode cX0_ofWell 120 = .ok (.iload 6, 2) := dk_21 6 (dk_at dksX0_ofWell_5 6 rfl rfl)
theorem dX0_ofWell_122 : decode cX0_ofWell 122 = .ok (.iaload, 1) := dk_46 (dk_at dksX0_ofWell_5 8 rfl rfl)
theorem dX0_ofWell_123 : decode cX0_ofWell 123 = .ok (.iload_n 1, 1) := dk_27 (dk_at dksX0_ofWell_5 9 rfl rfl)
theorem dX0_ofWell_124 : decode cX0_ofWell 124 = .ok (.if_icmp .ne 10, 3) := dk_160 0 10 (dk_at dksX0_ofWell_5 10 rfl rfl)
theorem dX0_ofWell_127 : decode cX0_ofWell 127 = .ok (.iconst 1, 1) := dk_4 (dk_at dksX0_ofWell_5 13 rfl rfl)
theorem dX0_ofWell_128 : decode cX0_ofWell 128 = .ok (.iload 6, 2) := dk_21 6 (dk_at dksX0_ofWell_5 14 rfl rfl)
theorem dX0_ofWell_130 : decode cX0_ofWell 130 = .ok (.ishl, 1) := dk_120 (dk_at dksX0_ofWell_5 16 rfl rfl)
theorem dX0_ofWell_131 : decode cX0_ofWell 131 = .ok (.goto 4, 3) := dk_167 0 4 (dk_at dksX0_ofWell_5 17 rfl rfl)
theorem dX0_ofWell_134 : decode cX0_ofWell 134 = .ok (.iconst 0, 1) := dk_3 (dk_at dksX0_ofWell_5 20 rfl rfl)
theorem dX0_ofWell_135 : decode cX0_ofWell 135 = .ok (.ior, 1) := dk_128 (dk_at dksX0_ofWell_5 21 rfl rfl)
theorem dX0_ofWell_136 : decode cX0_ofWell 136 = .ok (.istore 4, 2) := dk_54 4 (dk_at dksX0_ofWell_5 22 rfl rfl)
theorem dX0_ofWell_138 : decode cX0_ofWell 138 = .ok (.iload 5, 2) := dk_21 5 (dk_at dksX0_ofWell_6 0 rfl rfl)
theorem dX0_ofWell_140 : decode cX0_ofWell 140 = .ok (.iload 7, 2) := dk_21 7 (dk_at dksX0_ofWell_6 2 rfl rfl)
theorem dX0_ofWell_142 : decode cX0_ofWell 142 = .ok (.ifCond .eq 24, 3) := dk_153 0 24 (dk_at dksX0_ofWell_6 4 rfl rfl)
theorem dX0_ofWell_145 : decode cX0_ofWell 145 = .ok (.aload_n 0, 1) := dk_42 (dk_at dksX0_ofWell_6 7 rfl rfl)
theorem dX0_ofWell_146 : decode cX0_ofWell 146 = .ok (.getfield 46, 3) := dk_180 0 46 (dk_at dksX0_ofWell_6 8 rfl rfl)
theorem dX0_ofWell_149 : decode cX0_ofWell 149 = .ok (.getfield 134, 3) := dk_180 0 134 (dk_at dksX0_ofWell_6 11 rfl rfl)
theorem dX0_ofWell_152 : decode cX0_ofWell 152 = .ok (.iload 6, 2) := dk_21 6 (dk_at dksX0_ofWell_6 14 rfl rfl)
theorem dX0_ofWell_154 : decode cX0_ofWell 154 = .ok (.iaload, 1) := dk_46 (dk_at dksX0_ofWell_6 16 rfl rfl)
theorem dX0_ofWell_155 : decode cX0_ofWell 155 = .ok (.iload_n 1, 1) := dk_27 (dk_at dksX0_ofWell_6 17 rfl rfl)
theorem dX0_ofWell_156 : decode cX0_ofWell 156 = .ok (.if_icmp .ne 10, 3) := dk_160 0 10 (dk_at dksX0_ofWell_6 18 rfl rfl)
theorem dX0_ofWell_159 : decode cX0_ofWell 159 = .ok (.iconst 1, 1) := dk_4 (dk_at dksX0_ofWell_6 21 rfl rfl)
theorem dX0_ofWell_160 : decode cX0_ofWell 160 = .ok (.iload 6, 2) := dk_21 6 (dk_at dksX0_ofWell_6 22 rfl rfl)
theorem dX0_ofWell_162 : decode cX0_ofWell 162 = .ok (.ishl, 1) := dk_120 (dk_at dksX0_ofWell_7 0 rfl rfl)
theorem dX0_ofWell_163 : decode cX0_ofWell 163 = .ok (.goto 4, 3) := dk_167 0 4 (dk_at dksX0_ofWell_7 1 rfl rfl)
theorem dX0_ofWell_166 : decode cX0_ofWell 166 = .ok (.iconst 0, 1) := dk_3 (dk_at dksX0_ofWell_7 4 rfl rfl)
theorem dX0_ofWell_167 : decode cX0_ofWell 167 = .ok (.ior, 1) := dk_128 (dk_at dksX0_ofWell_7 5 rfl rfl)
theorem dX0_ofWell_168 : decode cX0_ofWell 168 = .ok (.istore 5, 2) := dk_54 5 (dk_at dksX0_ofWell_7 6 rfl rfl)
theorem dX0_ofWell_170 : decode cX0_ofWell 170 = .ok (.iinc 6 1, 3) := dk_132 6 1 (dk_at dksX0_ofWell_7 8 rfl rfl)
theorem dX0_ofWell_173 : decode cX0_ofWell 173 = .ok (.goto (-99), 3) := dk_167 255 157 (dk_at dksX0_ofWell_7 11 rfl rfl)
theorem dX0_ofWell_176 : decode cX0_ofWell 176 = .ok (.iload_n 2, 1) := dk_28 (dk_at dksX0_ofWell_7 14 rfl rfl)
theorem dX0_ofWell_177 : decode cX0_ofWell 177 = .ok (.tableswitch 49 0 3 #[31, 41, 43, 46], 31) := by decide +kernel
theorem dX0_ofWell_208 : decode cX0_ofWell 208 = .ok (.aload_n 0, 1) := dk_42 (dk_at dksX0_ofWell_9 0 rfl rfl)
theorem dX0_ofWell_209 : decode cX0_ofWell 209 = .ok (.getfield 46, 3) := dk_180 0 46 (dk_at dksX0_ofWell_9 1 rfl rfl)
theorem dX0_ofWell_212 : decode cX0_ofWell 212 = .ok (.getfield 106, 3) := dk_180 0 106 (dk_at dksX0_ofWell_9 4 rfl rfl)
theorem dX0_ofWell_215 : decode cX0_ofWell 215 = .ok (.iload_n 1, 1) := dk_27 (dk_at dksX0_ofWell_9 7 rfl rfl)
theorem dX0_ofWell_216 : decode cX0_ofWell 216 = .ok (.iaload, 1) := dk_46 (dk_at dksX0_ofWell_9 8 rfl rfl)
theorem dX0_ofWell_217 : decode cX0_ofWell 217 = .ok (.ireturn, 1) := dk_172 (dk_at dksX0_ofWell_9 9 rfl rfl)
theorem dX0_ofWell_218 : decode cX0_ofWell 218 = .ok (.iload_n 3, 1) := dk_29 (dk_at dksX0_ofWell_9 10 rfl rfl)
theorem dX0_ofWell_219 : decode cX0_ofWell 219 = .ok (.ireturn, 1) := dk_172 (dk_at dksX0_ofWell_9 11 rfl rfl)
theorem dX0_ofWell_220 : decode cX0_ofWell 220 = .ok (.iload 4, 2) := dk_21 4 (dk_at dksX0_ofWell_9 12 rfl rfl)
theorem dX0_ofWell_222 : decode cX0_ofWell 222 = .ok (.ireturn, 1) := dk_172 (dk_at dksX0_ofWell_9 14 rfl rfl)
theorem dX0_ofWell_223 : decode cX0_ofWell 223 = .ok (.iload 5, 2) := dk_21 5 (dk_at dksX0_ofWell_9 15 rfl rfl)
theorem dX0_ofWell_225 : decode cX0_ofWell 225 = .ok (.ireturn, 1) := dk_172 (dk_at dksX0_ofWell_9 17 rfl rfl)
theorem dX0_ofWell_226 : decode cX0_ofWell 226 = .ok (.aload_n 0, 1) := dk_42 (dk_at dksX0_ofWell_9 18 rfl rfl)
theorem dX0_ofWell_227 : decode cX0_ofWell 227 = .ok (.getfield 46, 3) := dk_180 0 46 (dk_at dksX0_ofWell_9 19 rfl rfl)
theorem dX0_ofWell_230 : decode cX0_ofWell 230 = .ok (.iload_n 1, 1) := dk_27 (dk_at dksX0_ofWell_9 22 rfl rfl)
theorem dX0_ofWell_231 : decode cX0_ofWell 231 = .ok (.invokevirtual 137, 3) := dk_182 0 137 (dk_at dksX0_ofWell_10 0 rfl rfl)
theorem dX0_ofWell_234 : decode cX0_ofWell 234 = .ok (.ireturn, 1) := dk_172 (dk_at dksX0_ofWell_10 3 rfl rfl)
theorem dX0_ofWell_235 : decode cX0_ofWell 235 = .ok (.astore_n 3, 1) := dk_78 (dk_at dksX0_ofWell_10 4 rfl rfl)
theorem dX0_ofWell_236 : decode cX0_ofWell 236 = .ok (.aload_n 0, 1) := dk_42 (dk_at dksX0_ofWell_10 5 rfl rfl)
theorem dX0_ofWell_237 : decode cX0_ofWell 237 = .ok (.aload_n 3, 1) := dk_45 (dk_at dksX0_ofWell_10 6 rfl rfl)
theorem dX0_ofWell_238 : decode cX0_ofWell 238 = .ok (.invokevirtual 109, 3) := dk_182 0 109 (dk_at dksX0_ofWell_10 7 rfl rfl)
theorem dX0_ofWell_241 : decode cX0_ofWell 241 = .ok (.ireturn, 1) := dk_172 (dk_at dksX0_ofWell_10 10 rfl rfl)
abbrev cX0_rain : ByteArray := prog_1_method_19_code
def yX0_rain : MethodName := ⟨RX0, "rain", "(I)I"⟩
def dkwX0_rain_1 : List UInt8 := [27, 181, 0, 141, 28, 172, 77, 42, 44, 182, 0, 109, 172]
abbrev dktX0_rain_1 : List UInt8 := dkwX0_rain_1 ++ []
def dkwX0_rain_0 : List UInt8 := [42, 27, 3, 16, 9, 184, 0, 85, 4, 182, 0, 100, 42, 180, 0, 46, 180, 0, 141, 61, 42, 180, 0, 46]
abbrev dktX0_rain_0 : List UInt8 := dkwX0_rain_0 ++ dktX0_rain_1
theorem dksX0_rain_0 : cX0_rain.data.toList.drop 0 = dktX0_rain_0 := by decide +kernel
theorem dksX0_rain_1 : cX0_rain.data.toList.drop 24 = dktX0_rain_1 := dk_seg dksX0_rain_0 24 rfl rfl
theorem dX0_rain_0 : decode cX0_rain 0 = .ok (.aload_n 0, 1) := dk_42 (dk_at dksX0_rain_0 0 rfl rfl)
theorem dX0_rain_1 : decode cX0_rain 1 = .ok (.iload_n 1, 1) := dk_27 (dk_at dksX0_rain_0 1 rfl rfl)
theorem dX0_rain_2 : decode cX0_rain 2 = .ok (.iconst 0, 1) := dk_3 (dk_at dksX0_rain_0 2 rfl rfl)
theorem dX0_rain_3 : decode cX0_rain 3 = .ok (.bipush 9, 2) := dk_16 9 (dk_at dksX0_rain_0 3 rfl rfl)
theorem dX0_rain_5 : decode cX0_rain 5 = .ok (.invokestatic 85, 3) := dk_184 0 85 (dk_at dksX0_rain_0 5 rfl rfl)
theorem dX0_rain_8 : decode cX0_rain 8 = .ok (.iconst 1, 1) := dk_4 (dk_at dksX0_rain_0 8 rfl rfl)
theorem dX0_rain_9 : decode cX0_rain 9 = .ok (.invokevirtual 100, 3) := dk_182 0 100 (dk_at dksX0_rain_0 9 rfl rfl)
theorem dX0_rain_12 : decode cX0_rain 12 = .ok (.aload_n 0, 1) := dk_42 (dk_at dksX0_rain_0 12 rfl rfl)
theorem dX0_rain_13 : decode cX0_rain 13 = .ok (.getfield 46, 3) := dk_180 0 46 (dk_at dksX0_rain_0 13 rfl rfl)
theorem dX0_rain_16 : decode cX0_rain 16 = .ok (.getfield 141, 3) := dk_180 0 141 (dk_at dksX0_rain_0 16 rfl rfl)
theorem dX0_rain_19 : decode cX0_rain 19 = .ok (.istore_n 2, 1) := dk_61 (dk_at dksX0_rain_0 19 rfl rfl)
theorem dX0_rain_20 : decode cX0_rain 20 = .ok (.aload_n 0, 1) := dk_42 (dk_at dksX0_rain_0 20 rfl rfl)
theorem dX0_rain_21 : decode cX0_rain 21 = .ok (.getfield 46, 3) := dk_180 0 46 (dk_at dksX0_rain_0 21 rfl rfl)
theorem dX0_rain_24 : decode cX0_rain 24 = .ok (.iload_n 1, 1) := dk_27 (dk_at dksX0_rain_1 0 rfl rfl)
theorem dX0_rain_25 : decode cX0_rain 25 = .ok (.putfield 141, 3) := dk_181 0 141 (dk_at dksX0_rain_1 1 rfl rfl)
theorem dX0_rain_28 : decode cX0_rain 28 = .ok (.iload_n 2, 1) := dk_28 (dk_at dksX0_rain_1 4 rfl rfl)
theorem dX0_rain_29 : decode cX0_rain 29 = .ok (.ireturn, 1) := dk_172 (dk_at dksX0_rain_1 5 rfl rfl)
theorem dX0_rain_30 : decode cX0_rain 30 = .ok (.astore_n 2, 1) := dk_77 (dk_at dksX0_rain_1 6 rfl rfl)
theorem dX0_rain_31 : decode cX0_rain 31 = .ok (.aload_n 0, 1) := dk_42 (dk_at dksX0_rain_1 7 rfl rfl)
theorem dX0_rain_32 : decode cX0_rain 32 = .ok (.aload_n 2, 1) := dk_44 (dk_at dksX0_rain_1 8 rfl rfl)
theorem dX0_rain_33 : decode cX0_rain 33 = .ok (.invokevirtual 109, 3) := dk_182 0 109 (dk_at dksX0_rain_1 9 rfl rfl)
theorem dX0_rain_36 : decode cX0_rain 36 = .ok (.ireturn, 1) := dk_172 (dk_at dksX0_rain_1 12 rfl rfl)
abbrev cX0_person : ByteArray := prog_1_method_20_code
def yX0_person : MethodName := ⟨RX0, "person", "(II)I"⟩
def dkwX0_person_5 : List UInt8 := [3, 84, 42, 180, 0, 46, 89, 180, 0, 93, 4, 96, 181, 0, 93, 29, 172, 78, 42, 45, 182, 0, 109, 172]
abbrev dktX0_person_5 : List UInt8 := dkwX0_person_5 ++ []
def dkwX0_person_4 : List UInt8 := [180, 0, 131, 29, 2, 79, 42, 180, 0, 46, 180, 0, 155, 29, 3, 79, 42, 180, 0, 46, 180, 0, 127, 29]
abbrev dktX0_person_4 : List UInt8 := dkwX0_person_4 ++ dktX0_person_5
def dkwX0_person_3 : List UInt8 := [27, 16, 10, 112, 184, 0, 151, 83, 42, 180, 0, 46, 180, 0, 134, 29, 28, 79, 42, 180, 0, 46]
abbrev dktX0_person_3 : List UInt8 := dkwX0_person_3 ++ dktX0_person_4
def dkwX0_person_2 : List UInt8 := [180, 0, 46, 180, 0, 93, 62, 42, 180, 0, 46, 180, 0, 147, 29, 27, 16, 10, 108, 42, 180, 0, 59, 29]
abbrev dktX0_person_2 : List UInt8 := dkwX0_person_2 ++ dktX0_person_3
def dkwX0_person_1 : List UInt8 := [42, 42, 180, 0, 46, 180, 0, 93, 16, 6, 162, 0, 7, 4, 167, 0, 4, 3, 7, 182, 0, 100, 42]
abbrev dktX0_person_1 : List UInt8 := dkwX0_person_1 ++ dktX0_person_2
def dkwX0_person_0 : List UInt8 := [42, 27, 184, 0, 144, 153, 0, 14, 28, 184, 0, 89, 153, 0, 7, 4, 167, 0, 4, 3, 4, 182, 0, 100]
abbrev dktX0_person_0 : List UInt8 := dkwX0_person_0 ++ dktX0_person_1
theorem dksX0_person_0 : cX0_person.data.toList.drop 0 = dktX0_person_0 := by decide +kernel
theorem dksX0_person_1 : cX0_person.data.toList.drop 24 = dktX0_person_1 := dk_seg dksX0_person_0 24 rfl rfl
theorem dksX0_person_2 : cX0_person.data.toList.drop 47 = dktX0_person_2 := dk_seg dksX0_person_1 23 rfl rfl
theorem dksX0_person_3 : cX0_person.data.toList.drop 71 = dktX0_person_3 := dk_seg dksX0_person_2 24 rfl rfl
theorem dksX0_person_4 : cX0_person.data.toList.drop 93 = dktX0_person_4 := dk_seg dksX0_person_3 22 rfl rfl
theorem dksX0_person_5 : cX0_person.data.toList.drop 117 = dktX0_person_5 := dk_seg dksX0_person_4 24 rfl rfl
theorem dX0_person_0 : decode cX0_person 0 = .ok (.aload_n 0, 1) := dk_42 (dk_at dksX0_person_0 0 rfl rfl)
theorem dX0_person_1 : decode cX0_person 1 = .ok (.iload_n 1, 1) := dk_27 (dk_at dksX0_person_0 1 rfl rfl)
theorem dX0_person_2 : decode cX0_person 2 = .ok (.invokestatic 144, 3) := dk_184 0 144 (dk_at dksX0_person_0 2 rfl rfl)
theorem dX0_person_5 : decode cX0_person 5 = .ok (.ifCond .eq 14, 3) := dk_153 0 14 (dk_at dksX0_person_0 5 rfl rfl)
theorem dX0_person_8 : decode cX0_person 8 = .ok (.iload_n 2, 1) := dk_28 (dk_at dksX0_person_0 8 rfl rfl)
theorem dX0_person_9 : decode cX0_person 9 = .ok (.invokestatic 89, 3) := dk_184 0 89 (dk_at dksX0_person_0 9 rfl rfl)
theorem dX0_person_12 : decode cX0_person 12 = .ok (.ifCond .eq 7, 3) := dk_153 0 7 (dk_at dksX0_person_0 12 rfl rfl)
theorem dX0_person_15 : decode cX0_person 15 = .ok (.iconst 1, 1) := dk_4 (dk_at dksX0_person_0 15 rfl rfl)
theorem dX0_person_16 : decode cX0_person 16 = .ok (.goto 4, 3) := dk_167 0 4 (dk_at dksX0_person_0 16 rfl rfl)
theorem dX0_person_19 : decode cX0_person 19 = .ok (.iconst 0, 1) := dk_3 (dk_at dksX0_person_0 19 rfl rfl)
theorem dX0_person_20 : decode cX0_person 20 = .ok (.iconst 1, 1) := dk_4 (dk_at dksX0_person_0 20 rfl rfl)
theorem dX0_person_21 : decode cX0_person 21 = .ok (.invokevirtual 100, 3) := dk_182 0 100 (dk_at dksX0_person_0 21 rfl rfl)
theorem dX0_person_24 : decode cX0_person 24 = .ok (.aload_n 0, 1) := dk_42 (dk_at dksX0_person_1 0 rfl rfl)
theorem dX0_person_25 : decode cX0_person 25 = .ok (.aload_n 0, 1) := dk_42 (dk_at dksX0_person_1 1 rfl rfl)
theorem dX0_person_26 : decode cX0_person 26 = .ok (.getfield 46, 3) := dk_180 0 46 (dk_at dksX0_person_1 2 rfl rfl)
theorem dX0_person_29 : decode cX0_person 29 = .ok (.getfield 93, 3) := dk_180 0 93 (dk_at dksX0_person_1 5 rfl rfl)
theorem dX0_person_32 : decode cX0_person 32 = .ok (.bipush 6, 2) := dk_16 6 (dk_at dksX0_person_1 8 rfl rfl)
theorem dX0_person_34 : decode cX0_person 34 = .ok (.if_icmp .ge 7, 3) := dk_162 0 7 (dk_at dksX0_person_1 10 rfl rfl)
theorem dX0_person_37 : decode cX0_person 37 = .ok (.iconst 1, 1) := dk_4 (dk_at dksX0_person_1 13 rfl rfl)
theorem dX0_person_38 : decode cX0_person 38 = .ok (.goto 4, 3) := dk_167 0 4 (dk_at dksX0_person_1 14 rfl rfl)
theorem dX0_person_41 : decode cX0_person 41 = .ok (.iconst 0, 1) := dk_3 (dk_at dksX0_person_1 17 rfl rfl)
theorem dX0_person_42 : decode cX0_person 42 = .ok (.iconst 4, 1) := dk_7 (dk_at dksX0_person_1 18 rfl rfl)
theorem dX0_person_43 : decode cX0_person 43 = .ok (.invokevirtual 100, 3) := dk_182 0 100 (dk_at dksX0_person_1 19 rfl rfl)
theorem dX0_person_46 : decode cX0_person 46 = .ok (.aload_n 0, 1) := dk_42 (dk_at dksX0_person_1 22 rfl rfl)
theorem dX0_person_47 : decode cX0_person 47 = .ok (.getfield 46, 3) := dk_180 0 46 (dk_at dksX0_person_2 0 rfl rfl)
theorem dX0_person_50 : decode cX0_person 50 = .ok (.getfield 93, 3) := dk_180 0 93 (dk_at dksX0_person_2 3 rfl rfl)
theorem dX0_person_53 : decode cX0_person 53 = .ok (.istore_n 3, 1) := dk_62 (dk_at dksX0_person_2 6 rfl rfl)
theorem dX0_person_54 : decode cX0_person 54 = .ok (.aload_n 0, 1) := dk_42 (dk_at dksX0_person_2 7 rfl rfl)
theorem dX0_person_55 : decode cX0_person 55 = .ok (.getfield 46, 3) := dk_180 0 46 (dk_at dksX0_person_2 8 rfl rfl)
theorem dX0_person_58 : decode cX0_person 58 = .ok (.getfield 147, 3) := dk_180 0 147 (dk_at dksX0_person_2 11 rfl rfl)
theorem dX0_person_61 : decode cX0_person 61 = .ok (.iload_n 3, 1) := dk_29 (dk_at dksX0_person_2 14 rfl rfl)
theorem dX0_person_62 : decode cX0_person 62 = .ok (.iload_n 1, 1) := dk_27 (dk_at dksX0_person_2 15 rfl rfl)
theorem dX0_person_63 : decode cX0_person 63 = .ok (.bipush 10, 2) := dk_16 10 (dk_at dksX0_person_2 16 rfl rfl)
theorem dX0_person_65 : decode cX0_person 65 = .ok (.idiv, 1) := dk_108 (dk_at dksX0_person_2 18 rfl rfl)
theorem dX0_person_66 : decode cX0_person 66 = .ok (.aload_n 0, 1) := dk_42 (dk_at dksX0_person_2 19 rfl rfl)
theorem dX0_person_67 : decode cX0_person 67 = .ok (.getfield 59, 3) := dk_180 0 59 (dk_at dksX0_person_2 20 rfl rfl)
theorem dX0_person_70 : decode cX0_person 70 = .ok (.iload_n 3, 1) := dk_29 (dk_at dksX0_person_2 23 rfl rfl)
theorem dX0_person_71 : decode cX0_person 71 = .ok (.iload_n 1, 1) := dk_27 (dk_at dksX0_person_3 0 rfl rfl)
theorem dX0_person_72 : decode cX0_person 72 = .ok (.bipush 10, 2) := dk_16 10 (dk_at dksX0_person_3 1 rfl rfl)
theorem dX0_person_74 : decode cX0_person 74 = .ok (.irem, 1) := dk_112 (dk_at dksX0_person_3 3 rfl rfl)
theorem dX0_person_75 : decode cX0_person 75 = .ok (.invokestatic 151, 3) := dk_184 0 151 (dk_at dksX0_person_3 4 rfl rfl)
theorem dX0_person_78 : decode cX0_person 78 = .ok (.aastore, 1) := dk_83 (dk_at dksX0_person_3 7 rfl rfl)
theorem dX0_person_79 : decode cX0_person 79 = .ok (.aload_n 0, 1) := dk_42 (dk_at dksX0_person_3 8 rfl rfl)
theorem dX0_person_80 : decode cX0_person 80 = .ok (.getfield 46, 3) := dk_180 0 46 (dk_at dksX0_person_3 9 rfl rfl)
theorem dX0_person_83 : decode cX0_person 83 = .ok (.getfield 134, 3) := dk_180 0 134 (dk_at dksX0_person_3 12 rfl rfl)
theorem dX0_person_86 : decode cX0_person 86 = .ok (.iload_n 3, 1) := dk_29 (dk_at dksX0_person_3 15 rfl rfl)
theorem dX0_person_87 : decode cX0_person 87 = .ok (.iload_n 2, 1) := dk_28 (dk_at dksX0_person_3 16 rfl rfl)
theorem dX0_person_88 : decode cX0_person 88 = .ok (.iastore, 1) := dk_79 (dk_at dksX0_person_3 17 rfl rfl)
theorem dX0_person_89 : decode cX0_person 89 = .ok (.aload_n 0, 1) := dk_42 (dk_at dksX0_person_3 18 rfl rfl)
theorem dX0_person_90 : decode cX0_person 90 = .ok (.getfield 46, 3) := dk_180 0 46 (dk_at dksX0_person_3 19 rfl rfl)
theorem dX0_person_93 : decode cX0_person 93 = .ok (.getfield 131, 3) := dk_180 0 131 (dk_at dksX0_person_4 0 rfl rfl)
theorem dX0_person_96 : decode cX0_person 96 = .ok (.iload_n 3, 1) := dk_29 (dk_at dksX0_person_4 3 rfl rfl)
theorem dX0_person_97 : decode cX0_person 97 = .ok (.iconst (-1), 1) := dk_2 (dk_at dksX0_person_4 4 rfl rfl)
theorem dX0_person_98 : decode cX0_person 98 = .ok (.iastore, 1) := dk_79 (dk_at dksX0_person_4 5 rfl rfl)
theorem dX0_person_99 : decode cX0_person 99 = .ok (.aload_n 0, 1) := dk_42 (dk_at dksX0_person_4 6 rfl rfl)
theorem dX0_person_100 : decode cX0_person 100 = .ok (.getfield 46, 3) := dk_180 0 46 (dk_at dksX0_person_4 7 rfl rfl)
theorem dX0_person_103 : decode cX0_person 103 = .ok (.getfield 155, 3) := dk_180 0 155 (dk_at dksX0_person_4 10 rfl rfl)
theorem dX0_person_106 : decode cX0_person 106 = .ok (.iload_n 3, 1) := dk_29 (dk_at dksX0_person_4 13 rfl rfl)
theorem dX0_person_107 : decode cX0_person 107 = .ok (.iconst 0, 1) := dk_3 (dk_at dksX0_person_4 14 rfl rfl)
theorem dX0_person_108 : decode cX0_person 108 = .ok (.iastore, 1) := dk_79 (dk_at dksX0_person_4 15 rfl rfl)
theorem dX0_person_109 : decode cX0_person 109 = .ok (.aload_n 0, 1) := dk_42 (dk_at dksX0_person_4 16 rfl rfl)
theorem dX0_person_110 : decode cX0_person 110 = .ok (.getfield 46, 3) := dk_180 0 46 (dk_at dksX0_person_4 17 rfl rfl)
theorem dX0_person_113 : decode cX0_person 113 = .ok (.getfield 127, 3) := dk_180 0 127 (dk_at dksX0_person_4 20 rfl rfl)
theorem dX0_person_116 : decode cX0_person 116 = .ok (.iload_n 3, 1) := dk_29 (dk_at dksX0_person_4 23 rfl rfl)
theorem dX0_person_117 : decode cX0_person 117 = .ok (.iconst 0, 1) := dk_3 (dk_at dksX0_person_5 0 rfl rfl)
theorem dX0_person_118 : decode cX0_person 118 = .ok (.bastore, 1) := dk_84 (dk_at dksX0_person_5 1 rfl rfl)
theorem dX0_person_119 : decode cX0_person 119 = .ok (.aload_n 0, 1) := dk_42 (dk_at dksX0_person_5 2 rfl rfl)
theorem dX0_person_120 : decode cX0_person 120 = .ok (.getfield 46, 3) := dk_180 0 46 (dk_at dksX0_person_5 3 rfl rfl)
theorem dX0_person_123 : decode cX0_person 123 = .ok (.dup, 1) := dk_89 (dk_at dksX0_person_5 6 rfl rfl)
theorem dX0_person_124 : decode cX0_person 124 = .ok (.getfield 93, 3) := dk_180 0 93 (dk_at dksX0_person_5 7 rfl rfl)
theorem dX0_person_127 : decode cX0_person 127 = .ok (.iconst 1, 1) := dk_4 (dk_at dksX0_person_5 10 rfl rfl)
theorem dX0_person_128 : decode cX0_person 128 = .ok (.iadd, 1) := dk_96 (dk_at dksX0_person_5 11 rfl rfl)
theorem dX0_person_129 : decode cX0_person 129 = .ok (.putfield 93, 3) := dk_181 0 93 (dk_at dksX0_person_5 12 rfl rfl)
theorem dX0_person_132 : decode cX0_person 132 = .ok (.iload_n 3, 1) := dk_29 (dk_at dksX0_person_5 15 rfl rfl)
theorem dX0_person_133 : decode cX0_person 133 = .ok (.ireturn, 1) := dk_172 (dk_at dksX0_person_5 16 rfl rfl)
theorem dX0_person_134 : decode cX0_person 134 = .ok (.astore_n 3, 1) := dk_78 (dk_at dksX0_person_5 17 rfl rfl)
theorem dX0_person_135 : decode cX0_person 135 = .ok (.aload_n 0, 1) := dk_42 (dk_at dksX0_person_5 18 rfl rfl)
theorem dX0_person_136 : decode cX0_person 136 = .ok (.aload_n 3, 1) := dk_45 (dk_at dksX0_person_5 19 rfl rfl)
theorem dX0_person_137 : decode cX0_person 137 = .ok (.invokevirtual 109, 3) := dk_182 0 109 (dk_at dksX0_person_5 20 rfl rfl)
theorem dX0_person_140 : decode cX0_person 140 = .ok (.ireturn, 1) := dk_172 (dk_at dksX0_person_5 23 rfl rfl)
abbrev cX0_isKind : ByteArray := prog_1_method_11_code
def yX0_isKind : MethodName := ⟨RX0, "isKind", "(I)Z"⟩
def dkwX0_isKind_0 : List UInt8 := [26, 3, 16, 69, 184, 0, 85, 172]
abbrev dktX0_isKind_0 : List UInt8 := dkwX0_isKind_0 ++ []
theorem dksX0_isKind_0 : cX0_isKind.data.toList.drop 0 = dktX0_isKind_0 := by decide +kernel
theorem dX0_isKind_0 : decode cX0_isKind 0 = .ok (.iload_n 0, 1) := dk_26 (dk_at dksX0_isKind_0 0 rfl rfl)
theorem dX0_isKind_1 : decode cX0_isKind 1 = .ok (.iconst 0, 1) := dk_3 (dk_at dksX0_isKind_0 1 rfl rfl)
theorem dX0_isKind_2 : decode cX0_isKind 2 = .ok (.bipush 69, 2) := dk_16 69 (dk_at dksX0_isKind_0 2 rfl rfl)
theorem dX0_isKind_4 : decode cX0_isKind 4 = .ok (.invokestatic 85, 3) := dk_184 0 85 (dk_at dksX0_isKind_0 4 rfl rfl)
theorem dX0_isKind_7 : decode cX0_isKind 7 = .ok (.ireturn, 1) := dk_172 (dk_at dksX0_isKind_0 7 rfl rfl)
abbrev cX0_personOf : ByteArray := prog_1_method_4_code
def yX0_personOf : MethodName := ⟨RX0, "personOf", "(ILWellNames$Trace;II)LWellNames$Drinker;"⟩
def dkwX0_personOf_5 : List UInt8 := [187, 0, 34, 89, 43, 28, 29, 183, 0, 36, 176]
abbrev dktX0_personOf_5 : List UInt8 := dkwX0_personOf_5 ++ []
def dkwX0_personOf_4 : List UInt8 := [187, 0, 28, 89, 43, 28, 29, 183, 0, 30, 176, 187, 0, 31, 89, 43, 28, 29, 183, 0, 33, 176]
abbrev dktX0_personOf_4 : List UInt8 := dkwX0_personOf_4 ++ dktX0_personOf_5
def dkwX0_personOf_3 : List UInt8 := [187, 0, 22, 89, 43, 28, 29, 183, 0, 24, 176, 187, 0, 25, 89, 43, 28, 29, 183, 0, 27, 176]
abbrev dktX0_personOf_3 : List UInt8 := dkwX0_personOf_3 ++ dktX0_personOf_4
def dkwX0_personOf_2 : List UInt8 := [187, 0, 13, 89, 43, 28, 29, 183, 0, 15, 176, 187, 0, 19, 89, 43, 28, 29, 183, 0, 21, 176]
abbrev dktX0_personOf_2 : List UInt8 := dkwX0_personOf_2 ++ dktX0_personOf_3
def dkwX0_personOf_1 : List UInt8 := [170, 0, 0, 0, 0, 0, 105, 0, 0, 0, 1, 0, 0, 0, 6, 0, 0, 0, 39, 0, 0, 0, 50, 0, 0, 0, 61, 0, 0, 0, 72, 0, 0, 0, 83, 0, 0, 0, 94]
abbrev dktX0_personOf_1 : List UInt8 := dkwX0_personOf_1 ++ dktX0_personOf_2
def dkwX0_personOf_0 : List UInt8 := [26]
abbrev dktX0_personOf_0 : List UInt8 := dkwX0_personOf_0 ++ dktX0_personOf_1
theorem dksX0_personOf_0 : cX0_personOf.data.toList.drop 0 = dktX0_personOf_0 := by decide +kernel
theorem dksX0_personOf_1 : cX0_personOf.data.toList.drop 1 = dktX0_personOf_1 := dk_seg dksX0_personOf_0 1 rfl rfl
theorem dksX0_personOf_2 : cX0_personOf.data.toList.drop 40 = dktX0_personOf_2 := dk_seg dksX0_personOf_1 39 rfl rfl
theorem dksX0_personOf_3 : cX0_personOf.data.toList.drop 62 = dktX0_personOf_3 := dk_seg dksX0_personOf_2 22 rfl rfl
theorem dksX0_personOf_4 : cX0_personOf.data.toList.drop 84 = dktX0_personOf_4 := dk_seg dksX0_personOf_3 22 rfl rfl
theorem dksX0_personOf_5 : cX0_personOf.data.toList.drop 106 = dktX0_personOf_5 := dk_seg dksX0_personOf_4 22 rfl rfl
theorem dX0_personOf_0 : decode cX0_personOf 0 = .ok (.iload_n 0, 1) := dk_26 (dk_at dksX0_personOf_0 0 rfl rfl)
theorem dX0_personOf_1 : decode cX0_personOf 1 = .ok (.tableswitch 105 1 6 #[39, 50, 61, 72, 83, 94], 39) := by decide +kernel
theorem dX0_personOf_40 : decode cX0_personOf 40 = .ok (.new 13, 3) := dk_187 0 13 (dk_at dksX0_personOf_2 0 rfl rfl)
theorem dX0_personOf_43 : decode cX0_personOf 43 = .ok (.dup, 1) := dk_89 (dk_at dksX0_personOf_2 3 rfl rfl)
theorem dX0_personOf_44 : decode cX0_personOf 44 = .ok (.aload_n 1, 1) := dk_43 (dk_at dksX0_personOf_2 4 rfl rfl)
theorem dX0_personOf_45 : decode cX0_personOf 45 = .ok (.iload_n 2, 1) := dk_28 (dk_at dksX0_personOf_2 5 rfl rfl)
theorem dX0_personOf_46 : decode cX0_personOf 46 = .ok (.iload_n 3, 1) := dk_29 (dk_at dksX0_personOf_2 6 rfl rfl)
theorem dX0_personOf_47 : decode cX0_personOf 47 = .ok (.invokespecial 15, 3) := dk_183 0 15 (dk_at dksX0_personOf_2 7 rfl rfl)
theorem dX0_personOf_50 : decode cX0_personOf 50 = .ok (.areturn, 1) := dk_176 (dk_at dksX0_personOf_2 10 rfl rfl)
theorem dX0_personOf_51 : decode cX0_personOf 51 = .ok (.new 19, 3) := dk_187 0 19 (dk_at dksX0_personOf_2 11 rfl rfl)
theorem dX0_personOf_54 : decode cX0_personOf 54 = .ok (.dup, 1) := dk_89 (dk_at dksX0_personOf_2 14 rfl rfl)
theorem dX0_personOf_55 : decode cX0_personOf 55 = .ok (.aload_n 1, 1) := dk_43 (dk_at dksX0_personOf_2 15 rfl rfl)
theorem dX0_personOf_56 : decode cX0_personOf 56 = .ok (.iload_n 2, 1) := dk_28 (dk_at dksX0_personOf_2 16 rfl rfl)
theorem dX0_personOf_57 : decode cX0_personOf 57 = .ok (.iload_n 3, 1) := dk_29 (dk_at dksX0_personOf_2 17 rfl rfl)
theorem dX0_personOf_58 : decode cX0_personOf 58 = .ok (.invokespecial 21, 3) := dk_183 0 21 (dk_at dksX0_personOf_2 18 rfl rfl)
theorem dX0_personOf_61 : decode cX0_personOf 61 = .ok (.areturn, 1) := dk_176 (dk_at dksX0_personOf_2 21 rfl rfl)
theorem dX0_personOf_62 : decode cX0_personOf 62 = .ok (.new 22, 3) := dk_187 0 22 (dk_at dksX0_personOf_3 0 rfl rfl)
theorem dX0_personOf_65 : decode cX0_personOf 65 = .ok (.dup, 1) := dk_89 (dk_at dksX0_personOf_3 3 rfl rfl)
theorem dX0_personOf_66 : decode cX0_personOf 66 = .ok (.aload_n 1, 1) := dk_43 (dk_at dksX0_personOf_3 4 rfl rfl)
theorem dX0_personOf_67 : decode cX0_personOf 67 = .ok (.iload_n 2, 1) := dk_28 (dk_at dksX0_personOf_3 5 rfl rfl)
theorem dX0_personOf_68 : decode cX0_personOf 68 = .ok (.iload_n 3, 1) := dk_29 (dk_at dksX0_personOf_3 6 rfl rfl)
theorem dX0_personOf_69 : decode cX0_personOf 69 = .ok (.invokespecial 24, 3) := dk_183 0 24 (dk_at dksX0_personOf_3 7 rfl rfl)
theorem dX0_personOf_72 : decode cX0_personOf 72 = .ok (.areturn, 1) := dk_176 (dk_at dksX0_personOf_3 10 rfl rfl)
theorem dX0_personOf_73 : decode cX0_personOf 73 = .ok (.new 25, 3) := dk_187 0 25 (dk_at dksX0_personOf_3 11 rfl rfl)
theorem dX0_personOf_76 : decode cX0_personOf 76 = .ok (.dup, 1) := dk_89 (dk_at dksX0_personOf_3 14 rfl rfl)
theorem dX0_personOf_77 : decode cX0_personOf 77 = .ok (.aload_n 1, 1) := dk_43 (dk_at dksX0_personOf_3 15 rfl rfl)
theorem dX0_personOf_78 : decode cX0_personOf 78 = .ok (.iload_n 2, 1) := dk_28 (dk_at dksX0_personOf_3 16 rfl rfl)
theorem dX0_personOf_79 : decode cX0_personOf 79 = .ok (.iload_n 3, 1) := dk_29 (dk_at dksX0_personOf_3 17 rfl rfl)
theorem dX0_personOf_80 : decode cX0_personOf 80 = .ok (.invokespecial 27, 3) := dk_183 0 27 (dk_at dksX0_personOf_3 18 rfl rfl)
theorem dX0_personOf_83 : decode cX0_personOf 83 = .ok (.areturn, 1) := dk_176 (dk_at dksX0_personOf_3 21 rfl rfl)
theorem dX0_personOf_84 : decode cX0_personOf 84 = .ok (.new 28, 3) := dk_187 0 28 (dk_at dksX0_personOf_4 0 rfl rfl)
theorem dX0_personOf_87 : decode cX0_personOf 87 = .ok (.dup, 1) := dk_89 (dk_at dksX0_personOf_4 3 rfl rfl)
theorem dX0_personOf_88 : decode cX0_personOf 88 = .ok (.aload_n 1, 1) := dk_43 (dk_at dksX0_personOf_4 4 rfl rfl)
theorem dX0_personOf_89 : decode cX0_personOf 89 = .ok (.iload_n 2, 1) := dk_28 (dk_at dksX0_personOf_4 5 rfl rfl)
theorem dX0_personOf_90 : decode cX0_personOf 90 = .ok (.iload_n 3, 1) := dk_29 (dk_at dksX0_personOf_4 6 rfl rfl)
theorem dX0_personOf_91 : decode cX0_personOf 91 = .ok (.invokespecial 30, 3) := dk_183 0 30 (dk_at dksX0_personOf_4 7 rfl rfl)
theorem dX0_personOf_94 : decode cX0_personOf 94 = .ok (.areturn, 1) := dk_176 (dk_at dksX0_personOf_4 10 rfl rfl)
theorem dX0_personOf_95 : decode cX0_personOf 95 = .ok (.new 31, 3) := dk_187 0 31 (dk_at dksX0_personOf_4 11 rfl rfl)
theorem dX0_personOf_98 : decode cX0_personOf 98 = .ok (.dup, 1) := dk_89 (dk_at dksX0_personOf_4 14 rfl rfl)
theorem dX0_personOf_99 : decode cX0_personOf 99 = .ok (.aload_n 1, 1) := dk_43 (dk_at dksX0_personOf_4 15 rfl rfl)
theorem dX0_personOf_100 : decode cX0_personOf 100 = .ok (.iload_n 2, 1) := dk_28 (dk_at dksX0_personOf_4 16 rfl rfl)
theorem dX0_personOf_101 : decode cX0_personOf 101 = .ok (.iload_n 3, 1) := dk_29 (dk_at dksX0_personOf_4 17 rfl rfl)
theorem dX0_personOf_102 : decode cX0_personOf 102 = .ok (.invokespecial 33, 3) := dk_183 0 33 (dk_at dksX0_personOf_4 18 rfl rfl)
theorem dX0_personOf_105 : decode cX0_personOf 105 = .ok (.areturn, 1) := dk_176 (dk_at dksX0_personOf_4 21 rfl rfl)
theorem dX0_personOf_106 : decode cX0_personOf 106 = .ok (.new 34, 3) := dk_187 0 34 (dk_at dksX0_personOf_5 0 rfl rfl)
theorem dX0_personOf_109 : decode cX0_personOf 109 = .ok (.dup, 1) := dk_89 (dk_at dksX0_personOf_5 3 rfl rfl)
theorem dX0_personOf_110 : decode cX0_personOf 110 = .ok (.aload_n 1, 1) := dk_43 (dk_at dksX0_personOf_5 4 rfl rfl)
theorem dX0_personOf_111 : decode cX0_personOf 111 = .ok (.iload_n 2, 1) := dk_28 (dk_at dksX0_personOf_5 5 rfl rfl)
theorem dX0_personOf_112 : decode cX0_personOf 112 = .ok (.iload_n 3, 1) := dk_29 (dk_at dksX0_personOf_5 6 rfl rfl)
theorem dX0_personOf_113 : decode cX0_personOf 113 = .ok (.invokespecial 36, 3) := dk_183 0 36 (dk_at dksX0_personOf_5 7 rfl rfl)
theorem dX0_personOf_116 : decode cX0_personOf 116 = .ok (.areturn, 1) := dk_176 (dk_at dksX0_personOf_5 10 rfl rfl)
abbrev cX0_ofPerson : ByteArray := prog_1_method_22_code
def yX0_ofPerson : MethodName := ⟨RX0, "ofPerson", "(II)I"⟩
def dkwX0_ofPerson_5 : List UInt8 := [42, 180, 0, 46, 42, 180, 0, 46, 180, 0, 131, 27, 46, 182, 0, 137, 172, 78, 42, 45, 182, 0, 109, 172]
abbrev dktX0_ofPerson_5 : List UInt8 := dkwX0_ofPerson_5 ++ []
def dkwX0_ofPerson_4 : List UInt8 := [51, 153, 0, 7, 4, 167, 0, 4, 3, 172, 45, 182, 0, 172, 172, 42, 180, 0, 46, 27, 182, 0, 175, 172]
abbrev dktX0_ofPerson_4 : List UInt8 := dkwX0_ofPerson_4 ++ dktX0_ofPerson_5
def dkwX0_ofPerson_3 : List UInt8 := [180, 0, 131, 27, 46, 172, 42, 180, 0, 46, 180, 0, 155, 27, 46, 172, 42, 180, 0, 46, 180, 0, 127, 27]
abbrev dktX0_ofPerson_3 : List UInt8 := dkwX0_ofPerson_3 ++ dktX0_ofPerson_4
def dkwX0_ofPerson_2 : List UInt8 := [45, 182, 0, 165, 172, 45, 180, 0, 169, 172, 42, 180, 0, 46, 180, 0, 134, 27, 46, 172, 42, 180, 0, 46]
abbrev dktX0_ofPerson_2 : List UInt8 := dkwX0_ofPerson_2 ++ dktX0_ofPerson_3
def dkwX0_ofPerson_1 : List UInt8 := [170, 0, 0, 0, 0, 118, 0, 0, 0, 0, 0, 0, 0, 7, 0, 0, 0, 46, 0, 0, 0, 51, 0, 0, 0, 56, 0, 0, 0, 66, 0, 0, 0, 76, 0, 0, 0, 86, 0, 0, 0, 104, 0, 0, 0, 109]
abbrev dktX0_ofPerson_1 : List UInt8 := dkwX0_ofPerson_1 ++ dktX0_ofPerson_2
def dkwX0_ofPerson_0 : List UInt8 := [42, 27, 28, 3, 16, 8, 184, 0, 85, 182, 0, 161, 78, 28]
abbrev dktX0_ofPerson_0 : List UInt8 := dkwX0_ofPerson_0 ++ dktX0_ofPerson_1
theorem dksX0_ofPerson_0 : cX0_ofPerson.data.toList.drop 0 = dktX0_ofPerson_0 := by decide +kernel
theorem dksX0_ofPerson_1 : cX0_ofPerson.data.toList.drop 14 = dktX0_ofPerson_1 := dk_seg dksX0_ofPerson_0 14 rfl rfl
theorem dksX0_ofPerson_2 : cX0_ofPerson.data.toList.drop 60 = dktX0_ofPerson_2 := dk_seg dksX0_ofPerson_1 46 rfl rfl
theorem dksX0_ofPerson_3 : cX0_ofPerson.data.toList.drop 84 = dktX0_ofPerson_3 := dk_seg dksX0_ofPerson_2 24 rfl rfl
theorem dksX0_ofPerson_4 : cX0_ofPerson.data.toList.drop 108 = dktX0_ofPerson_4 := dk_seg dksX0_ofPerson_3 24 rfl rfl
theorem dksX0_ofPerson_5 : cX0_ofPerson.data.toList.drop 132 = dktX0_ofPerson_5 := dk_seg dksX0_ofPerson_4 24 rfl rfl
theorem dX0_ofPerson_0 : decode cX0_ofPerson 0 = .ok (.aload_n 0, 1) := dk_42 (dk_at dksX0_ofPerson_0 0 rfl rfl)
theorem dX0_ofPerson_1 : decode cX0_ofPerson 1 = .ok (.iload_n 1, 1) := dk_27 (dk_at dksX0_ofPerson_0 1 rfl rfl)
theorem dX0_ofPerson_2 : decode cX0_ofPerson 2 = .ok (.iload_n 2, 1) := dk_28 (dk_at dksX0_ofPerson_0 2 rfl rfl)
theorem dX0_ofPerson_3 : decode cX0_ofPerson 3 = .ok (.iconst 0, 1) := dk_3 (dk_at dksX0_ofPerson_0 3 rfl rfl)
theorem dX0_ofPerson_4 : decode cX0_ofPerson 4 = .ok (.bipush 8, 2) := dk_16 8 (dk_at dksX0_ofPerson_0 4 rfl rfl)
theorem dX0_ofPerson_6 : decode cX0_ofPerson 6 = .ok (.invokestatic 85, 3) := dk_184 0 85 (dk_at dksX0_ofPerson_0 6 rfl rfl)
theorem dX0_ofPerson_9 : decode cX0_ofPerson 9 = .ok (.invokevirtual 161, 3) := dk_182 0 161 (dk_at dksX0_ofPerson_0 9 rfl rfl)
theorem dX0_ofPerson_12 : decode cX0_ofPerson 12 = .ok (.astore_n 3, 1) := dk_78 (dk_at dksX0_ofPerson_0 12 rfl rfl)
theorem dX0_ofPerson_13 : decode cX0_ofPerson 13 = .ok (.iload_n 2, 1) := dk_28 (dk_at dksX0_ofPerson_0 13 rfl rfl)
theorem dX0_ofPerson_14 : decode cX0_ofPerson 14 = .ok (.tableswitch 118 0 7 #[46, 51, 56, 66, 76, 86, 104, 109], 46) := by decide +kernel
theorem dX0_ofPerson_60 : decode cX0_ofPerson 60 = .ok (.aload_n 3, 1) := dk_45 (dk_at dksX0_ofPerson_2 0 rfl rfl)
theorem dX0_ofPerson_61 : decode cX0_ofPerson 61 = .ok (.invokevirtual 165, 3) := dk_182 0 165 (dk_at dksX0_ofPerson_2 1 rfl rfl)
theorem dX0_ofPerson_64 : decode cX0_ofPerson 64 = .ok (.ireturn, 1) := dk_172 (dk_at dksX0_ofPerson_2 4 rfl rfl)
theorem dX0_ofPerson_65 : decode cX0_ofPerson 65 = .ok (.aload_n 3, 1) := dk_45 (dk_at dksX0_ofPerson_2 5 rfl rfl)
theorem dX0_ofPerson_66 : decode cX0_ofPerson 66 = .ok (.getfield 169, 3) := dk_180 0 169 (dk_at dksX0_ofPerson_2 6 rfl rfl)
theorem dX0_ofPerson_69 : decode cX0_ofPerson 69 = .ok (.ireturn, 1) := dk_172 (dk_at dksX0_ofPerson_2 9 rfl rfl)
theorem dX0_ofPerson_70 : decode cX0_ofPerson 70 = .ok (.aload_n 0, 1) := dk_42 (dk_at dksX0_ofPerson_2 10 rfl rfl)
theorem dX0_ofPerson_71 : decode cX0_ofPerson 71 = .ok (.getfield 46, 3) := dk_180 0 46 (dk_at dksX0_ofPerson_2 11 rfl rfl)
theorem dX0_ofPerson_74 : decode cX0_ofPerson 74 = .ok (.getfield 134, 3) := dk_180 0 134 (dk_at dksX0_ofPerson_2 14 rfl rfl)
theorem dX0_ofPerson_77 : decode cX0_ofPerson 77 = .ok (.iload_n 1, 1) := dk_27 (dk_at dksX0_ofPerson_2 17 rfl rfl)
theorem dX0_ofPerson_78 : decode cX0_ofPerson 78 = .ok (.iaload, 1) := dk_46 (dk_at dksX0_ofPerson_2 18 rfl rfl)
theorem dX0_ofPerson_79 : decode cX0_ofPerson 79 = .ok (.ireturn, 1) := dk_172 (dk_at dksX0_ofPerson_2 19 rfl rfl)
theorem dX0_ofPerson_80 : decode cX0_ofPerson 80 = .ok (.aload_n 0, 1) := dk_42 (dk_at dksX0_ofPerson_2 20 rfl rfl)
theorem dX0_ofPerson_81 : decode cX0_ofPerson 81 = .ok (.getfield 46, 3) := dk_180 0 46 (dk_at dksX0_ofPerson_2 21 rfl rfl)
theorem dX0_ofPerson_84 : decode cX0_ofPerson 84 = .ok (.getfield 131, 3) := dk_180 0 131 (dk_at dksX0_ofPerson_3 0 rfl rfl)
theorem dX0_ofPerson_87 : decode cX0_ofPerson 87 = .ok (.iload_n 1, 1) := dk_27 (dk_at dksX0_ofPerson_3 3 rfl rfl)
theorem dX0_ofPerson_88 : decode cX0_ofPerson 88 = .ok (.iaload, 1) := dk_46 (dk_at dksX0_ofPerson_3 4 rfl rfl)
theorem dX0_ofPerson_89 : decode cX0_ofPerson 89 = .ok (.ireturn, 1) := dk_172 (dk_at dksX0_ofPerson_3 5 rfl rfl)
theorem dX0_ofPerson_90 : decode cX0_ofPerson 90 = .ok (.aload_n 0, 1) := dk_42 (dk_at dksX0_ofPerson_3 6 rfl rfl)
theorem dX0_ofPerson_91 : decode cX0_ofPerson 91 = .ok (.getfield 46, 3) := dk_180 0 46 (dk_at dksX0_ofPerson_3 7 rfl rfl)
theorem dX0_ofPerson_94 : decode cX0_ofPerson 94 = .ok (.getfield 155, 3) := dk_180 0 155 (dk_at dksX0_ofPerson_3 10 rfl rfl)
theorem dX0_ofPerson_97 : decode cX0_ofPerson 97 = .ok (.iload_n 1, 1) := dk_27 (dk_at dksX0_ofPerson_3 13 rfl rfl)
theorem dX0_ofPerson_98 : decode cX0_ofPerson 98 = .ok (.iaload, 1) := dk_46 (dk_at dksX0_ofPerson_3 14 rfl rfl)
theorem dX0_ofPerson_99 : decode cX0_ofPerson 99 = .ok (.ireturn, 1) := dk_172 (dk_at dksX0_ofPerson_3 15 rfl rfl)
theorem dX0_ofPerson_100 : decode cX0_ofPerson 100 = .ok (.aload_n 0, 1) := dk_42 (dk_at dksX0_ofPerson_3 16 rfl rfl)
theorem dX0_ofPerson_101 : decode cX0_ofPerson 101 = .ok (.getfield 46, 3) := dk_180 0 46 (dk_at dksX0_ofPerson_3 17 rfl rfl)
theorem dX0_ofPerson_104 : decode cX0_ofPerson 104 = .ok (.getfield 127, 3) := dk_180 0 127 (dk_at dksX0_ofPerson_3 20 rfl rfl)
theorem dX0_ofPerson_107 : decode cX0_ofPerson 107 = .ok (.iload_n 1, 1) := dk_27 (dk_at dksX0_ofPerson_3 23 rfl rfl)
theorem dX0_ofPerson_108 : decode cX0_ofPerson 108 = .ok (.baload, 1) := dk_51 (dk_at dksX0_ofPerson_4 0 rfl rfl)
theorem dX0_ofPerson_109 : decode cX0_ofPerson 109 = .ok (.ifCond .eq 7, 3) := dk_153 0 7 (dk_at dksX0_ofPerson_4 1 rfl rfl)
theorem dX0_ofPerson_112 : decode cX0_ofPerson 112 = .ok (.iconst 1, 1) := dk_4 (dk_at dksX0_ofPerson_4 4 rfl rfl)
theorem dX0_ofPerson_113 : decode cX0_ofPerson 113 = .ok (.goto 4, 3) := dk_167 0 4 (dk_at dksX0_ofPerson_4 5 rfl rfl)
theorem dX0_ofPerson_116 : decode cX0_ofPerson 116 = .ok (.iconst 0, 1) := dk_3 (dk_at dksX0_ofPerson_4 8 rfl rfl)
theorem dX0_ofPerson_117 : decode cX0_ofPerson 117 = .ok (.ireturn, 1) := dk_172 (dk_at dksX0_ofPerson_4 9 rfl rfl)
theorem dX0_ofPerson_118 : decode cX0_ofPerson 118 = .ok (.aload_n 3, 1) := dk_45 (dk_at dksX0_ofPerson_4 10 rfl rfl)
theorem dX0_ofPerson_119 : decode cX0_ofPerson 119 = .ok (.invokevirtual 172, 3) := dk_182 0 172 (dk_at dksX0_ofPerson_4 11 rfl rfl)
theorem dX0_ofPerson_122 : decode cX0_ofPerson 122 = .ok (.ireturn, 1) := dk_172 (dk_at dksX0_ofPerson_4 14 rfl rfl)
theorem dX0_ofPerson_123 : decode cX0_ofPerson 123 = .ok (.aload_n 0, 1) := dk_42 (dk_at dksX0_ofPerson_4 15 rfl rfl)
theorem dX0_ofPerson_124 : decode cX0_ofPerson 124 = .ok (.getfield 46, 3) := dk_180 0 46 (dk_at dksX0_ofPerson_4 16 rfl rfl)
theorem dX0_ofPerson_127 : decode cX0_ofPerson 127 = .ok (.iload_n 1, 1) := dk_27 (dk_at dksX0_ofPerson_4 19 rfl rfl)
theorem dX0_ofPerson_128 : decode cX0_ofPerson 128 = .ok (.invokevirtual 175, 3) := dk_182 0 175 (dk_at dksX0_ofPerson_4 20 rfl rfl)
theorem dX0_ofPerson_131 : decode cX0_ofPerson 131 = .ok (.ireturn, 1) := dk_172 (dk_at dksX0_ofPerson_4 23 rfl rfl)
theorem dX0_ofPerson_132 : decode cX0_ofPerson 132 = .ok (.aload_n 0, 1) := dk_42 (dk_at dksX0_ofPerson_5 0 rfl rfl)
theorem dX0_ofPerson_133 : decode cX0_ofPerson 133 = .ok (.getfield 46, 3) := dk_180 0 46 (dk_at dksX0_ofPerson_5 1 rfl rfl)
theorem dX0_ofPerson_136 : decode cX0_ofPerson 136 = .ok (.aload_n 0, 1) := dk_42 (dk_at dksX0_ofPerson_5 4 rfl rfl)
theorem dX0_ofPerson_137 : decode cX0_ofPerson 137 = .ok (.getfield 46, 3) := dk_180 0 46 (dk_at dksX0_ofPerson_5 5 rfl rfl)
theorem dX0_ofPerson_140 : decode cX0_ofPerson 140 = .ok (.getfield 131, 3) := dk_180 0 131 (dk_at dksX0_ofPerson_5 8 rfl rfl)
theorem dX0_ofPerson_143 : decode cX0_ofPerson 143 = .ok (.iload_n 1, 1) := dk_27 (dk_at dksX0_ofPerson_5 11 rfl rfl)
theorem dX0_ofPerson_144 : decode cX0_ofPerson 144 = .ok (.iaload, 1) := dk_46 (dk_at dksX0_ofPerson_5 12 rfl rfl)
theorem dX0_ofPerson_145 : decode cX0_ofPerson 145 = .ok (.invokevirtual 137, 3) := dk_182 0 137 (dk_at dksX0_ofPerson_5 13 rfl rfl)
theorem dX0_ofPerson_148 : decode cX0_ofPerson 148 = .ok (.ireturn, 1) := dk_172 (dk_at dksX0_ofPerson_5 16 rfl rfl)
theorem dX0_ofPerson_149 : decode cX0_ofPerson 149 = .ok (.astore_n 3, 1) := dk_78 (dk_at dksX0_ofPerson_5 17 rfl rfl)
theorem dX0_ofPerson_150 : decode cX0_ofPerson 150 = .ok (.aload_n 0, 1) := dk_42 (dk_at dksX0_ofPerson_5 18 rfl rfl)
theorem dX0_ofPerson_151 : decode cX0_ofPerson 151 = .ok (.aload_n 3, 1) := dk_45 (dk_at dksX0_ofPerson_5 19 rfl rfl)
theorem dX0_ofPerson_152 : decode cX0_ofPerson 152 = .ok (.invokevirtual 109, 3) := dk_182 0 109 (dk_at dksX0_ofPerson_5 20 rfl rfl)
theorem dX0_ofPerson_155 : decode cX0_ofPerson 155 = .ok (.ireturn, 1) := dk_172 (dk_at dksX0_ofPerson_5 23 rfl rfl)
abbrev cX0_personAt : ByteArray := prog_1_method_21_code
def yX0_personAt : MethodName := ⟨RX0, "personAt", "(IZ)LWellNames$Drinker;"⟩
def dkwX0_personAt_1 : List UInt8 := [180, 0, 46, 180, 0, 147, 27, 50, 176]
abbrev dktX0_personAt_1 : List UInt8 := dkwX0_personAt_1 ++ []
def dkwX0_personAt_0 : List UInt8 := [42, 42, 27, 182, 0, 158, 153, 0, 11, 28, 153, 0, 7, 4, 167, 0, 4, 3, 4, 182, 0, 100, 42]
abbrev dktX0_personAt_0 : List UInt8 := dkwX0_personAt_0 ++ dktX0_personAt_1
theorem dksX0_personAt_0 : cX0_personAt.data.toList.drop 0 = dktX0_personAt_0 := by decide +kernel
theorem dksX0_personAt_1 : cX0_personAt.data.toList.drop 23 = dktX0_personAt_1 := dk_seg dksX0_personAt_0 23 rfl rfl
theorem dX0_personAt_0 : decode cX0_personAt 0 = .ok (.aload_n 0, 1) := dk_42 (dk_at dksX0_personAt_0 0 rfl rfl)
theorem dX0_personAt_1 : decode cX0_personAt 1 = .ok (.aload_n 0, 1) := dk_42 (dk_at dksX0_personAt_0 1 rfl rfl)
theorem dX0_personAt_2 : decode cX0_personAt 2 = .ok (.iload_n 1, 1) := dk_27 (dk_at dksX0_personAt_0 2 rfl rfl)
theorem dX0_personAt_3 : decode cX0_personAt 3 = .ok (.invokevirtual 158, 3) := dk_182 0 158 (dk_at dksX0_personAt_0 3 rfl rfl)
theorem dX0_personAt_6 : decode cX0_personAt 6 = .ok (.ifCond .eq 11, 3) := dk_153 0 11 (dk_at dksX0_personAt_0 6 rfl rfl)
theorem dX0_personAt_9 : decode cX0_personAt 9 = .ok (.iload_n 2, 1) := dk_28 (dk_at dksX0_personAt_0 9 rfl rfl)
theorem dX0_personAt_10 : decode cX0_personAt 10 = .ok (.ifCond .eq 7, 3) := dk_153 0 7 (dk_at dksX0_personAt_0 10 rfl rfl)
theorem dX0_personAt_13 : decode cX0_personAt 13 = .ok (.iconst 1, 1) := dk_4 (dk_at dksX0_personAt_0 13 rfl rfl)
theorem dX0_personAt_14 : decode cX0_personAt 14 = .ok (.goto 4, 3) := dk_167 0 4 (dk_at dksX0_personAt_0 14 rfl rfl)
theorem dX0_personAt_17 : decode cX0_personAt 17 = .ok (.iconst 0, 1) := dk_3 (dk_at dksX0_personAt_0 17 rfl rfl)
theorem dX0_personAt_18 : decode cX0_personAt 18 = .ok (.iconst 1, 1) := dk_4 (dk_at dksX0_personAt_0 18 rfl rfl)
theorem dX0_personAt_19 : decode cX0_personAt 19 = .ok (.invokevirtual 100, 3) := dk_182 0 100 (dk_at dksX0_personAt_0 19 rfl rfl)
theorem dX0_personAt_22 : decode cX0_personAt 22 = .ok (.aload_n 0, 1) := dk_42 (dk_at dksX0_personAt_0 22 rfl rfl)
theorem dX0_personAt_23 : decode cX0_personAt 23 = .ok (.getfield 46, 3) := dk_180 0 46 (dk_at dksX0_personAt_1 0 rfl rfl)
theorem dX0_personAt_26 : decode cX0_personAt 26 = .ok (.getfield 147, 3) := dk_180 0 147 (dk_at dksX0_personAt_1 3 rfl rfl)
theorem dX0_personAt_29 : decode cX0_personAt 29 = .ok (.iload_n 1, 1) := dk_27 (dk_at dksX0_personAt_1 6 rfl rfl)
theorem dX0_personAt_30 : decode cX0_personAt 30 = .ok (.aaload, 1) := dk_50 (dk_at dksX0_personAt_1 7 rfl rfl)
theorem dX0_personAt_31 : decode cX0_personAt 31 = .ok (.areturn, 1) := dk_176 (dk_at dksX0_personAt_1 8 rfl rfl)
abbrev cX0_isPerson : ByteArray := prog_1_method_10_code
def yX0_isPerson : MethodName := ⟨RX0, "isPerson", "(I)Z"⟩
def dkwX0_isPerson_0 : List UInt8 := [27, 3, 42, 180, 0, 46, 180, 0, 93, 4, 100, 184, 0, 85, 172]
abbrev dktX0_isPerson_0 : List UInt8 := dkwX0_isPerson_0 ++ []
theorem dksX0_isPerson_0 : cX0_isPerson.data.toList.drop 0 = dktX0_isPerson_0 := by decide +kernel
theorem dX0_isPerson_0 : decode cX0_isPerson 0 = .ok (.iload_n 1, 1) := dk_27 (dk_at dksX0_isPerson_0 0 rfl rfl)
theorem dX0_isPerson_1 : decode cX0_isPerson 1 = .ok (.iconst 0, 1) := dk_3 (dk_at dksX0_isPerson_0 1 rfl rfl)
theorem dX0_isPerson_2 : decode cX0_isPerson 2 = .ok (.aload_n 0, 1) := dk_42 (dk_at dksX0_isPerson_0 2 rfl rfl)
theorem dX0_isPerson_3 : decode cX0_isPerson 3 = .ok (.getfield 46, 3) := dk_180 0 46 (dk_at dksX0_isPerson_0 3 rfl rfl)
theorem dX0_isPerson_6 : decode cX0_isPerson 6 = .ok (.getfield 93, 3) := dk_180 0 93 (dk_at dksX0_isPerson_0 6 rfl rfl)
theorem dX0_isPerson_9 : decode cX0_isPerson 9 = .ok (.iconst 1, 1) := dk_4 (dk_at dksX0_isPerson_0 9 rfl rfl)
theorem dX0_isPerson_10 : decode cX0_isPerson 10 = .ok (.isub, 1) := dk_100 (dk_at dksX0_isPerson_0 10 rfl rfl)
theorem dX0_isPerson_11 : decode cX0_isPerson 11 = .ok (.invokestatic 85, 3) := dk_184 0 85 (dk_at dksX0_isPerson_0 11 rfl rfl)
theorem dX0_isPerson_14 : decode cX0_isPerson 14 = .ok (.ireturn, 1) := dk_172 (dk_at dksX0_isPerson_0 14 rfl rfl)
abbrev cX0_become : ByteArray := prog_1_method_23_code
def yX0_become : MethodName := ⟨RX0, "become", "(II)I"⟩
def dkwX0_become_1 : List UInt8 := [180, 0, 59, 27, 28, 16, 10, 112, 184, 0, 151, 83, 45, 182, 0, 165, 172, 78, 42, 45, 182, 0, 109, 172]
abbrev dktX0_become_1 : List UInt8 := dkwX0_become_1 ++ []
def dkwX0_become_0 : List UInt8 := [42, 27, 28, 184, 0, 144, 182, 0, 161, 78, 42, 180, 0, 46, 180, 0, 147, 27, 28, 16, 10, 108, 42]
abbrev dktX0_become_0 : List UInt8 := dkwX0_become_0 ++ dktX0_become_1
theorem dksX0_become_0 : cX0_become.data.toList.drop 0 = dktX0_become_0 := by decide +kernel
theorem dksX0_become_1 : cX0_become.data.toList.drop 23 = dktX0_become_1 := dk_seg dksX0_become_0 23 rfl rfl
theorem dX0_become_0 : decode cX0_become 0 = .ok (.aload_n 0, 1) := dk_42 (dk_at dksX0_become_0 0 rfl rfl)
theorem dX0_become_1 : decode cX0_become 1 = .ok (.iload_n 1, 1) := dk_27 (dk_at dksX0_become_0 1 rfl rfl)
theorem dX0_become_2 : decode cX0_become 2 = .ok (.iload_n 2, 1) := dk_28 (dk_at dksX0_become_0 2 rfl rfl)
theorem dX0_become_3 : decode cX0_become 3 = .ok (.invokestatic 144, 3) := dk_184 0 144 (dk_at dksX0_become_0 3 rfl rfl)
theorem dX0_become_6 : decode cX0_become 6 = .ok (.invokevirtual 161, 3) := dk_182 0 161 (dk_at dksX0_become_0 6 rfl rfl)
theorem dX0_become_9 : decode cX0_become 9 = .ok (.astore_n 3, 1) := dk_78 (dk_at dksX0_become_0 9 rfl rfl)
theorem dX0_become_10 : decode cX0_become 10 = .ok (.aload_n 0, 1) := dk_42 (dk_at dksX0_become_0 10 rfl rfl)
theorem dX0_become_11 : decode cX0_become 11 = .ok (.getfield 46, 3) := dk_180 0 46 (dk_at dksX0_become_0 11 rfl rfl)
theorem dX0_become_14 : decode cX0_become 14 = .ok (.getfield 147, 3) := dk_180 0 147 (dk_at dksX0_become_0 14 rfl rfl)
theorem dX0_become_17 : decode cX0_become 17 = .ok (.iload_n 1, 1) := dk_27 (dk_at dksX0_become_0 17 rfl rfl)
theorem dX0_become_18 : decode cX0_become 18 = .ok (.iload_n 2, 1) := dk_28 (dk_at dksX0_become_0 18 rfl rfl)
theorem dX0_become_19 : decode cX0_become 19 = .ok (.bipush 10, 2) := dk_16 10 (dk_at dksX0_become_0 19 rfl rfl)
theorem dX0_become_21 : decode cX0_become 21 = .ok (.idiv, 1) := dk_108 (dk_at dksX0_become_0 21 rfl rfl)
theorem dX0_become_22 : decode cX0_become 22 = .ok (.aload_n 0, 1) := dk_42 (dk_at dksX0_become_0 22 rfl rfl)
theorem dX0_become_23 : decode cX0_become 23 = .ok (.getfield 59, 3) := dk_180 0 59 (dk_at dksX0_become_1 0 rfl rfl)
theorem dX0_become_26 : decode cX0_become 26 = .ok (.iload_n 1, 1) := dk_27 (dk_at dksX0_become_1 3 rfl rfl)
theorem dX0_become_27 : decode cX0_become 27 = .ok (.iload_n 2, 1) := dk_28 (dk_at dksX0_become_1 4 rfl rfl)
theorem dX0_become_28 : decode cX0_become 28 = .ok (.bipush 10, 2) := dk_16 10 (dk_at dksX0_become_1 5 rfl rfl)
theorem dX0_become_30 : decode cX0_become 30 = .ok (.irem, 1) := dk_112 (dk_at dksX0_become_1 7 rfl rfl)
theorem dX0_become_31 : decode cX0_become 31 = .ok (.invokestatic 151, 3) := dk_184 0 151 (dk_at dksX0_become_1 8 rfl rfl)
theorem dX0_become_34 : decode cX0_become 34 = .ok (.aastore, 1) := dk_83 (dk_at dksX0_become_1 11 rfl rfl)
theorem dX0_become_35 : decode cX0_become 35 = .ok (.aload_n 3, 1) := dk_45 (dk_at dksX0_become_1 12 rfl rfl)
theorem dX0_become_36 : decode cX0_become 36 = .ok (.invokevirtual 165, 3) := dk_182 0 165 (dk_at dksX0_become_1 13 rfl rfl)
theorem dX0_become_39 : decode cX0_become 39 = .ok (.ireturn, 1) := dk_172 (dk_at dksX0_become_1 16 rfl rfl)
theorem dX0_become_40 : decode cX0_become 40 = .ok (.astore_n 3, 1) := dk_78 (dk_at dksX0_become_1 17 rfl rfl)
theorem dX0_become_41 : decode cX0_become 41 = .ok (.aload_n 0, 1) := dk_42 (dk_at dksX0_become_1 18 rfl rfl)
theorem dX0_become_42 : decode cX0_become 42 = .ok (.aload_n 3, 1) := dk_45 (dk_at dksX0_become_1 19 rfl rfl)
theorem dX0_become_43 : decode cX0_become 43 = .ok (.invokevirtual 109, 3) := dk_182 0 109 (dk_at dksX0_become_1 20 rfl rfl)
theorem dX0_become_46 : decode cX0_become 46 = .ok (.ireturn, 1) := dk_172 (dk_at dksX0_become_1 23 rfl rfl)
abbrev cX0_as : ByteArray := prog_1_method_24_code
def yX0_as : MethodName := ⟨RX0, "as", "(II)I"⟩
def dkwX0_as_1 : List UInt8 := [180, 0, 169, 172, 78, 42, 45, 182, 0, 109, 172]
abbrev dktX0_as_1 : List UInt8 := dkwX0_as_1 ++ []
def dkwX0_as_0 : List UInt8 := [42, 27, 28, 3, 16, 6, 184, 0, 85, 182, 0, 161, 78, 42, 45, 28, 182, 0, 178, 8, 182, 0, 100, 45]
abbrev dktX0_as_0 : List UInt8 := dkwX0_as_0 ++ dktX0_as_1
theorem dksX0_as_0 : cX0_as.data.toList.drop 0 = dktX0_as_0 := by decide +kernel
theorem dksX0_as_1 : cX0_as.data.toList.drop 24 = dktX0_as_1 := dk_seg dksX0_as_0 24 rfl rfl
theorem dX0_as_0 : decode cX0_as 0 = .ok (.aload_n 0, 1) := dk_42 (dk_at dksX0_as_0 0 rfl rfl)
theorem dX0_as_1 : decode cX0_as 1 = .ok (.iload_n 1, 1) := dk_27 (dk_at dksX0_as_0 1 rfl rfl)
theorem dX0_as_2 : decode cX0_as 2 = .ok (.iload_n 2, 1) := dk_28 (dk_at dksX0_as_0 2 rfl rfl)
theorem dX0_as_3 : decode cX0_as 3 = .ok (.iconst 0, 1) := dk_3 (dk_at dksX0_as_0 3 rfl rfl)
theorem dX0_as_4 : decode cX0_as 4 = .ok (.bipush 6, 2) := dk_16 6 (dk_at dksX0_as_0 4 rfl rfl)
theorem dX0_as_6 : decode cX0_as 6 = .ok (.invokestatic 85, 3) := dk_184 0 85 (dk_at dksX0_as_0 6 rfl rfl)
theorem dX0_as_9 : decode cX0_as 9 = .ok (.invokevirtual 161, 3) := dk_182 0 161 (dk_at dksX0_as_0 9 rfl rfl)
theorem dX0_as_12 : decode cX0_as 12 = .ok (.astore_n 3, 1) := dk_78 (dk_at dksX0_as_0 12 rfl rfl)
theorem dX0_as_13 : decode cX0_as 13 = .ok (.aload_n 0, 1) := dk_42 (dk_at dksX0_as_0 13 rfl rfl)
theorem dX0_as_14 : decode cX0_as 14 = .ok (.aload_n 3, 1) := dk_45 (dk_at dksX0_as_0 14 rfl rfl)
theorem dX0_as_15 : decode cX0_as 15 = .ok (.iload_n 2, 1) := dk_28 (dk_at dksX0_as_0 15 rfl rfl)
theorem dX0_as_16 : decode cX0_as 16 = .ok (.invokevirtual 178, 3) := dk_182 0 178 (dk_at dksX0_as_0 16 rfl rfl)
theorem dX0_as_19 : decode cX0_as 19 = .ok (.iconst 5, 1) := dk_8 (dk_at dksX0_as_0 19 rfl rfl)
theorem dX0_as_20 : decode cX0_as 20 = .ok (.invokevirtual 100, 3) := dk_182 0 100 (dk_at dksX0_as_0 20 rfl rfl)
theorem dX0_as_23 : decode cX0_as 23 = .ok (.aload_n 3, 1) := dk_45 (dk_at dksX0_as_0 23 rfl rfl)
theorem dX0_as_24 : decode cX0_as 24 = .ok (.getfield 169, 3) := dk_180 0 169 (dk_at dksX0_as_1 0 rfl rfl)
theorem dX0_as_27 : decode cX0_as 27 = .ok (.ireturn, 1) := dk_172 (dk_at dksX0_as_1 3 rfl rfl)
theorem dX0_as_28 : decode cX0_as 28 = .ok (.astore_n 3, 1) := dk_78 (dk_at dksX0_as_1 4 rfl rfl)
theorem dX0_as_29 : decode cX0_as 29 = .ok (.aload_n 0, 1) := dk_42 (dk_at dksX0_as_1 5 rfl rfl)
theorem dX0_as_30 : decode cX0_as 30 = .ok (.aload_n 3, 1) := dk_45 (dk_at dksX0_as_1 6 rfl rfl)
theorem dX0_as_31 : decode cX0_as 31 = .ok (.invokevirtual 109, 3) := dk_182 0 109 (dk_at dksX0_as_1 7 rfl rfl)
theorem dX0_as_34 : decode cX0_as 34 = .ok (.ireturn, 1) := dk_172 (dk_at dksX0_as_1 10 rfl rfl)
abbrev cX0_feed : ByteArray := prog_1_method_25_code
def yX0_feed : MethodName := ⟨RX0, "feed", "(JI)I"⟩
def dkwX0_feed_4 : List UInt8 := [180, 0, 181, 172, 58, 4, 42, 25, 4, 182, 0, 109, 172]
abbrev dktX0_feed_4 : List UInt8 := dkwX0_feed_4 ++ []
def dkwX0_feed_3 : List UInt8 := [180, 0, 46, 89, 180, 0, 181, 4, 96, 181, 0, 181, 132, 4, 1, 167, 255, 210, 42, 180, 0, 46]
abbrev dktX0_feed_3 : List UInt8 := dkwX0_feed_3 ++ dktX0_feed_4
def dkwX0_feed_2 : List UInt8 := [180, 0, 46, 180, 0, 184, 42, 180, 0, 46, 180, 0, 181, 31, 16, 8, 21, 4, 104, 123, 136, 145, 84, 42]
abbrev dktX0_feed_2 : List UInt8 := dkwX0_feed_2 ++ dktX0_feed_3
def dkwX0_feed_1 : List UInt8 := [163, 0, 7, 4, 167, 0, 4, 3, 7, 182, 0, 100, 3, 54, 4, 21, 4, 29, 162, 0, 46, 42]
abbrev dktX0_feed_1 : List UInt8 := dkwX0_feed_1 ++ dktX0_feed_2
def dkwX0_feed_0 : List UInt8 := [42, 29, 4, 16, 8, 184, 0, 85, 4, 182, 0, 100, 42, 42, 180, 0, 46, 180, 0, 181, 29, 96, 16, 50]
abbrev dktX0_feed_0 : List UInt8 := dkwX0_feed_0 ++ dktX0_feed_1
theorem dksX0_feed_0 : cX0_feed.data.toList.drop 0 = dktX0_feed_0 := by decide +kernel
theorem dksX0_feed_1 : cX0_feed.data.toList.drop 24 = dktX0_feed_1 := dk_seg dksX0_feed_0 24 rfl rfl
theorem dksX0_feed_2 : cX0_feed.data.toList.drop 46 = dktX0_feed_2 := dk_seg dksX0_feed_1 22 rfl rfl
theorem dksX0_feed_3 : cX0_feed.data.toList.drop 70 = dktX0_feed_3 := dk_seg dksX0_feed_2 24 rfl rfl
theorem dksX0_feed_4 : cX0_feed.data.toList.drop 92 = dktX0_feed_4 := dk_seg dksX0_feed_3 22 rfl rfl
theorem dX0_feed_0 : decode cX0_feed 0 = .ok (.aload_n 0, 1) := dk_42 (dk_at dksX0_feed_0 0 rfl rfl)
theorem dX0_feed_1 : decode cX0_feed 1 = .ok (.iload_n 3, 1) := dk_29 (dk_at dksX0_feed_0 1 rfl rfl)
theorem dX0_feed_2 : decode cX0_feed 2 = .ok (.iconst 1, 1) := dk_4 (dk_at dksX0_feed_0 2 rfl rfl)
theorem dX0_feed_3 : decode cX0_feed 3 = .ok (.bipush 8, 2) := dk_16 8 (dk_at dksX0_feed_0 3 rfl rfl)
theorem dX0_feed_5 : decode cX0_feed 5 = .ok (.invokestatic 85, 3) := dk_184 0 85 (dk_at dksX0_feed_0 5 rfl rfl)
theorem dX0_feed_8 : decode cX0_feed 8 = .ok (.iconst 1, 1) := dk_4 (dk_at dksX0_feed_0 8 rfl rfl)
theorem dX0_feed_9 : decode cX0_feed 9 = .ok (.invokevirtual 100, 3) := dk_182 0 100 (dk_at dksX0_feed_0 9 rfl rfl)
theorem dX0_feed_12 : decode cX0_feed 12 = .ok (.aload_n 0, 1) := dk_42 (dk_at dksX0_feed_0 12 rfl rfl)
theorem dX0_feed_13 : decode cX0_feed 13 = .ok (.aload_n 0, 1) := dk_42 (dk_at dksX0_feed_0 13 rfl rfl)
theorem dX0_feed_14 : decode cX0_feed 14 = .ok (.getfield 46, 3) := dk_180 0 46 (dk_at dksX0_feed_0 14 rfl rfl)
theorem dX0_feed_17 : decode cX0_feed 17 = .ok (.getfield 181, 3) := dk_180 0 181 (dk_at dksX0_feed_0 17 rfl rfl)
theorem dX0_feed_20 : decode cX0_feed 20 = .ok (.iload_n 3, 1) := dk_29 (dk_at dksX0_feed_0 20 rfl rfl)
theorem dX0_feed_21 : decode cX0_feed 21 = .ok (.iadd, 1) := dk_96 (dk_at dksX0_feed_0 21 rfl rfl)
theorem dX0_feed_22 : decode cX0_feed 22 = .ok (.bipush 50, 2) := dk_16 50 (dk_at dksX0_feed_0 22 rfl rfl)
theorem dX0_feed_24 : decode cX0_feed 24 = .ok (.if_icmp .gt 7, 3) := dk_163 0 7 (dk_at dksX0_feed_1 0 rfl rfl)
theorem dX0_feed_27 : decode cX0_feed 27 = .ok (.iconst 1, 1) := dk_4 (dk_at dksX0_feed_1 3 rfl rfl)
theorem dX0_feed_28 : decode cX0_feed 28 = .ok (.goto 4, 3) := dk_167 0 4 (dk_at dksX0_feed_1 4 rfl rfl)
theorem dX0_feed_31 : decode cX0_feed 31 = .ok (.iconst 0, 1) := dk_3 (dk_at dksX0_feed_1 7 rfl rfl)
theorem dX0_feed_32 : decode cX0_feed 32 = .ok (.iconst 4, 1) := dk_7 (dk_at dksX0_feed_1 8 rfl rfl)
theorem dX0_feed_33 : decode cX0_feed 33 = .ok (.invokevirtual 100, 3) := dk_182 0 100 (dk_at dksX0_feed_1 9 rfl rfl)
theorem dX0_feed_36 : decode cX0_feed 36 = .ok (.iconst 0, 1) := dk_3 (dk_at dksX0_feed_1 12 rfl rfl)
theorem dX0_feed_37 : decode cX0_feed 37 = .ok (.istore 4, 2) := dk_54 4 (dk_at dksX0_feed_1 13 rfl rfl)
theorem dX0_feed_39 : decode cX0_feed 39 = .ok (.iload 4, 2) := dk_21 4 (dk_at dksX0_feed_1 15 rfl rfl)
theorem dX0_feed_41 : decode cX0_feed 41 = .ok (.iload_n 3, 1) := dk_29 (dk_at dksX0_feed_1 17 rfl rfl)
theorem dX0_feed_42 : decode cX0_feed 42 = .ok (.if_icmp .ge 46, 3) := dk_162 0 46 (dk_at dksX0_feed_1 18 rfl rfl)
theorem dX0_feed_45 : decode cX0_feed 45 = .ok (.aload_n 0, 1) := dk_42 (dk_at dksX0_feed_1 21 rfl rfl)
theorem dX0_feed_46 : decode cX0_feed 46 = .ok (.getfield 46, 3) := dk_180 0 46 (dk_at dksX0_feed_2 0 rfl rfl)
theorem dX0_feed_49 : decode cX0_feed 49 = .ok (.getfield 184, 3) := dk_180 0 184 (dk_at dksX0_feed_2 3 rfl rfl)
theorem dX0_feed_52 : decode cX0_feed 52 = .ok (.aload_n 0, 1) := dk_42 (dk_at dksX0_feed_2 6 rfl rfl)
theorem dX0_feed_53 : decode cX0_feed 53 = .ok (.getfield 46, 3) := dk_180 0 46 (dk_at dksX0_feed_2 7 rfl rfl)
theorem dX0_feed_56 : decode cX0_feed 56 = .ok (.getfield 181, 3) := dk_180 0 181 (dk_at dksX0_feed_2 10 rfl rfl)
theorem dX0_feed_59 : decode cX0_feed 59 = .ok (.lload_n 1, 1) := dk_31 (dk_at dksX0_feed_2 13 rfl rfl)
theorem dX0_feed_60 : decode cX0_feed 60 = .ok (.bipush 8, 2) := dk_16 8 (dk_at dksX0_feed_2 14 rfl rfl)
theorem dX0_feed_62 : decode cX0_feed 62 = .ok (.iload 4, 2) := dk_21 4 (dk_at dksX0_feed_2 16 rfl rfl)
theorem dX0_feed_64 : decode cX0_feed 64 = .ok (.imul, 1) := dk_104 (dk_at dksX0_feed_2 18 rfl rfl)
theorem dX0_feed_65 : decode cX0_feed 65 = .ok (.lshr, 1) := dk_123 (dk_at dksX0_feed_2 19 rfl rfl)
theorem dX0_feed_66 : decode cX0_feed 66 = .ok (.l2i, 1) := dk_136 (dk_at dksX0_feed_2 20 rfl rfl)
theorem dX0_feed_67 : decode cX0_feed 67 = .ok (.i2b, 1) := dk_145 (dk_at dksX0_feed_2 21 rfl rfl)
theorem dX0_feed_68 : decode cX0_feed 68 = .ok (.bastore, 1) := dk_84 (dk_at dksX0_feed_2 22 rfl rfl)
theorem dX0_feed_69 : decode cX0_feed 69 = .ok (.aload_n 0, 1) := dk_42 (dk_at dksX0_feed_2 23 rfl rfl)
theorem dX0_feed_70 : decode cX0_feed 70 = .ok (.getfield 46, 3) := dk_180 0 46 (dk_at dksX0_feed_3 0 rfl rfl)
theorem dX0_feed_73 : decode cX0_feed 73 = .ok (.dup, 1) := dk_89 (dk_at dksX0_feed_3 3 rfl rfl)
theorem dX0_feed_74 : decode cX0_feed 74 = .ok (.getfield 181, 3) := dk_180 0 181 (dk_at dksX0_feed_3 4 rfl rfl)
theorem dX0_feed_77 : decode cX0_feed 77 = .ok (.iconst 1, 1) := dk_4 (dk_at dksX0_feed_3 7 rfl rfl)
theorem dX0_feed_78 : decode cX0_feed 78 = .ok (.iadd, 1) := dk_96 (dk_at dksX0_feed_3 8 rfl rfl)
theorem dX0_feed_79 : decode cX0_feed 79 = .ok (.putfield 181, 3) := dk_181 0 181 (dk_at dksX0_feed_3 9 rfl rfl)
theorem dX0_feed_82 : decode cX0_feed 82 = .ok (.iinc 4 1, 3) := dk_132 4 1 (dk_at dksX0_feed_3 12 rfl rfl)
theorem dX0_feed_85 : decode cX0_feed 85 = .ok (.goto (-46), 3) := dk_167 255 210 (dk_at dksX0_feed_3 15 rfl rfl)
theorem dX0_feed_88 : decode cX0_feed 88 = .ok (.aload_n 0, 1) := dk_42 (dk_at dksX0_feed_3 18 rfl rfl)
theorem dX0_feed_89 : decode cX0_feed 89 = .ok (.getfield 46, 3) := dk_180 0 46 (dk_at dksX0_feed_3 19 rfl rfl)
theorem dX0_feed_92 : decode cX0_feed 92 = .ok (.getfield 181, 3) := dk_180 0 181 (dk_at dksX0_feed_4 0 rfl rfl)
theorem dX0_feed_95 : decode cX0_feed 95 = .ok (.ireturn, 1) := dk_172 (dk_at dksX0_feed_4 3 rfl rfl)
theorem dX0_feed_96 : decode cX0_feed 96 = .ok (.astore 4, 2) := dk_58 4 (dk_at dksX0_feed_4 4 rfl rfl)
theorem dX0_feed_98 : decode cX0_feed 98 = .ok (.aload_n 0, 1) := dk_42 (dk_at dksX0_feed_4 6 rfl rfl)
theorem dX0_feed_99 : decode cX0_feed 99 = .ok (.aload 4, 2) := dk_25 4 (dk_at dksX0_feed_4 7 rfl rfl)
theorem dX0_feed_101 : decode cX0_feed 101 = .ok (.invokevirtual 109, 3) := dk_182 0 109 (dk_at dksX0_feed_4 9 rfl rfl)
theorem dX0_feed_104 : decode cX0_feed 104 = .ok (.ireturn, 1) := dk_172 (dk_at dksX0_feed_4 12 rfl rfl)
abbrev cX0_text : ByteArray := prog_1_method_26_code
def yX0_text : MethodName := ⟨RX0, "text", "(I)I"⟩
def dkwX0_text_3 : List UInt8 := [180, 0, 207, 100, 172, 77, 42, 44, 182, 0, 109, 172]
abbrev dktX0_text_3 : List UInt8 := dkwX0_text_3 ++ []
def dkwX0_text_2 : List UInt8 := [18, 196, 42, 180, 0, 46, 180, 0, 184, 28, 183, 0, 198, 182, 0, 201, 83, 4, 172, 77, 16, 246, 44]
abbrev dktX0_text_2 : List UInt8 := dkwX0_text_2 ++ dktX0_text_3
def dkwX0_text_1 : List UInt8 := [181, 0, 181, 42, 180, 0, 46, 180, 0, 188, 27, 187, 0, 192, 89, 27, 154, 0, 8, 18, 194, 167, 0, 5]
abbrev dktX0_text_1 : List UInt8 := dkwX0_text_1 ++ dktX0_text_2
def dkwX0_text_0 : List UInt8 := [42, 27, 3, 4, 184, 0, 85, 4, 182, 0, 100, 42, 180, 0, 46, 180, 0, 181, 61, 42, 180, 0, 46, 3]
abbrev dktX0_text_0 : List UInt8 := dkwX0_text_0 ++ dktX0_text_1
theorem dksX0_text_0 : cX0_text.data.toList.drop 0 = dktX0_text_0 := by decide +kernel
theorem dksX0_text_1 : cX0_text.data.toList.drop 24 = dktX0_text_1 := dk_seg dksX0_text_0 24 rfl rfl
theorem dksX0_text_2 : cX0_text.data.toList.drop 48 = dktX0_text_2 := dk_seg dksX0_text_1 24 rfl rfl
theorem dksX0_text_3 : cX0_text.data.toList.drop 71 = dktX0_text_3 := dk_seg dksX0_text_2 23 rfl rfl
theorem dX0_text_0 : decode cX0_text 0 = .ok (.aload_n 0, 1) := dk_42 (dk_at dksX0_text_0 0 rfl rfl)
theorem dX0_text_1 : decode cX0_text 1 = .ok (.iload_n 1, 1) := dk_27 (dk_at dksX0_text_0 1 rfl rfl)
theorem dX0_text_2 : decode cX0_text 2 = .ok (.iconst 0, 1) := dk_3 (dk_at dksX0_text_0 2 rfl rfl)
theorem dX0_text_3 : decode cX0_text 3 = .ok (.iconst 1, 1) := dk_4 (dk_at dksX0_text_0 3 rfl rfl)
theorem dX0_text_4 : decode cX0_text 4 = .ok (.invokestatic 85, 3) := dk_184 0 85 (dk_at dksX0_text_0 4 rfl rfl)
theorem dX0_text_7 : decode cX0_text 7 = .ok (.iconst 1, 1) := dk_4 (dk_at dksX0_text_0 7 rfl rfl)
theorem dX0_text_8 : decode cX0_text 8 = .ok (.invokevirtual 100, 3) := dk_182 0 100 (dk_at dksX0_text_0 8 rfl rfl)
theorem dX0_text_11 : decode cX0_text 11 = .ok (.aload_n 0, 1) := dk_42 (dk_at dksX0_text_0 11 rfl rfl)
theorem dX0_text_12 : decode cX0_text 12 = .ok (.getfield 46, 3) := dk_180 0 46 (dk_at dksX0_text_0 12 rfl rfl)
theorem dX0_text_15 : decode cX0_text 15 = .ok (.getfield 181, 3) := dk_180 0 181 (dk_at dksX0_text_0 15 rfl rfl)
theorem dX0_text_18 : decode cX0_text 18 = .ok (.istore_n 2, 1) := dk_61 (dk_at dksX0_text_0 18 rfl rfl)
theorem dX0_text_19 : decode cX0_text 19 = .ok (.aload_n 0, 1) := dk_42 (dk_at dksX0_text_0 19 rfl rfl)
theorem dX0_text_20 : decode cX0_text 20 = .ok (.getfield 46, 3) := dk_180 0 46 (dk_at dksX0_text_0 20 rfl rfl)
theorem dX0_text_23 : decode cX0_text 23 = .ok (.iconst 0, 1) := dk_3 (dk_at dksX0_text_0 23 rfl rfl)
theorem dX0_text_24 : decode cX0_text 24 = .ok (.putfield 181, 3) := dk_181 0 181 (dk_at dksX0_text_1 0 rfl rfl)
theorem dX0_text_27 : decode cX0_text 27 = .ok (.aload_n 0, 1) := dk_42 (dk_at dksX0_text_1 3 rfl rfl)
theorem dX0_text_28 : decode cX0_text 28 = .ok (.getfield 46, 3) := dk_180 0 46 (dk_at dksX0_text_1 4 rfl rfl)
theorem dX0_text_31 : decode cX0_text 31 = .ok (.getfield 188, 3) := dk_180 0 188 (dk_at dksX0_text_1 7 rfl rfl)
theorem dX0_text_34 : decode cX0_text 34 = .ok (.iload_n 1, 1) := dk_27 (dk_at dksX0_text_1 10 rfl rfl)
theorem dX0_text_35 : decode cX0_text 35 = .ok (.new 192, 3) := dk_187 0 192 (dk_at dksX0_text_1 11 rfl rfl)
theorem dX0_text_38 : decode cX0_text 38 = .ok (.dup, 1) := dk_89 (dk_at dksX0_text_1 14 rfl rfl)
theorem dX0_text_39 : decode cX0_text 39 = .ok (.iload_n 1, 1) := dk_27 (dk_at dksX0_text_1 15 rfl rfl)
theorem dX0_text_40 : decode cX0_text 40 = .ok (.ifCond .ne 8, 3) := dk_154 0 8 (dk_at dksX0_text_1 16 rfl rfl)
theorem dX0_text_43 : decode cX0_text 43 = .ok (.ldc 194, 2) := dk_18 194 (dk_at dksX0_text_1 19 rfl rfl)
theorem dX0_text_45 : decode cX0_text 45 = .ok (.goto 5, 3) := dk_167 0 5 (dk_at dksX0_text_1 21 rfl rfl)
theorem dX0_text_48 : decode cX0_text 48 = .ok (.ldc 196, 2) := dk_18 196 (dk_at dksX0_text_2 0 rfl rfl)
theorem dX0_text_50 : decode cX0_text 50 = .ok (.aload_n 0, 1) := dk_42 (dk_at dksX0_text_2 2 rfl rfl)
theorem dX0_text_51 : decode cX0_text 51 = .ok (.getfield 46, 3) := dk_180 0 46 (dk_at dksX0_text_2 3 rfl rfl)
theorem dX0_text_54 : decode cX0_text 54 = .ok (.getfield 184, 3) := dk_180 0 184 (dk_at dksX0_text_2 6 rfl rfl)
theorem dX0_text_57 : decode cX0_text 57 = .ok (.iload_n 2, 1) := dk_28 (dk_at dksX0_text_2 9 rfl rfl)
theorem dX0_text_58 : decode cX0_text 58 = .ok (.invokespecial 198, 3) := dk_183 0 198 (dk_at dksX0_text_2 10 rfl rfl)
theorem dX0_text_61 : decode cX0_text 61 = .ok (.invokevirtual 201, 3) := dk_182 0 201 (dk_at dksX0_text_2 13 rfl rfl)
theorem dX0_text_64 : decode cX0_text 64 = .ok (.aastore, 1) := dk_83 (dk_at dksX0_text_2 16 rfl rfl)
theorem dX0_text_65 : decode cX0_text 65 = .ok (.iconst 1, 1) := dk_4 (dk_at dksX0_text_2 17 rfl rfl)
theorem dX0_text_66 : decode cX0_text 66 = .ok (.ireturn, 1) := dk_172 (dk_at dksX0_text_2 18 rfl rfl)
theorem dX0_text_67 : decode cX0_text 67 = .ok (.astore_n 2, 1) := dk_77 (dk_at dksX0_text_2 19 rfl rfl)
theorem dX0_text_68 : decode cX0_text 68 = .ok (.bipush (-10), 2) := dk_16 246 (dk_at dksX0_text_2 20 rfl rfl)
theorem dX0_text_70 : decode cX0_text 70 = .ok (.aload_n 2, 1) := dk_44 (dk_at dksX0_text_2 22 rfl rfl)
theorem dX0_text_71 : decode cX0_text 71 = .ok (.getfield 207, 3) := dk_180 0 207 (dk_at dksX0_text_3 0 rfl rfl)
theorem dX0_text_74 : decode cX0_text 74 = .ok (.isub, 1) := dk_100 (dk_at dksX0_text_3 3 rfl rfl)
theorem dX0_text_75 : decode cX0_text 75 = .ok (.ireturn, 1) := dk_172 (dk_at dksX0_text_3 4 rfl rfl)
theorem dX0_text_76 : decode cX0_text 76 = .ok (.astore_n 2, 1) := dk_77 (dk_at dksX0_text_3 5 rfl rfl)
theorem dX0_text_77 : decode cX0_text 77 = .ok (.aload_n 0, 1) := dk_42 (dk_at dksX0_text_3 6 rfl rfl)
theorem dX0_text_78 : decode cX0_text 78 = .ok (.aload_n 2, 1) := dk_44 (dk_at dksX0_text_3 7 rfl rfl)
theorem dX0_text_79 : decode cX0_text 79 = .ok (.invokevirtual 109, 3) := dk_182 0 109 (dk_at dksX0_text_3 8 rfl rfl)
theorem dX0_text_82 : decode cX0_text 82 = .ok (.ireturn, 1) := dk_172 (dk_at dksX0_text_3 11 rfl rfl)
abbrev cX0_law : ByteArray := prog_1_method_27_code
def yX0_law : MethodName := ⟨RX0, "law", "(IIII)I"⟩
def dkwX0_law_2 : List UInt8 := [182, 0, 109, 172]
abbrev dktX0_law_2 : List UInt8 := dkwX0_law_2 ++ []
def dkwX0_law_1 : List UInt8 := [182, 0, 210, 167, 0, 14, 42, 180, 0, 46, 28, 29, 21, 4, 182, 0, 214, 172, 58, 5, 42, 25, 5]
abbrev dktX0_law_1 : List UInt8 := dkwX0_law_1 ++ dktX0_law_2
def dkwX0_law_0 : List UInt8 := [42, 27, 3, 4, 184, 0, 85, 4, 182, 0, 100, 27, 154, 0, 17, 42, 180, 0, 46, 28, 29, 21, 4]
abbrev dktX0_law_0 : List UInt8 := dkwX0_law_0 ++ dktX0_law_1
theorem dksX0_law_0 : cX0_law.data.toList.drop 0 = dktX0_law_0 := by decide +kernel
theorem dksX0_law_1 : cX0_law.data.toList.drop 23 = dktX0_law_1 := dk_seg dksX0_law_0 23 rfl rfl
theorem dksX0_law_2 : cX0_law.data.toList.drop 46 = dktX0_law_2 := dk_seg dksX0_law_1 23 rfl rfl
theorem dX0_law_0 : decode cX0_law 0 = .ok (.aload_n 0, 1) := dk_42 (dk_at dksX0_law_0 0 rfl rfl)
theorem dX0_law_1 : decode cX0_law 1 = .ok (.iload_n 1, 1) := dk_27 (dk_at dksX0_law_0 1 rfl rfl)
theorem dX0_law_2 : decode cX0_law 2 = .ok (.iconst 0, 1) := dk_3 (dk_at dksX0_law_0 2 rfl rfl)
theorem dX0_law_3 : decode cX0_law 3 = .ok (.iconst 1, 1) := dk_4 (dk_at dksX0_law_0 3 rfl rfl)
theorem dX0_law_4 : decode cX0_law 4 = .ok (.invokestatic 85, 3) := dk_184 0 85 (dk_at dksX0_law_0 4 rfl rfl)
theorem dX0_law_7 : decode cX0_law 7 = .ok (.iconst 1, 1) := dk_4 (dk_at dksX0_law_0 7 rfl rfl)
theorem dX0_law_8 : decode cX0_law 8 = .ok (.invokevirtual 100, 3) := dk_182 0 100 (dk_at dksX0_law_0 8 rfl rfl)
theorem dX0_law_11 : decode cX0_law 11 = .ok (.iload_n 1, 1) := dk_27 (dk_at dksX0_law_0 11 rfl rfl)
theorem dX0_law_12 : decode cX0_law 12 = .ok (.ifCond .ne 17, 3) := dk_154 0 17 (dk_at dksX0_law_0 12 rfl rfl)
theorem dX0_law_15 : decode cX0_law 15 = .ok (.aload_n 0, 1) := dk_42 (dk_at dksX0_law_0 15 rfl rfl)
theorem dX0_law_16 : decode cX0_law 16 = .ok (.getfield 46, 3) := dk_180 0 46 (dk_at dksX0_law_0 16 rfl rfl)
theorem dX0_law_19 : decode cX0_law 19 = .ok (.iload_n 2, 1) := dk_28 (dk_at dksX0_law_0 19 rfl rfl)
theorem dX0_law_20 : decode cX0_law 20 = .ok (.iload_n 3, 1) := dk_29 (dk_at dksX0_law_0 20 rfl rfl)
theorem dX0_law_21 : decode cX0_law 21 = .ok (.iload 4, 2) := dk_21 4 (dk_at dksX0_law_0 21 rfl rfl)
theorem dX0_law_23 : decode cX0_law 23 = .ok (.invokevirtual 210, 3) := dk_182 0 210 (dk_at dksX0_law_1 0 rfl rfl)
theorem dX0_law_26 : decode cX0_law 26 = .ok (.goto 14, 3) := dk_167 0 14 (dk_at dksX0_law_1 3 rfl rfl)
theorem dX0_law_29 : decode cX0_law 29 = .ok (.aload_n 0, 1) := dk_42 (dk_at dksX0_law_1 6 rfl rfl)
theorem dX0_law_30 : decode cX0_law 30 = .ok (.getfield 46, 3) := dk_180 0 46 (dk_at dksX0_law_1 7 rfl rfl)
theorem dX0_law_33 : decode cX0_law 33 = .ok (.iload_n 2, 1) := dk_28 (dk_at dksX0_law_1 10 rfl rfl)
theorem dX0_law_34 : decode cX0_law 34 = .ok (.iload_n 3, 1) := dk_29 (dk_at dksX0_law_1 11 rfl rfl)
theorem dX0_law_35 : decode cX0_law 35 = .ok (.iload 4, 2) := dk_21 4 (dk_at dksX0_law_1 12 rfl rfl)
theorem dX0_law_37 : decode cX0_law 37 = .ok (.invokevirtual 214, 3) := dk_182 0 214 (dk_at dksX0_law_1 14 rfl rfl)
theorem dX0_law_40 : decode cX0_law 40 = .ok (.ireturn, 1) := dk_172 (dk_at dksX0_law_1 17 rfl rfl)
theorem dX0_law_41 : decode cX0_law 41 = .ok (.astore 5, 2) := dk_58 5 (dk_at dksX0_law_1 18 rfl rfl)
theorem dX0_law_43 : decode cX0_law 43 = .ok (.aload_n 0, 1) := dk_42 (dk_at dksX0_law_1 20 rfl rfl)
theorem dX0_law_44 : decode cX0_law 44 = .ok (.aload 5, 2) := dk_25 5 (dk_at dksX0_law_1 21 rfl rfl)
theorem dX0_law_46 : decode cX0_law 46 = .ok (.invokevirtual 109, 3) := dk_182 0 109 (dk_at dksX0_law_2 0 rfl rfl)
theorem dX0_law_49 : decode cX0_law 49 = .ok (.ireturn, 1) := dk_172 (dk_at dksX0_law_2 3 rfl rfl)
abbrev cX0_drink : ByteArray := prog_1_method_28_code
def yX0_drink : MethodName := ⟨RX0, "drink", "(I)I"⟩
def dkwX0_drink_1 : List UInt8 := [180, 0, 46, 27, 182, 0, 220, 42, 180, 0, 46, 180, 0, 131, 27, 46, 172, 77, 42, 44, 182, 0, 109, 172]
abbrev dktX0_drink_1 : List UInt8 := dkwX0_drink_1 ++ []
def dkwX0_drink_0 : List UInt8 := [42, 42, 27, 182, 0, 158, 4, 182, 0, 100, 42, 42, 180, 0, 46, 27, 182, 0, 217, 6, 182, 0, 100, 42]
abbrev dktX0_drink_0 : List UInt8 := dkwX0_drink_0 ++ dktX0_drink_1
theorem dksX0_drink_0 : cX0_drink.data.toList.drop 0 = dktX0_drink_0 := by decide +kernel
theorem dksX0_drink_1 : cX0_drink.data.toList.drop 24 = dktX0_drink_1 := dk_seg dksX0_drink_0 24 rfl rfl
theorem dX0_drink_0 : decode cX0_drink 0 = .ok (.aload_n 0, 1) := dk_42 (dk_at dksX0_drink_0 0 rfl rfl)
theorem dX0_drink_1 : decode cX0_drink 1 = .ok (.aload_n 0, 1) := dk_42 (dk_at dksX0_drink_0 1 rfl rfl)
theorem dX0_drink_2 : decode cX0_drink 2 = .ok (.iload_n 1, 1) := dk_27 (dk_at dksX0_drink_0 2 rfl rfl)
theorem dX0_drink_3 : decode cX0_drink 3 = .ok (.invokevirtual 158, 3) := dk_182 0 158 (dk_at dksX0_drink_0 3 rfl rfl)
theorem dX0_drink_6 : decode cX0_drink 6 = .ok (.iconst 1, 1) := dk_4 (dk_at dksX0_drink_0 6 rfl rfl)
theorem dX0_drink_7 : decode cX0_drink 7 = .ok (.invokevirtual 100, 3) := dk_182 0 100 (dk_at dksX0_drink_0 7 rfl rfl)
theorem dX0_drink_10 : decode cX0_drink 10 = .ok (.aload_n 0, 1) := dk_42 (dk_at dksX0_drink_0 10 rfl rfl)
theorem dX0_drink_11 : decode cX0_drink 11 = .ok (.aload_n 0, 1) := dk_42 (dk_at dksX0_drink_0 11 rfl rfl)
theorem dX0_drink_12 : decode cX0_drink 12 = .ok (.getfield 46, 3) := dk_180 0 46 (dk_at dksX0_drink_0 12 rfl rfl)
theorem dX0_drink_15 : decode cX0_drink 15 = .ok (.iload_n 1, 1) := dk_27 (dk_at dksX0_drink_0 15 rfl rfl)
theorem dX0_drink_16 : decode cX0_drink 16 = .ok (.invokevirtual 217, 3) := dk_182 0 217 (dk_at dksX0_drink_0 16 rfl rfl)
theorem dX0_drink_19 : decode cX0_drink 19 = .ok (.iconst 3, 1) := dk_6 (dk_at dksX0_drink_0 19 rfl rfl)
theorem dX0_drink_20 : decode cX0_drink 20 = .ok (.invokevirtual 100, 3) := dk_182 0 100 (dk_at dksX0_drink_0 20 rfl rfl)
theorem dX0_drink_23 : decode cX0_drink 23 = .ok (.aload_n 0, 1) := dk_42 (dk_at dksX0_drink_0 23 rfl rfl)
theorem dX0_drink_24 : decode cX0_drink 24 = .ok (.getfield 46, 3) := dk_180 0 46 (dk_at dksX0_drink_1 0 rfl rfl)
theorem dX0_drink_27 : decode cX0_drink 27 = .ok (.iload_n 1, 1) := dk_27 (dk_at dksX0_drink_1 3 rfl rfl)
theorem dX0_drink_28 : decode cX0_drink 28 = .ok (.invokevirtual 220, 3) := dk_182 0 220 (dk_at dksX0_drink_1 4 rfl rfl)
theorem dX0_drink_31 : decode cX0_drink 31 = .ok (.aload_n 0, 1) := dk_42 (dk_at dksX0_drink_1 7 rfl rfl)
theorem dX0_drink_32 : decode cX0_drink 32 = .ok (.getfield 46, 3) := dk_180 0 46 (dk_at dksX0_drink_1 8 rfl rfl)
theorem dX0_drink_35 : decode cX0_drink 35 = .ok (.getfield 131, 3) := dk_180 0 131 (dk_at dksX0_drink_1 11 rfl rfl)
theorem dX0_drink_38 : decode cX0_drink 38 = .ok (.iload_n 1, 1) := dk_27 (dk_at dksX0_drink_1 14 rfl rfl)
theorem dX0_drink_39 : decode cX0_drink 39 = .ok (.iaload, 1) := dk_46 (dk_at dksX0_drink_1 15 rfl rfl)
theorem dX0_drink_40 : decode cX0_drink 40 = .ok (.ireturn, 1) := dk_172 (dk_at dksX0_drink_1 16 rfl rfl)
theorem dX0_drink_41 : decode cX0_drink 41 = .ok (.astore_n 2, 1) := dk_77 (dk_at dksX0_drink_1 17 rfl rfl)
theorem dX0_drink_42 : decode cX0_drink 42 = .ok (.aload_n 0, 1) := dk_42 (dk_at dksX0_drink_1 18 rfl rfl)
theorem dX0_drink_43 : decode cX0_drink 43 = .ok (.aload_n 2, 1) := dk_44 (dk_at dksX0_drink_1 19 rfl rfl)
theorem dX0_drink_44 : decode cX0_drink 44 = .ok (.invokevirtual 109, 3) := dk_182 0 109 (dk_at dksX0_drink_1 20 rfl rfl)
theorem dX0_drink_47 : decode cX0_drink 47 = .ok (.ireturn, 1) := dk_172 (dk_at dksX0_drink_1 23 rfl rfl)
abbrev cX0_go : ByteArray := prog_1_method_29_code
def yX0_go : MethodName := ⟨RX0, "go", "(II)I"⟩
def dkwX0_go_5 : List UInt8 := [172]
abbrev dktX0_go_5 : List UInt8 := dkwX0_go_5 ++ []
def dkwX0_go_4 : List UInt8 := [180, 0, 46, 27, 28, 182, 0, 228, 42, 180, 0, 46, 180, 0, 155, 27, 46, 172, 78, 42, 45, 182, 0, 109]
abbrev dktX0_go_4 : List UInt8 := dkwX0_go_4 ++ dktX0_go_5
def dkwX0_go_3 : List UInt8 := [180, 0, 46, 180, 0, 224, 29, 96, 18, 227, 163, 0, 7, 4, 167, 0, 4, 3, 6, 182, 0, 100, 42]
abbrev dktX0_go_3 : List UInt8 := dkwX0_go_3 ++ dktX0_go_4
def dkwX0_go_2 : List UInt8 := [46, 28, 182, 0, 117, 62, 42, 42, 180, 0, 46, 180, 0, 127, 27, 51, 154, 0, 25, 29, 158, 0, 21, 42]
abbrev dktX0_go_2 : List UInt8 := dkwX0_go_2 ++ dktX0_go_3
def dkwX0_go_1 : List UInt8 := [153, 0, 7, 4, 167, 0, 4, 3, 4, 182, 0, 100, 42, 180, 0, 46, 42, 180, 0, 46, 180, 0, 134, 27]
abbrev dktX0_go_1 : List UInt8 := dkwX0_go_1 ++ dktX0_go_2
def dkwX0_go_0 : List UInt8 := [42, 42, 27, 182, 0, 158, 153, 0, 23, 28, 42, 180, 0, 46, 180, 0, 134, 27, 46, 184, 0, 113]
abbrev dktX0_go_0 : List UInt8 := dkwX0_go_0 ++ dktX0_go_1
theorem dksX0_go_0 : cX0_go.data.toList.drop 0 = dktX0_go_0 := by decide +kernel
theorem dksX0_go_1 : cX0_go.data.toList.drop 22 = dktX0_go_1 := dk_seg dksX0_go_0 22 rfl rfl
theorem dksX0_go_2 : cX0_go.data.toList.drop 46 = dktX0_go_2 := dk_seg dksX0_go_1 24 rfl rfl
theorem dksX0_go_3 : cX0_go.data.toList.drop 70 = dktX0_go_3 := dk_seg dksX0_go_2 24 rfl rfl
theorem dksX0_go_4 : cX0_go.data.toList.drop 93 = dktX0_go_4 := dk_seg dksX0_go_3 23 rfl rfl
theorem dksX0_go_5 : cX0_go.data.toList.drop 117 = dktX0_go_5 := dk_seg dksX0_go_4 24 rfl rfl
theorem dX0_go_0 : decode cX0_go 0 = .ok (.aload_n 0, 1) := dk_42 (dk_at dksX0_go_0 0 rfl rfl)
theorem dX0_go_1 : decode cX0_go 1 = .ok (.aload_n 0, 1) := dk_42 (dk_at dksX0_go_0 1 rfl rfl)
theorem dX0_go_2 : decode cX0_go 2 = .ok (.iload_n 1, 1) := dk_27 (dk_at dksX0_go_0 2 rfl rfl)
theorem dX0_go_3 : decode cX0_go 3 = .ok (.invokevirtual 158, 3) := dk_182 0 158 (dk_at dksX0_go_0 3 rfl rfl)
theorem dX0_go_6 : decode cX0_go 6 = .ok (.ifCond .eq 23, 3) := dk_153 0 23 (dk_at dksX0_go_0 6 rfl rfl)
theorem dX0_go_9 : decode cX0_go 9 = .ok (.iload_n 2, 1) := dk_28 (dk_at dksX0_go_0 9 rfl rfl)
theorem dX0_go_10 : decode cX0_go 10 = .ok (.aload_n 0, 1) := dk_42 (dk_at dksX0_go_0 10 rfl rfl)
theorem dX0_go_11 : decode cX0_go 11 = .ok (.getfield 46, 3) := dk_180 0 46 (dk_at dksX0_go_0 11 rfl rfl)
theorem dX0_go_14 : decode cX0_go 14 = .ok (.getfield 134, 3) := dk_180 0 134 (dk_at dksX0_go_0 14 rfl rfl)
theorem dX0_go_17 : decode cX0_go 17 = .ok (.iload_n 1, 1) := dk_27 (dk_at dksX0_go_0 17 rfl rfl)
theorem dX0_go_18 : decode cX0_go 18 = .ok (.iaload, 1) := dk_46 (dk_at dksX0_go_0 18 rfl rfl)
theorem dX0_go_19 : decode cX0_go 19 = .ok (.invokestatic 113, 3) := dk_184 0 113 (dk_at dksX0_go_0 19 rfl rfl)
theorem dX0_go_22 : decode cX0_go 22 = .ok (.ifCond .eq 7, 3) := dk_153 0 7 (dk_at dksX0_go_1 0 rfl rfl)
theorem dX0_go_25 : decode cX0_go 25 = .ok (.iconst 1, 1) := dk_4 (dk_at dksX0_go_1 3 rfl rfl)
theorem dX0_go_26 : decode cX0_go 26 = .ok (.goto 4, 3) := dk_167 0 4 (dk_at dksX0_go_1 4 rfl rfl)
theorem dX0_go_29 : decode cX0_go 29 = .ok (.iconst 0, 1) := dk_3 (dk_at dksX0_go_1 7 rfl rfl)
theorem dX0_go_30 : decode cX0_go 30 = .ok (.iconst 1, 1) := dk_4 (dk_at dksX0_go_1 8 rfl rfl)
theorem dX0_go_31 : decode cX0_go 31 = .ok (.invokevirtual 100, 3) := dk_182 0 100 (dk_at dksX0_go_1 9 rfl rfl)
theorem dX0_go_34 : decode cX0_go 34 = .ok (.aload_n 0, 1) := dk_42 (dk_at dksX0_go_1 12 rfl rfl)
theorem dX0_go_35 : decode cX0_go 35 = .ok (.getfield 46, 3) := dk_180 0 46 (dk_at dksX0_go_1 13 rfl rfl)
theorem dX0_go_38 : decode cX0_go 38 = .ok (.aload_n 0, 1) := dk_42 (dk_at dksX0_go_1 16 rfl rfl)
theorem dX0_go_39 : decode cX0_go 39 = .ok (.getfield 46, 3) := dk_180 0 46 (dk_at dksX0_go_1 17 rfl rfl)
theorem dX0_go_42 : decode cX0_go 42 = .ok (.getfield 134, 3) := dk_180 0 134 (dk_at dksX0_go_1 20 rfl rfl)
theorem dX0_go_45 : decode cX0_go 45 = .ok (.iload_n 1, 1) := dk_27 (dk_at dksX0_go_1 23 rfl rfl)
theorem dX0_go_46 : decode cX0_go 46 = .ok (.iaload, 1) := dk_46 (dk_at dksX0_go_2 0 rfl rfl)
theorem dX0_go_47 : decode cX0_go 47 = .ok (.iload_n 2, 1) := dk_28 (dk_at dksX0_go_2 1 rfl rfl)
theorem dX0_go_48 : decode cX0_go 48 = .ok (.invokevirtual 117, 3) := dk_182 0 117 (dk_at dksX0_go_2 2 rfl rfl)
theorem dX0_go_51 : decode cX0_go 51 = .ok (.istore_n 3, 1) := dk_62 (dk_at dksX0_go_2 5 rfl rfl)
theorem dX0_go_52 : decode cX0_go 52 = .ok (.aload_n 0, 1) := dk_42 (dk_at dksX0_go_2 6 rfl rfl)
theorem dX0_go_53 : decode cX0_go 53 = .ok (.aload_n 0, 1) := dk_42 (dk_at dksX0_go_2 7 rfl rfl)
theorem dX0_go_54 : decode cX0_go 54 = .ok (.getfield 46, 3) := dk_180 0 46 (dk_at dksX0_go_2 8 rfl rfl)
theorem dX0_go_57 : decode cX0_go 57 = .ok (.getfield 127, 3) := dk_180 0 127 (dk_at dksX0_go_2 11 rfl rfl)
theorem dX0_go_60 : decode cX0_go 60 = .ok (.iload_n 1, 1) := dk_27 (dk_at dksX0_go_2 14 rfl rfl)
theorem dX0_go_61 : decode cX0_go 61 = .ok (.baload, 1) := dk_51 (dk_at dksX0_go_2 15 rfl rfl)
theorem dX0_go_62 : decode cX0_go 62 = .ok (.ifCond .ne 25, 3) := dk_154 0 25 (dk_at dksX0_go_2 16 rfl rfl)
theorem dX0_go_65 : decode cX0_go 65 = .ok (.iload_n 3, 1) := dk_29 (dk_at dksX0_go_2 19 rfl rfl)
theorem dX0_go_66 : decode cX0_go 66 = .ok (.ifCond .le 21, 3) := dk_158 0 21 (dk_at dksX0_go_2 20 rfl rfl)
theorem dX0_go_69 : decode cX0_go 69 = .ok (.aload_n 0, 1) := dk_42 (dk_at dksX0_go_2 23 rfl rfl)
theorem dX0_go_70 : decode cX0_go 70 = .ok (.getfield 46, 3) := dk_180 0 46 (dk_at dksX0_go_3 0 rfl rfl)
theorem dX0_go_73 : decode cX0_go 73 = .ok (.getfield 224, 3) := dk_180 0 224 (dk_at dksX0_go_3 3 rfl rfl)
theorem dX0_go_76 : decode cX0_go 76 = .ok (.iload_n 3, 1) := dk_29 (dk_at dksX0_go_3 6 rfl rfl)
theorem dX0_go_77 : decode cX0_go 77 = .ok (.iadd, 1) := dk_96 (dk_at dksX0_go_3 7 rfl rfl)
theorem dX0_go_78 : decode cX0_go 78 = .ok (.ldc 227, 2) := dk_18 227 (dk_at dksX0_go_3 8 rfl rfl)
theorem dX0_go_80 : decode cX0_go 80 = .ok (.if_icmp .gt 7, 3) := dk_163 0 7 (dk_at dksX0_go_3 10 rfl rfl)
theorem dX0_go_83 : decode cX0_go 83 = .ok (.iconst 1, 1) := dk_4 (dk_at dksX0_go_3 13 rfl rfl)
theorem dX0_go_84 : decode cX0_go 84 = .ok (.goto 4, 3) := dk_167 0 4 (dk_at dksX0_go_3 14 rfl rfl)
theorem dX0_go_87 : decode cX0_go 87 = .ok (.iconst 0, 1) := dk_3 (dk_at dksX0_go_3 17 rfl rfl)
theorem dX0_go_88 : decode cX0_go 88 = .ok (.iconst 3, 1) := dk_6 (dk_at dksX0_go_3 18 rfl rfl)
theorem dX0_go_89 : decode cX0_go 89 = .ok (.invokevirtual 100, 3) := dk_182 0 100 (dk_at dksX0_go_3 19 rfl rfl)
theorem dX0_go_92 : decode cX0_go 92 = .ok (.aload_n 0, 1) := dk_42 (dk_at dksX0_go_3 22 rfl rfl)
theorem dX0_go_93 : decode cX0_go 93 = .ok (.getfield 46, 3) := dk_180 0 46 (dk_at dksX0_go_4 0 rfl rfl)
theorem dX0_go_96 : decode cX0_go 96 = .ok (.iload_n 1, 1) := dk_27 (dk_at dksX0_go_4 3 rfl rfl)
theorem dX0_go_97 : decode cX0_go 97 = .ok (.iload_n 2, 1) := dk_28 (dk_at dksX0_go_4 4 rfl rfl)
theorem dX0_go_98 : decode cX0_go 98 = .ok (.invokevirtual 228, 3) := dk_182 0 228 (dk_at dksX0_go_4 5 rfl rfl)
theorem dX0_go_101 : decode cX0_go 101 = .ok (.aload_n 0, 1) := dk_42 (dk_at dksX0_go_4 8 rfl rfl)
theorem dX0_go_102 : decode cX0_go 102 = .ok (.getfield 46, 3) := dk_180 0 46 (dk_at dksX0_go_4 9 rfl rfl)
theorem dX0_go_105 : decode cX0_go 105 = .ok (.getfield 155, 3) := dk_180 0 155 (dk_at dksX0_go_4 12 rfl rfl)
theorem dX0_go_108 : decode cX0_go 108 = .ok (.iload_n 1, 1) := dk_27 (dk_at dksX0_go_4 15 rfl rfl)
theorem dX0_go_109 : decode cX0_go 109 = .ok (.iaload, 1) := dk_46 (dk_at dksX0_go_4 16 rfl rfl)
theorem dX0_go_110 : decode cX0_go 110 = .ok (.ireturn, 1) := dk_172 (dk_at dksX0_go_4 17 rfl rfl)
theorem dX0_go_111 : decode cX0_go 111 = .ok (.astore_n 3, 1) := dk_78 (dk_at dksX0_go_4 18 rfl rfl)
theorem dX0_go_112 : decode cX0_go 112 = .ok (.aload_n 0, 1) := dk_42 (dk_at dksX0_go_4 19 rfl rfl)
theorem dX0_go_113 : decode cX0_go 113 = .ok (.aload_n 3, 1) := dk_45 (dk_at dksX0_go_4 20 rfl rfl)
theorem dX0_go_114 : decode cX0_go 114 = .ok (.invokevirtual 109, 3) := dk_182 0 109 (dk_at dksX0_go_4 21 rfl rfl)
theorem dX0_go_117 : decode cX0_go 117 = .ok (.ireturn, 1) := dk_172 (dk_at dksX0_go_5 0 rfl rfl)
abbrev cX0_pay : ByteArray := prog_1_method_30_code
def yX0_pay : MethodName := ⟨RX0, "pay", "(III)I"⟩
def dkwX0_pay_6 : List UInt8 := [180, 0, 124, 16, 8, 21, 4, 104, 28, 96, 46, 172, 58, 4, 42, 25, 4, 182, 0, 109, 172]
abbrev dktX0_pay_6 : List UInt8 := dkwX0_pay_6 ++ []
def dkwX0_pay_5 : List UInt8 := [42, 180, 0, 46, 180, 0, 124, 16, 8, 21, 4, 104, 28, 96, 92, 46, 29, 100, 79, 42, 180, 0, 46]
abbrev dktX0_pay_5 : List UInt8 := dkwX0_pay_5 ++ dktX0_pay_6
def dkwX0_pay_4 : List UInt8 := [180, 0, 124, 16, 8, 21, 4, 104, 28, 96, 46, 29, 161, 0, 7, 4, 167, 0, 4, 3, 6, 182, 0, 100]
abbrev dktX0_pay_4 : List UInt8 := dkwX0_pay_4 ++ dktX0_pay_5
def dkwX0_pay_3 : List UInt8 := [154, 0, 13, 21, 4, 2, 159, 0, 7, 4, 167, 0, 4, 3, 6, 182, 0, 100, 42, 42, 180, 0, 46]
abbrev dktX0_pay_3 : List UInt8 := dkwX0_pay_3 ++ dktX0_pay_4
def dkwX0_pay_2 : List UInt8 := [182, 0, 100, 42, 180, 0, 46, 180, 0, 131, 27, 46, 54, 4, 42, 42, 180, 0, 46, 180, 0, 127, 27, 51]
abbrev dktX0_pay_2 : List UInt8 := dkwX0_pay_2 ++ dktX0_pay_3
def dkwX0_pay_1 : List UInt8 := [46, 28, 159, 0, 18, 29, 4, 17, 39, 15, 184, 0, 85, 153, 0, 7, 4, 167, 0, 4, 3, 4]
abbrev dktX0_pay_1 : List UInt8 := dkwX0_pay_1 ++ dktX0_pay_2
def dkwX0_pay_0 : List UInt8 := [42, 42, 27, 182, 0, 158, 153, 0, 38, 28, 184, 0, 89, 153, 0, 31, 42, 180, 0, 46, 180, 0, 131, 27]
abbrev dktX0_pay_0 : List UInt8 := dkwX0_pay_0 ++ dktX0_pay_1
theorem dksX0_pay_0 : cX0_pay.data.toList.drop 0 = dktX0_pay_0 := by decide +kernel
theorem dksX0_pay_1 : cX0_pay.data.toList.drop 24 = dktX0_pay_1 := dk_seg dksX0_pay_0 24 rfl rfl
theorem dksX0_pay_2 : cX0_pay.data.toList.drop 46 = dktX0_pay_2 := dk_seg dksX0_pay_1 22 rfl rfl
theorem dksX0_pay_3 : cX0_pay.data.toList.drop 70 = dktX0_pay_3 := dk_seg dksX0_pay_2 24 rfl rfl
theorem dksX0_pay_4 : cX0_pay.data.toList.drop 93 = dktX0_pay_4 := dk_seg dksX0_pay_3 23 rfl rfl
theorem dksX0_pay_5 : cX0_pay.data.toList.drop 117 = dktX0_pay_5 := dk_seg dksX0_pay_4 24 rfl rfl
theorem dksX0_pay_6 : cX0_pay.data.toList.drop 140 = dktX0_pay_6 := dk_seg dksX0_pay_5 23 rfl rfl
theorem dX0_pay_0 : decode cX0_pay 0 = .ok (.aload_n 0, 1) := dk_42 (dk_at dksX0_pay_0 0 rfl rfl)
theorem dX0_pay_1 : decode cX0_pay 1 = .ok (.aload_n 0, 1) := dk_42 (dk_at dksX0_pay_0 1 rfl rfl)
theorem dX0_pay_2 : decode cX0_pay 2 = .ok (.iload_n 1, 1) := dk_27 (dk_at dksX0_pay_0 2 rfl rfl)
theorem dX0_pay_3 : decode cX0_pay 3 = .ok (.invokevirtual 158, 3) := dk_182 0 158 (dk_at dksX0_pay_0 3 rfl rfl)
theorem dX0_pay_6 : decode cX0_pay 6 = .ok (.ifCond .eq 38, 3) := dk_153 0 38 (dk_at dksX0_pay_0 6 rfl rfl)
theorem dX0_pay_9 : decode cX0_pay 9 = .ok (.iload_n 2, 1) := dk_28 (dk_at dksX0_pay_0 9 rfl rfl)
theorem dX0_pay_10 : decode cX0_pay 10 = .ok (.invokestatic 89, 3) := dk_184 0 89 (dk_at dksX0_pay_0 10 rfl rfl)
theorem dX0_pay_13 : decode cX0_pay 13 = .ok (.ifCond .eq 31, 3) := dk_153 0 31 (dk_at dksX0_pay_0 13 rfl rfl)
theorem dX0_pay_16 : decode cX0_pay 16 = .ok (.aload_n 0, 1) := dk_42 (dk_at dksX0_pay_0 16 rfl rfl)
theorem dX0_pay_17 : decode cX0_pay 17 = .ok (.getfield 46, 3) := dk_180 0 46 (dk_at dksX0_pay_0 17 rfl rfl)
theorem dX0_pay_20 : decode cX0_pay 20 = .ok (.getfield 131, 3) := dk_180 0 131 (dk_at dksX0_pay_0 20 rfl rfl)
theorem dX0_pay_23 : decode cX0_pay 23 = .ok (.iload_n 1, 1) := dk_27 (dk_at dksX0_pay_0 23 rfl rfl)
theorem dX0_pay_24 : decode cX0_pay 24 = .ok (.iaload, 1) := dk_46 (dk_at dksX0_pay_1 0 rfl rfl)
theorem dX0_pay_25 : decode cX0_pay 25 = .ok (.iload_n 2, 1) := dk_28 (dk_at dksX0_pay_1 1 rfl rfl)
theorem dX0_pay_26 : decode cX0_pay 26 = .ok (.if_icmp .eq 18, 3) := dk_159 0 18 (dk_at dksX0_pay_1 2 rfl rfl)
theorem dX0_pay_29 : decode cX0_pay 29 = .ok (.iload_n 3, 1) := dk_29 (dk_at dksX0_pay_1 5 rfl rfl)
theorem dX0_pay_30 : decode cX0_pay 30 = .ok (.iconst 1, 1) := dk_4 (dk_at dksX0_pay_1 6 rfl rfl)
theorem dX0_pay_31 : decode cX0_pay 31 = .ok (.sipush 9999, 3) := dk_17 39 15 (dk_at dksX0_pay_1 7 rfl rfl)
theorem dX0_pay_34 : decode cX0_pay 34 = .ok (.invokestatic 85, 3) := dk_184 0 85 (dk_at dksX0_pay_1 10 rfl rfl)
theorem dX0_pay_37 : decode cX0_pay 37 = .ok (.ifCond .eq 7, 3) := dk_153 0 7 (dk_at dksX0_pay_1 13 rfl rfl)
theorem dX0_pay_40 : decode cX0_pay 40 = .ok (.iconst 1, 1) := dk_4 (dk_at dksX0_pay_1 16 rfl rfl)
theorem dX0_pay_41 : decode cX0_pay 41 = .ok (.goto 4, 3) := dk_167 0 4 (dk_at dksX0_pay_1 17 rfl rfl)
theorem dX0_pay_44 : decode cX0_pay 44 = .ok (.iconst 0, 1) := dk_3 (dk_at dksX0_pay_1 20 rfl rfl)
theorem dX0_pay_45 : decode cX0_pay 45 = .ok (.iconst 1, 1) := dk_4 (dk_at dksX0_pay_1 21 rfl rfl)
theorem dX0_pay_46 : decode cX0_pay 46 = .ok (.invokevirtual 100, 3) := dk_182 0 100 (dk_at dksX0_pay_2 0 rfl rfl)
theorem dX0_pay_49 : decode cX0_pay 49 = .ok (.aload_n 0, 1) := dk_42 (dk_at dksX0_pay_2 3 rfl rfl)
theorem dX0_pay_50 : decode cX0_pay 50 = .ok (.getfield 46, 3) := dk_180 0 46 (dk_at dksX0_pay_2 4 rfl rfl)
theorem dX0_pay_53 : decode cX0_pay 53 = .ok (.getfield 131, 3) := dk_180 0 131 (dk_at dksX0_pay_2 7 rfl rfl)
theorem dX0_pay_56 : decode cX0_pay 56 = .ok (.iload_n 1, 1) := dk_27 (dk_at dksX0_pay_2 10 rfl rfl)
theorem dX0_pay_57 : decode cX0_pay 57 = .ok (.iaload, 1) := dk_46 (dk_at dksX0_pay_2 11 rfl rfl)
theorem dX0_pay_58 : decode cX0_pay 58 = .ok (.istore 4, 2) := dk_54 4 (dk_at dksX0_pay_2 12 rfl rfl)
theorem dX0_pay_60 : decode cX0_pay 60 = .ok (.aload_n 0, 1) := dk_42 (dk_at dksX0_pay_2 14 rfl rfl)
theorem dX0_pay_61 : decode cX0_pay 61 = .ok (.aload_n 0, 1) := dk_42 (dk_at dksX0_pay_2 15 rfl rfl)
theorem dX0_pay_62 : decode cX0_pay 62 = .ok (.getfield 46, 3) := dk_180 0 46 (dk_at dksX0_pay_2 16 rfl rfl)
theorem dX0_pay_65 : decode cX0_pay 65 = .ok (.getfield 127, 3) := dk_180 0 127 (dk_at dksX0_pay_2 19 rfl rfl)
theorem dX0_pay_68 : decode cX0_pay 68 = .ok (.iload_n 1, 1) := dk_27 (dk_at dksX0_pay_2 22 rfl rfl)
theorem dX0_pay_69 : decode cX0_pay 69 = .ok (.baload, 1) := dk_51 (dk_at dksX0_pay_2 23 rfl rfl)
theorem dX0_pay_70 : decode cX0_pay 70 = .ok (.ifCond .ne 13, 3) := dk_154 0 13 (dk_at dksX0_pay_3 0 rfl rfl)
theorem dX0_pay_73 : decode cX0_pay 73 = .ok (.iload 4, 2) := dk_21 4 (dk_at dksX0_pay_3 3 rfl rfl)
theorem dX0_pay_75 : decode cX0_pay 75 = .ok (.iconst (-1), 1) := dk_2 (dk_at dksX0_pay_3 5 rfl rfl)
theorem dX0_pay_76 : decode cX0_pay 76 = .ok (.if_icmp .eq 7, 3) := dk_159 0 7 (dk_at dksX0_pay_3 6 rfl rfl)
theorem dX0_pay_79 : decode cX0_pay 79 = .ok (.iconst 1, 1) := dk_4 (dk_at dksX0_pay_3 9 rfl rfl)
theorem dX0_pay_80 : decode cX0_pay 80 = .ok (.goto 4, 3) := dk_167 0 4 (dk_at dksX0_pay_3 10 rfl rfl)
theorem dX0_pay_83 : decode cX0_pay 83 = .ok (.iconst 0, 1) := dk_3 (dk_at dksX0_pay_3 13 rfl rfl)
theorem dX0_pay_84 : decode cX0_pay 84 = .ok (.iconst 3, 1) := dk_6 (dk_at dksX0_pay_3 14 rfl rfl)
theorem dX0_pay_85 : decode cX0_pay 85 = .ok (.invokevirtual 100, 3) := dk_182 0 100 (dk_at dksX0_pay_3 15 rfl rfl)
theorem dX0_pay_88 : decode cX0_pay 88 = .ok (.aload_n 0, 1) := dk_42 (dk_at dksX0_pay_3 18 rfl rfl)
theorem dX0_pay_89 : decode cX0_pay 89 = .ok (.aload_n 0, 1) := dk_42 (dk_at dksX0_pay_3 19 rfl rfl)
theorem dX0_pay_90 : decode cX0_pay 90 = .ok (.getfield 46, 3) := dk_180 0 46 (dk_at dksX0_pay_3 20 rfl rfl)
theorem dX0_pay_93 : decode cX0_pay 93 = .ok (.getfield 124, 3) := dk_180 0 124 (dk_at dksX0_pay_4 0 rfl rfl)
theorem dX0_pay_96 : decode cX0_pay 96 = .ok (.bipush 8, 2) := dk_16 8 (dk_at dksX0_pay_4 3 rfl rfl)
theorem dX0_pay_98 : decode cX0_pay 98 = .ok (.iload 4, 2) := dk_21 4 (dk_at dksX0_pay_4 5 rfl rfl)
theorem dX0_pay_100 : decode cX0_pay 100 = .ok (.imul, 1) := dk_104 (dk_at dksX0_pay_4 7 rfl rfl)
theorem dX0_pay_101 : decode cX0_pay 101 = .ok (.iload_n 2, 1) := dk_28 (dk_at dksX0_pay_4 8 rfl rfl)
theorem dX0_pay_102 : decode cX0_pay 102 = .ok (.iadd, 1) := dk_96 (dk_at dksX0_pay_4 9 rfl rfl)
theorem dX0_pay_103 : decode cX0_pay 103 = .ok (.iaload, 1) := dk_46 (dk_at dksX0_pay_4 10 rfl rfl)
theorem dX0_pay_104 : decode cX0_pay 104 = .ok (.iload_n 3, 1) := dk_29 (dk_at dksX0_pay_4 11 rfl rfl)
theorem dX0_pay_105 : decode cX0_pay 105 = .ok (.if_icmp .lt 7, 3) := dk_161 0 7 (dk_at dksX0_pay_4 12 rfl rfl)
theorem dX0_pay_108 : decode cX0_pay 108 = .ok (.iconst 1, 1) := dk_4 (dk_at dksX0_pay_4 15 rfl rfl)
theorem dX0_pay_109 : decode cX0_pay 109 = .ok (.goto 4, 3) := dk_167 0 4 (dk_at dksX0_pay_4 16 rfl rfl)
theorem dX0_pay_112 : decode cX0_pay 112 = .ok (.iconst 0, 1) := dk_3 (dk_at dksX0_pay_4 19 rfl rfl)
theorem dX0_pay_113 : decode cX0_pay 113 = .ok (.iconst 3, 1) := dk_6 (dk_at dksX0_pay_4 20 rfl rfl)
theorem dX0_pay_114 : decode cX0_pay 114 = .ok (.invokevirtual 100, 3) := dk_182 0 100 (dk_at dksX0_pay_4 21 rfl rfl)
theorem dX0_pay_117 : decode cX0_pay 117 = .ok (.aload_n 0, 1) := dk_42 (dk_at dksX0_pay_5 0 rfl rfl)
theorem dX0_pay_118 : decode cX0_pay 118 = .ok (.getfield 46, 3) := dk_180 0 46 (dk_at dksX0_pay_5 1 rfl rfl)
theorem dX0_pay_121 : decode cX0_pay 121 = .ok (.getfield 124, 3) := dk_180 0 124 (dk_at dksX0_pay_5 4 rfl rfl)
theorem dX0_pay_124 : decode cX0_pay 124 = .ok (.bipush 8, 2) := dk_16 8 (dk_at dksX0_pay_5 7 rfl rfl)
theorem dX0_pay_126 : decode cX0_pay 126 = .ok (.iload 4, 2) := dk_21 4 (dk_at dksX0_pay_5 9 rfl rfl)
theorem dX0_pay_128 : decode cX0_pay 128 = .ok (.imul, 1) := dk_104 (dk_at dksX0_pay_5 11 rfl rfl)
theorem dX0_pay_129 : decode cX0_pay 129 = .ok (.iload_n 2, 1) := dk_28 (dk_at dksX0_pay_5 12 rfl rfl)
theorem dX0_pay_130 : decode cX0_pay 130 = .ok (.iadd, 1) := dk_96 (dk_at dksX0_pay_5 13 rfl rfl)
theorem dX0_pay_131 : decode cX0_pay 131 = .ok (.dup2, 1) := dk_92 (dk_at dksX0_pay_5 14 rfl rfl)
theorem dX0_pay_132 : decode cX0_pay 132 = .ok (.iaload, 1) := dk_46 (dk_at dksX0_pay_5 15 rfl rfl)
theorem dX0_pay_133 : decode cX0_pay 133 = .ok (.iload_n 3, 1) := dk_29 (dk_at dksX0_pay_5 16 rfl rfl)
theorem dX0_pay_134 : decode cX0_pay 134 = .ok (.isub, 1) := dk_100 (dk_at dksX0_pay_5 17 rfl rfl)
theorem dX0_pay_135 : decode cX0_pay 135 = .ok (.iastore, 1) := dk_79 (dk_at dksX0_pay_5 18 rfl rfl)
theorem dX0_pay_136 : decode cX0_pay 136 = .ok (.aload_n 0, 1) := dk_42 (dk_at dksX0_pay_5 19 rfl rfl)
theorem dX0_pay_137 : decode cX0_pay 137 = .ok (.getfield 46, 3) := dk_180 0 46 (dk_at dksX0_pay_5 20 rfl rfl)
theorem dX0_pay_140 : decode cX0_pay 140 = .ok (.getfield 124, 3) := dk_180 0 124 (dk_at dksX0_pay_6 0 rfl rfl)
theorem dX0_pay_143 : decode cX0_pay 143 = .ok (.bipush 8, 2) := dk_16 8 (dk_at dksX0_pay_6 3 rfl rfl)
theorem dX0_pay_145 : decode cX0_pay 145 = .ok (.iload 4, 2) := dk_21 4 (dk_at dksX0_pay_6 5 rfl rfl)
theorem dX0_pay_147 : decode cX0_pay 147 = .ok (.imul, 1) := dk_104 (dk_at dksX0_pay_6 7 rfl rfl)
theorem dX0_pay_148 : decode cX0_pay 148 = .ok (.iload_n 2, 1) := dk_28 (dk_at dksX0_pay_6 8 rfl rfl)
theorem dX0_pay_149 : decode cX0_pay 149 = .ok (.iadd, 1) := dk_96 (dk_at dksX0_pay_6 9 rfl rfl)
theorem dX0_pay_150 : decode cX0_pay 150 = .ok (.iaload, 1) := dk_46 (dk_at dksX0_pay_6 10 rfl rfl)
theorem dX0_pay_151 : decode cX0_pay 151 = .ok (.ireturn, 1) := dk_172 (dk_at dksX0_pay_6 11 rfl rfl)
theorem dX0_pay_152 : decode cX0_pay 152 = .ok (.astore 4, 2) := dk_58 4 (dk_at dksX0_pay_6 12 rfl rfl)
theorem dX0_pay_154 : decode cX0_pay 154 = .ok (.aload_n 0, 1) := dk_42 (dk_at dksX0_pay_6 14 rfl rfl)
theorem dX0_pay_155 : decode cX0_pay 155 = .ok (.aload 4, 2) := dk_25 4 (dk_at dksX0_pay_6 15 rfl rfl)
theorem dX0_pay_157 : decode cX0_pay 157 = .ok (.invokevirtual 109, 3) := dk_182 0 109 (dk_at dksX0_pay_6 17 rfl rfl)
theorem dX0_pay_160 : decode cX0_pay 160 = .ok (.ireturn, 1) := dk_172 (dk_at dksX0_pay_6 20 rfl rfl)
abbrev cX0_days : ByteArray := prog_1_method_32_code
def yX0_days : MethodName := ⟨RX0, "days", "(I)I"⟩
def dkwX0_days_1 : List UInt8 := [167, 255, 241, 42, 180, 0, 46, 182, 0, 241, 172, 77, 42, 44, 182, 0, 109, 172]
abbrev dktX0_days_1 : List UInt8 := dkwX0_days_1 ++ []
def dkwX0_days_0 : List UInt8 := [42, 27, 16, 60, 182, 0, 235, 3, 61, 28, 27, 162, 0, 16, 42, 180, 0, 46, 182, 0, 238, 132, 2, 1]
abbrev dktX0_days_0 : List UInt8 := dkwX0_days_0 ++ dktX0_days_1
theorem dksX0_days_0 : cX0_days.data.toList.drop 0 = dktX0_days_0 := by decide +kernel
theorem dksX0_days_1 : cX0_days.data.toList.drop 24 = dktX0_days_1 := dk_seg dksX0_days_0 24 rfl rfl
theorem dX0_days_0 : decode cX0_days 0 = .ok (.aload_n 0, 1) := dk_42 (dk_at dksX0_days_0 0 rfl rfl)
theorem dX0_days_1 : decode cX0_days 1 = .ok (.iload_n 1, 1) := dk_27 (dk_at dksX0_days_0 1 rfl rfl)
theorem dX0_days_2 : decode cX0_days 2 = .ok (.bipush 60, 2) := dk_16 60 (dk_at dksX0_days_0 2 rfl rfl)
theorem dX0_days_4 : decode cX0_days 4 = .ok (.invokevirtual 235, 3) := dk_182 0 235 (dk_at dksX0_days_0 4 rfl rfl)
theorem dX0_days_7 : decode cX0_days 7 = .ok (.iconst 0, 1) := dk_3 (dk_at dksX0_days_0 7 rfl rfl)
theorem dX0_days_8 : decode cX0_days 8 = .ok (.istore_n 2, 1) := dk_61 (dk_at dksX0_days_0 8 rfl rfl)
theorem dX0_days_9 : decode cX0_days 9 = .ok (.iload_n 2, 1) := dk_28 (dk_at dksX0_days_0 9 rfl rfl)
theorem dX0_days_10 : decode cX0_days 10 = .ok (.iload_n 1, 1) := dk_27 (dk_at dksX0_days_0 10 rfl rfl)
theorem dX0_days_11 : decode cX0_days 11 = .ok (.if_icmp .ge 16, 3) := dk_162 0 16 (dk_at dksX0_days_0 11 rfl rfl)
theorem dX0_days_14 : decode cX0_days 14 = .ok (.aload_n 0, 1) := dk_42 (dk_at dksX0_days_0 14 rfl rfl)
theorem dX0_days_15 : decode cX0_days 15 = .ok (.getfield 46, 3) := dk_180 0 46 (dk_at dksX0_days_0 15 rfl rfl)
theorem dX0_days_18 : decode cX0_days 18 = .ok (.invokevirtual 238, 3) := dk_182 0 238 (dk_at dksX0_days_0 18 rfl rfl)
theorem dX0_days_21 : decode cX0_days 21 = .ok (.iinc 2 1, 3) := dk_132 2 1 (dk_at dksX0_days_0 21 rfl rfl)
theorem dX0_days_24 : decode cX0_days 24 = .ok (.goto (-15), 3) := dk_167 255 241 (dk_at dksX0_days_1 0 rfl rfl)
theorem dX0_days_27 : decode cX0_days 27 = .ok (.aload_n 0, 1) := dk_42 (dk_at dksX0_days_1 3 rfl rfl)
theorem dX0_days_28 : decode cX0_days 28 = .ok (.getfield 46, 3) := dk_180 0 46 (dk_at dksX0_days_1 4 rfl rfl)
theorem dX0_days_31 : decode cX0_days 31 = .ok (.invokevirtual 241, 3) := dk_182 0 241 (dk_at dksX0_days_1 7 rfl rfl)
theorem dX0_days_34 : decode cX0_days 34 = .ok (.ireturn, 1) := dk_172 (dk_at dksX0_days_1 10 rfl rfl)
theorem dX0_days_35 : decode cX0_days 35 = .ok (.astore_n 2, 1) := dk_77 (dk_at dksX0_days_1 11 rfl rfl)
theorem dX0_days_36 : decode cX0_days 36 = .ok (.aload_n 0, 1) := dk_42 (dk_at dksX0_days_1 12 rfl rfl)
theorem dX0_days_37 : decode cX0_days 37 = .ok (.aload_n 2, 1) := dk_44 (dk_at dksX0_days_1 13 rfl rfl)
theorem dX0_days_38 : decode cX0_days 38 = .ok (.invokevirtual 109, 3) := dk_182 0 109 (dk_at dksX0_days_1 14 rfl rfl)
theorem dX0_days_41 : decode cX0_days 41 = .ok (.ireturn, 1) := dk_172 (dk_at dksX0_days_1 17 rfl rfl)
abbrev cX0_mustGo : ByteArray := prog_1_method_31_code
def yX0_mustGo : MethodName := ⟨RX0, "mustGo", "(II)V"⟩
def dkwX0_mustGo_2 : List UInt8 := [182, 0, 100, 177]
abbrev dktX0_mustGo_2 : List UInt8 := dkwX0_mustGo_2 ++ []
def dkwX0_mustGo_1 : List UInt8 := [163, 0, 21, 42, 180, 0, 46, 180, 0, 224, 27, 96, 18, 227, 163, 0, 7, 4, 167, 0, 4, 3, 6]
abbrev dktX0_mustGo_1 : List UInt8 := dkwX0_mustGo_1 ++ dktX0_mustGo_2
def dkwX0_mustGo_0 : List UInt8 := [42, 27, 4, 28, 184, 0, 85, 4, 182, 0, 100, 42, 42, 180, 0, 46, 180, 0, 232, 27, 96, 17, 39, 15]
abbrev dktX0_mustGo_0 : List UInt8 := dkwX0_mustGo_0 ++ dktX0_mustGo_1
theorem dksX0_mustGo_0 : cX0_mustGo.data.toList.drop 0 = dktX0_mustGo_0 := by decide +kernel
theorem dksX0_mustGo_1 : cX0_mustGo.data.toList.drop 24 = dktX0_mustGo_1 := dk_seg dksX0_mustGo_0 24 rfl rfl
theorem dksX0_mustGo_2 : cX0_mustGo.data.toList.drop 47 = dktX0_mustGo_2 := dk_seg dksX0_mustGo_1 23 rfl rfl
theorem dX0_mustGo_0 : decode cX0_mustGo 0 = .ok (.aload_n 0, 1) := dk_42 (dk_at dksX0_mustGo_0 0 rfl rfl)
theorem dX0_mustGo_1 : decode cX0_mustGo 1 = .ok (.iload_n 1, 1) := dk_27 (dk_at dksX0_mustGo_0 1 rfl rfl)
theorem dX0_mustGo_2 : decode cX0_mustGo 2 = .ok (.iconst 1, 1) := dk_4 (dk_at dksX0_mustGo_0 2 rfl rfl)
theorem dX0_mustGo_3 : decode cX0_mustGo 3 = .ok (.iload_n 2, 1) := dk_28 (dk_at dksX0_mustGo_0 3 rfl rfl)
theorem dX0_mustGo_4 : decode cX0_mustGo 4 = .ok (.invokestatic 85, 3) := dk_184 0 85 (dk_at dksX0_mustGo_0 4 rfl rfl)
theorem dX0_mustGo_7 : decode cX0_mustGo 7 = .ok (.iconst 1, 1) := dk_4 (dk_at dksX0_mustGo_0 7 rfl rfl)
theorem dX0_mustGo_8 : decode cX0_mustGo 8 = .ok (.invokevirtual 100, 3) := dk_182 0 100 (dk_at dksX0_mustGo_0 8 rfl rfl)
theorem dX0_mustGo_11 : decode cX0_mustGo 11 = .ok (.aload_n 0, 1) := dk_42 (dk_at dksX0_mustGo_0 11 rfl rfl)
theorem dX0_mustGo_12 : decode cX0_mustGo 12 = .ok (.aload_n 0, 1) := dk_42 (dk_at dksX0_mustGo_0 12 rfl rfl)
theorem dX0_mustGo_13 : decode cX0_mustGo 13 = .ok (.getfield 46, 3) := dk_180 0 46 (dk_at dksX0_mustGo_0 13 rfl rfl)
theorem dX0_mustGo_16 : decode cX0_mustGo 16 = .ok (.getfield 232, 3) := dk_180 0 232 (dk_at dksX0_mustGo_0 16 rfl rfl)
theorem dX0_mustGo_19 : decode cX0_mustGo 19 = .ok (.iload_n 1, 1) := dk_27 (dk_at dksX0_mustGo_0 19 rfl rfl)
theorem dX0_mustGo_20 : decode cX0_mustGo 20 = .ok (.iadd, 1) := dk_96 (dk_at dksX0_mustGo_0 20 rfl rfl)
theorem dX0_mustGo_21 : decode cX0_mustGo 21 = .ok (.sipush 9999, 3) := dk_17 39 15 (dk_at dksX0_mustGo_0 21 rfl rfl)
theorem dX0_mustGo_24 : decode cX0_mustGo 24 = .ok (.if_icmp .gt 21, 3) := dk_163 0 21 (dk_at dksX0_mustGo_1 0 rfl rfl)
theorem dX0_mustGo_27 : decode cX0_mustGo 27 = .ok (.aload_n 0, 1) := dk_42 (dk_at dksX0_mustGo_1 3 rfl rfl)
theorem dX0_mustGo_28 : decode cX0_mustGo 28 = .ok (.getfield 46, 3) := dk_180 0 46 (dk_at dksX0_mustGo_1 4 rfl rfl)
theorem dX0_mustGo_31 : decode cX0_mustGo 31 = .ok (.getfield 224, 3) := dk_180 0 224 (dk_at dksX0_mustGo_1 7 rfl rfl)
theorem dX0_mustGo_34 : decode cX0_mustGo 34 = .ok (.iload_n 1, 1) := dk_27 (dk_at dksX0_mustGo_1 10 rfl rfl)
theorem dX0_mustGo_35 : decode cX0_mustGo 35 = .ok (.iadd, 1) := dk_96 (dk_at dksX0_mustGo_1 11 rfl rfl)
theorem dX0_mustGo_36 : decode cX0_mustGo 36 = .ok (.ldc 227, 2) := dk_18 227 (dk_at dksX0_mustGo_1 12 rfl rfl)
theorem dX0_mustGo_38 : decode cX0_mustGo 38 = .ok (.if_icmp .gt 7, 3) := dk_163 0 7 (dk_at dksX0_mustGo_1 14 rfl rfl)
theorem dX0_mustGo_41 : decode cX0_mustGo 41 = .ok (.iconst 1, 1) := dk_4 (dk_at dksX0_mustGo_1 17 rfl rfl)
theorem dX0_mustGo_42 : decode cX0_mustGo 42 = .ok (.goto 4, 3) := dk_167 0 4 (dk_at dksX0_mustGo_1 18 rfl rfl)
theorem dX0_mustGo_45 : decode cX0_mustGo 45 = .ok (.iconst 0, 1) := dk_3 (dk_at dksX0_mustGo_1 21 rfl rfl)
theorem dX0_mustGo_46 : decode cX0_mustGo 46 = .ok (.iconst 3, 1) := dk_6 (dk_at dksX0_mustGo_1 22 rfl rfl)
theorem dX0_mustGo_47 : decode cX0_mustGo 47 = .ok (.invokevirtual 100, 3) := dk_182 0 100 (dk_at dksX0_mustGo_2 0 rfl rfl)
theorem dX0_mustGo_50 : decode cX0_mustGo 50 = .ok (.return_, 1) := dk_177 (dk_at dksX0_mustGo_2 3 rfl rfl)
abbrev cX0_loose : ByteArray := prog_1_method_33_code
def yX0_loose : MethodName := ⟨RX0, "loose", "(I)I"⟩
def dkwX0_loose_1 : List UInt8 := [167, 255, 241, 42, 180, 0, 46, 182, 0, 241, 172, 77, 42, 44, 182, 0, 109, 172]
abbrev dktX0_loose_1 : List UInt8 := dkwX0_loose_1 ++ []
def dkwX0_loose_0 : List UInt8 := [42, 27, 16, 40, 182, 0, 235, 3, 61, 28, 27, 162, 0, 16, 42, 180, 0, 46, 182, 0, 244, 132, 2, 1]
abbrev dktX0_loose_0 : List UInt8 := dkwX0_loose_0 ++ dktX0_loose_1
theorem dksX0_loose_0 : cX0_loose.data.toList.drop 0 = dktX0_loose_0 := by decide +kernel
theorem dksX0_loose_1 : cX0_loose.data.toList.drop 24 = dktX0_loose_1 := dk_seg dksX0_loose_0 24 rfl rfl
theorem dX0_loose_0 : decode cX0_loose 0 = .ok (.aload_n 0, 1) := dk_42 (dk_at dksX0_loose_0 0 rfl rfl)
theorem dX0_loose_1 : decode cX0_loose 1 = .ok (.iload_n 1, 1) := dk_27 (dk_at dksX0_loose_0 1 rfl rfl)
theorem dX0_loose_2 : decode cX0_loose 2 = .ok (.bipush 40, 2) := dk_16 40 (dk_at dksX0_loose_0 2 rfl rfl)
theorem dX0_loose_4 : decode cX0_loose 4 = .ok (.invokevirtual 235, 3) := dk_182 0 235 (dk_at dksX0_loose_0 4 rfl rfl)
theorem dX0_loose_7 : decode cX0_loose 7 = .ok (.iconst 0, 1) := dk_3 (dk_at dksX0_loose_0 7 rfl rfl)
theorem dX0_loose_8 : decode cX0_loose 8 = .ok (.istore_n 2, 1) := dk_61 (dk_at dksX0_loose_0 8 rfl rfl)
theorem dX0_loose_9 : decode cX0_loose 9 = .ok (.iload_n 2, 1) := dk_28 (dk_at dksX0_loose_0 9 rfl rfl)
theorem dX0_loose_10 : decode cX0_loose 10 = .ok (.iload_n 1, 1) := dk_27 (dk_at dksX0_loose_0 10 rfl rfl)
theorem dX0_loose_11 : decode cX0_loose 11 = .ok (.if_icmp .ge 16, 3) := dk_162 0 16 (dk_at dksX0_loose_0 11 rfl rfl)
theorem dX0_loose_14 : decode cX0_loose 14 = .ok (.aload_n 0, 1) := dk_42 (dk_at dksX0_loose_0 14 rfl rfl)
theorem dX0_loose_15 : decode cX0_loose 15 = .ok (.getfield 46, 3) := dk_180 0 46 (dk_at dksX0_loose_0 15 rfl rfl)
theorem dX0_loose_18 : decode cX0_loose 18 = .ok (.invokevirtual 244, 3) := dk_182 0 244 (dk_at dksX0_loose_0 18 rfl rfl)
theorem dX0_loose_21 : decode cX0_loose 21 = .ok (.iinc 2 1, 3) := dk_132 2 1 (dk_at dksX0_loose_0 21 rfl rfl)
theorem dX0_loose_24 : decode cX0_loose 24 = .ok (.goto (-15), 3) := dk_167 255 241 (dk_at dksX0_loose_1 0 rfl rfl)
theorem dX0_loose_27 : decode cX0_loose 27 = .ok (.aload_n 0, 1) := dk_42 (dk_at dksX0_loose_1 3 rfl rfl)
theorem dX0_loose_28 : decode cX0_loose 28 = .ok (.getfield 46, 3) := dk_180 0 46 (dk_at dksX0_loose_1 4 rfl rfl)
theorem dX0_loose_31 : decode cX0_loose 31 = .ok (.invokevirtual 241, 3) := dk_182 0 241 (dk_at dksX0_loose_1 7 rfl rfl)
theorem dX0_loose_34 : decode cX0_loose 34 = .ok (.ireturn, 1) := dk_172 (dk_at dksX0_loose_1 10 rfl rfl)
theorem dX0_loose_35 : decode cX0_loose 35 = .ok (.astore_n 2, 1) := dk_77 (dk_at dksX0_loose_1 11 rfl rfl)
theorem dX0_loose_36 : decode cX0_loose 36 = .ok (.aload_n 0, 1) := dk_42 (dk_at dksX0_loose_1 12 rfl rfl)
theorem dX0_loose_37 : decode cX0_loose 37 = .ok (.aload_n 2, 1) := dk_44 (dk_at dksX0_loose_1 13 rfl rfl)
theorem dX0_loose_38 : decode cX0_loose 38 = .ok (.invokevirtual 109, 3) := dk_182 0 109 (dk_at dksX0_loose_1 14 rfl rfl)
theorem dX0_loose_41 : decode cX0_loose 41 = .ok (.ireturn, 1) := dk_172 (dk_at dksX0_loose_1 17 rfl rfl)
abbrev cX0_same : ByteArray := prog_1_method_34_code
def yX0_same : MethodName := ⟨RX0, "same", "()I"⟩
def dkwX0_same_4 : List UInt8 := [4, 167, 0, 4, 3, 96, 60, 132, 3, 1, 167, 255, 170, 132, 2, 1, 167, 255, 151, 27, 172]
abbrev dktX0_same_4 : List UInt8 := dkwX0_same_4 ++ []
def dkwX0_same_3 : List UInt8 := [180, 0, 46, 180, 0, 131, 29, 46, 160, 0, 20, 42, 180, 0, 46, 180, 0, 131, 28, 46, 2, 159, 0, 7]
abbrev dktX0_same_3 : List UInt8 := dkwX0_same_3 ++ dktX0_same_4
def dkwX0_same_2 : List UInt8 := [167, 0, 4, 3, 54, 4, 27, 21, 4, 153, 0, 41, 42, 180, 0, 46, 180, 0, 131, 28, 46, 42]
abbrev dktX0_same_2 : List UInt8 := dkwX0_same_2 ++ dktX0_same_3
def dkwX0_same_1 : List UInt8 := [180, 0, 46, 180, 0, 127, 28, 51, 154, 0, 19, 42, 180, 0, 46, 180, 0, 127, 29, 51, 154, 0, 7, 4]
abbrev dktX0_same_1 : List UInt8 := dkwX0_same_1 ++ dktX0_same_2
def dkwX0_same_0 : List UInt8 := [3, 60, 3, 61, 28, 42, 180, 0, 46, 180, 0, 93, 162, 0, 100, 3, 62, 29, 28, 162, 0, 87, 42]
abbrev dktX0_same_0 : List UInt8 := dkwX0_same_0 ++ dktX0_same_1
theorem dksX0_same_0 : cX0_same.data.toList.drop 0 = dktX0_same_0 := by decide +kernel
theorem dksX0_same_1 : cX0_same.data.toList.drop 23 = dktX0_same_1 := dk_seg dksX0_same_0 23 rfl rfl
theorem dksX0_same_2 : cX0_same.data.toList.drop 47 = dktX0_same_2 := dk_seg dksX0_same_1 24 rfl rfl
theorem dksX0_same_3 : cX0_same.data.toList.drop 69 = dktX0_same_3 := dk_seg dksX0_same_2 22 rfl rfl
theorem dksX0_same_4 : cX0_same.data.toList.drop 93 = dktX0_same_4 := dk_seg dksX0_same_3 24 rfl rfl
theorem dX0_same_0 : decode cX0_same 0 = .ok (.iconst 0, 1) := dk_3 (dk_at dksX0_same_0 0 rfl rfl)
theorem dX0_same_1 : decode cX0_same 1 = .ok (.istore_n 1, 1) := dk_60 (dk_at dksX0_same_0 1 rfl rfl)
theorem dX0_same_2 : decode cX0_same 2 = .ok (.iconst 0, 1) := dk_3 (dk_at dksX0_same_0 2 rfl rfl)
theorem dX0_same_3 : decode cX0_same 3 = .ok (.istore_n 2, 1) := dk_61 (dk_at dksX0_same_0 3 rfl rfl)
theorem dX0_same_4 : decode cX0_same 4 = .ok (.iload_n 2, 1) := dk_28 (dk_at dksX0_same_0 4 rfl rfl)
theorem dX0_same_5 : decode cX0_same 5 = .ok (.aload_n 0, 1) := dk_42 (dk_at dksX0_same_0 5 rfl rfl)
theorem dX0_same_6 : decode cX0_same 6 = .ok (.getfield 46, 3) := dk_180 0 46 (dk_at dksX0_same_0 6 rfl rfl)
theorem dX0_same_9 : decode cX0_same 9 = .ok (.getfield 93, 3) := dk_180 0 93 (dk_at dksX0_same_0 9 rfl rfl)
theorem dX0_same_12 : decode cX0_same 12 = .ok (.if_icmp .ge 100, 3) := dk_162 0 100 (dk_at dksX0_same_0 12 rfl rfl)
theorem dX0_same_15 : decode cX0_same 15 = .ok (.iconst 0, 1) := dk_3 (dk_at dksX0_same_0 15 rfl rfl)
theorem dX0_same_16 : decode cX0_same 16 = .ok (.istore_n 3, 1) := dk_62 (dk_at dksX0_same_0 16 rfl rfl)
theorem dX0_same_17 : decode cX0_same 17 = .ok (.iload_n 3, 1) := dk_29 (dk_at dksX0_same_0 17 rfl rfl)
theorem dX0_same_18 : decode cX0_same 18 = .ok (.iload_n 2, 1) := dk_28 (dk_at dksX0_same_0 18 rfl rfl)
theorem dX0_same_19 : decode cX0_same 19 = .ok (.if_icmp .ge 87, 3) := dk_162 0 87 (dk_at dksX0_same_0 19 rfl rfl)
theorem dX0_same_22 : decode cX0_same 22 = .ok (.aload_n 0, 1) := dk_42 (dk_at dksX0_same_0 22 rfl rfl)
theorem dX0_same_23 : decode cX0_same 23 = .ok (.getfield 46, 3) := dk_180 0 46 (dk_at dksX0_same_1 0 rfl rfl)
theorem dX0_same_26 : decode cX0_same 26 = .ok (.getfield 127, 3) := dk_180 0 127 (dk_at dksX0_same_1 3 rfl rfl)
theorem dX0_same_29 : decode cX0_same 29 = .ok (.iload_n 2, 1) := dk_28 (dk_at dksX0_same_1 6 rfl rfl)
theorem dX0_same_30 : decode cX0_same 30 = .ok (.baload, 1) := dk_51 (dk_at dksX0_same_1 7 rfl rfl)
theorem dX0_same_31 : decode cX0_same 31 = .ok (.ifCond .ne 19, 3) := dk_154 0 19 (dk_at dksX0_same_1 8 rfl rfl)
theorem dX0_same_34 : decode cX0_same 34 = .ok (.aload_n 0, 1) := dk_42 (dk_at dksX0_same_1 11 rfl rfl)
theorem dX0_same_35 : decode cX0_same 35 = .ok (.getfield 46, 3) := dk_180 0 46 (dk_at dksX0_same_1 12 rfl rfl)
theorem dX0_same_38 : decode cX0_same 38 = .ok (.getfield 127, 3) := dk_180 0 127 (dk_at dksX0_same_1 15 rfl rfl)
theorem dX0_same_41 : decode cX0_same 41 = .ok (.iload_n 3, 1) := dk_29 (dk_at dksX0_same_1 18 rfl rfl)
theorem dX0_same_42 : decode cX0_same 42 = .ok (.baload, 1) := dk_51 (dk_at dksX0_same_1 19 rfl rfl)
theorem dX0_same_43 : decode cX0_same 43 = .ok (.ifCond .ne 7, 3) := dk_154 0 7 (dk_at dksX0_same_1 20 rfl rfl)
theorem dX0_same_46 : decode cX0_same 46 = .ok (.iconst 1, 1) := dk_4 (dk_at dksX0_same_1 23 rfl rfl)
theorem dX0_same_47 : decode cX0_same 47 = .ok (.goto 4, 3) := dk_167 0 4 (dk_at dksX0_same_2 0 rfl rfl)
theorem dX0_same_50 : decode cX0_same 50 = .ok (.iconst 0, 1) := dk_3 (dk_at dksX0_same_2 3 rfl rfl)
theorem dX0_same_51 : decode cX0_same 51 = .ok (.istore 4, 2) := dk_54 4 (dk_at dksX0_same_2 4 rfl rfl)
theorem dX0_same_53 : decode cX0_same 53 = .ok (.iload_n 1, 1) := dk_27 (dk_at dksX0_same_2 6 rfl rfl)
theorem dX0_same_54 : decode cX0_same 54 = .ok (.iload 4, 2) := dk_21 4 (dk_at dksX0_same_2 7 rfl rfl)
theorem dX0_same_56 : decode cX0_same 56 = .ok (.ifCond .eq 41, 3) := dk_153 0 41 (dk_at dksX0_same_2 9 rfl rfl)
theorem dX0_same_59 : decode cX0_same 59 = .ok (.aload_n 0, 1) := dk_42 (dk_at dksX0_same_2 12 rfl rfl)
theorem dX0_same_60 : decode cX0_same 60 = .ok (.getfield 46, 3) := dk_180 0 46 (dk_at dksX0_same_2 13 rfl rfl)
theorem dX0_same_63 : decode cX0_same 63 = .ok (.getfield 131, 3) := dk_180 0 131 (dk_at dksX0_same_2 16 rfl rfl)
theorem dX0_same_66 : decode cX0_same 66 = .ok (.iload_n 2, 1) := dk_28 (dk_at dksX0_same_2 19 rfl rfl)
theorem dX0_same_67 : decode cX0_same 67 = .ok (.iaload, 1) := dk_46 (dk_at dksX0_same_2 20 rfl rfl)
theorem dX0_same_68 : decode cX0_same 68 = .ok (.aload_n 0, 1) := dk_42 (dk_at dksX0_same_2 21 rfl rfl)
theorem dX0_same_69 : decode cX0_same 69 = .ok (.getfield 46, 3) := dk_180 0 46 (dk_at dksX0_same_3 0 rfl rfl)
theorem dX0_same_72 : decode cX0_same 72 = .ok (.getfield 131, 3) := dk_180 0 131 (dk_at dksX0_same_3 3 rfl rfl)
theorem dX0_same_75 : decode cX0_same 75 = .ok (.iload_n 3, 1) := dk_29 (dk_at dksX0_same_3 6 rfl rfl)
theorem dX0_same_76 : decode cX0_same 76 = .ok (.iaload, 1) := dk_46 (dk_at dksX0_same_3 7 rfl rfl)
theorem dX0_same_77 : decode cX0_same 77 = .ok (.if_icmp .ne 20, 3) := dk_160 0 20 (dk_at dksX0_same_3 8 rfl rfl)
theorem dX0_same_80 : decode cX0_same 80 = .ok (.aload_n 0, 1) := dk_42 (dk_at dksX0_same_3 11 rfl rfl)
theorem dX0_same_81 : decode cX0_same 81 = .ok (.getfield 46, 3) := dk_180 0 46 (dk_at dksX0_same_3 12 rfl rfl)
theorem dX0_same_84 : decode cX0_same 84 = .ok (.getfield 131, 3) := dk_180 0 131 (dk_at dksX0_same_3 15 rfl rfl)
theorem dX0_same_87 : decode cX0_same 87 = .ok (.iload_n 2, 1) := dk_28 (dk_at dksX0_same_3 18 rfl rfl)
theorem dX0_same_88 : decode cX0_same 88 = .ok (.iaload, 1) := dk_46 (dk_at dksX0_same_3 19 rfl rfl)
theorem dX0_same_89 : decode cX0_same 89 = .ok (.iconst (-1), 1) := dk_2 (dk_at dksX0_same_3 20 rfl rfl)
theorem dX0_same_90 : decode cX0_same 90 = .ok (.if_icmp .eq 7, 3) := dk_159 0 7 (dk_at dksX0_same_3 21 rfl rfl)
theorem dX0_same_93 : decode cX0_same 93 = .ok (.iconst 1, 1) := dk_4 (dk_at dksX0_same_4 0 rfl rfl)
theorem dX0_same_94 : decode cX0_same 94 = .ok (.goto 4, 3) := dk_167 0 4 (dk_at dksX0_same_4 1 rfl rfl)
theorem dX0_same_97 : decode cX0_same 97 = .ok (.iconst 0, 1) := dk_3 (dk_at dksX0_same_4 4 rfl rfl)
theorem dX0_same_98 : decode cX0_same 98 = .ok (.iadd, 1) := dk_96 (dk_at dksX0_same_4 5 rfl rfl)
theorem dX0_same_99 : decode cX0_same 99 = .ok (.istore_n 1, 1) := dk_60 (dk_at dksX0_same_4 6 rfl rfl)
theorem dX0_same_100 : decode cX0_same 100 = .ok (.iinc 3 1, 3) := dk_132 3 1 (dk_at dksX0_same_4 7 rfl rfl)
theorem dX0_same_103 : decode cX0_same 103 = .ok (.goto (-86), 3) := dk_167 255 170 (dk_at dksX0_same_4 10 rfl rfl)
theorem dX0_same_106 : decode cX0_same 106 = .ok (.iinc 2 1, 3) := dk_132 2 1 (dk_at dksX0_same_4 13 rfl rfl)
theorem dX0_same_109 : decode cX0_same 109 = .ok (.goto (-105), 3) := dk_167 255 151 (dk_at dksX0_same_4 16 rfl rfl)
theorem dX0_same_112 : decode cX0_same 112 = .ok (.iload_n 1, 1) := dk_27 (dk_at dksX0_same_4 19 rfl rfl)
theorem dX0_same_113 : decode cX0_same 113 = .ok (.ireturn, 1) := dk_172 (dk_at dksX0_same_4 20 rfl rfl)
abbrev cX0_soonest : ByteArray := prog_1_method_42_code
def yX0_soonest : MethodName := ⟨RX0, "soonest", "(III)I"⟩
def dkwX0_soonest_0 : List UInt8 := [42, 27, 28, 29, 3, 182, 1, 31, 172, 58, 4, 42, 25, 4, 182, 0, 109, 172]
abbrev dktX0_soonest_0 : List UInt8 := dkwX0_soonest_0 ++ []
theorem dksX0_soonest_0 : cX0_soonest.data.toList.drop 0 = dktX0_soonest_0 := by decide +kernel
theorem dX0_soonest_0 : decode cX0_soonest 0 = .ok (.aload_n 0, 1) := dk_42 (dk_at dksX0_soonest_0 0 rfl rfl)
theorem dX0_soonest_1 : decode cX0_soonest 1 = .ok (.iload_n 1, 1) := dk_27 (dk_at dksX0_soonest_0 1 rfl rfl)
theorem dX0_soonest_2 : decode cX0_soonest 2 = .ok (.iload_n 2, 1) := dk_28 (dk_at dksX0_soonest_0 2 rfl rfl)
theorem dX0_soonest_3 : decode cX0_soonest 3 = .ok (.iload_n 3, 1) := dk_29 (dk_at dksX0_soonest_0 3 rfl rfl)
theorem dX0_soonest_4 : decode cX0_soonest 4 = .ok (.iconst 0, 1) := dk_3 (dk_at dksX0_soonest_0 4 rfl rfl)
theorem dX0_soonest_5 : decode cX0_soonest 5 = .ok (.invokevirtual 287, 3) := dk_182 1 31 (dk_at dksX0_soonest_0 5 rfl rfl)
theorem dX0_soonest_8 : decode cX0_soonest 8 = .ok (.ireturn, 1) := dk_172 (dk_at dksX0_soonest_0 8 rfl rfl)
theorem dX0_soonest_9 : decode cX0_soonest 9 = .ok (.astore 4, 2) := dk_58 4 (dk_at dksX0_soonest_0 9 rfl rfl)
theorem dX0_soonest_11 : decode cX0_soonest 11 = .ok (.aload_n 0, 1) := dk_42 (dk_at dksX0_soonest_0 11 rfl rfl)
theorem dX0_soonest_12 : decode cX0_soonest 12 = .ok (.aload 4, 2) := dk_25 4 (dk_at dksX0_soonest_0 12 rfl rfl)
theorem dX0_soonest_14 : decode cX0_soonest 14 = .ok (.invokevirtual 109, 3) := dk_182 0 109 (dk_at dksX0_soonest_0 14 rfl rfl)
theorem dX0_soonest_17 : decode cX0_soonest 17 = .ok (.ireturn, 1) := dk_172 (dk_at dksX0_soonest_0 17 rfl rfl)
abbrev cX0_waysTo : ByteArray := prog_1_method_41_code
def yX0_waysTo : MethodName := ⟨RX0, "waysTo", "(IIIZ)I"⟩
def dkwX0_waysTo_4 : List UInt8 := [3, 5, 182, 0, 100, 21, 4, 153, 0, 10, 21, 5, 4, 96, 167, 0, 5, 21, 5, 172]
abbrev dktX0_waysTo_4 : List UInt8 := dkwX0_waysTo_4 ++ []
def dkwX0_waysTo_3 : List UInt8 := [182, 1, 22, 167, 0, 6, 19, 1, 17, 54, 5, 42, 21, 5, 19, 1, 17, 162, 0, 7, 4, 167, 0, 4]
abbrev dktX0_waysTo_3 : List UInt8 := dkwX0_waysTo_3 ++ dktX0_waysTo_4
def dkwX0_waysTo_2 : List UInt8 := [180, 0, 131, 27, 46, 28, 160, 0, 5, 3, 172, 42, 27, 28, 29, 182, 1, 2, 153, 0, 11, 42, 28]
abbrev dktX0_waysTo_2 : List UInt8 := dkwX0_waysTo_2 ++ dktX0_waysTo_3
def dkwX0_waysTo_1 : List UInt8 := [167, 0, 4, 3, 4, 182, 0, 100, 42, 21, 4, 181, 1, 5, 42, 27, 29, 182, 1, 28, 42, 180, 0, 46]
abbrev dktX0_waysTo_1 : List UInt8 := dkwX0_waysTo_1 ++ dktX0_waysTo_2
def dkwX0_waysTo_0 : List UInt8 := [42, 42, 27, 182, 0, 158, 153, 0, 21, 28, 184, 0, 89, 153, 0, 14, 29, 184, 1, 25, 153, 0, 7, 4]
abbrev dktX0_waysTo_0 : List UInt8 := dkwX0_waysTo_0 ++ dktX0_waysTo_1
theorem dksX0_waysTo_0 : cX0_waysTo.data.toList.drop 0 = dktX0_waysTo_0 := by decide +kernel
theorem dksX0_waysTo_1 : cX0_waysTo.data.toList.drop 24 = dktX0_waysTo_1 := dk_seg dksX0_waysTo_0 24 rfl rfl
theorem dksX0_waysTo_2 : cX0_waysTo.data.toList.drop 48 = dktX0_waysTo_2 := dk_seg dksX0_waysTo_1 24 rfl rfl
theorem dksX0_waysTo_3 : cX0_waysTo.data.toList.drop 71 = dktX0_waysTo_3 := dk_seg dksX0_waysTo_2 23 rfl rfl
theorem dksX0_waysTo_4 : cX0_waysTo.data.toList.drop 95 = dktX0_waysTo_4 := dk_seg dksX0_waysTo_3 24 rfl rfl
theorem dX0_waysTo_0 : decode cX0_waysTo 0 = .ok (.aload_n 0, 1) := dk_42 (dk_at dksX0_waysTo_0 0 rfl rfl)
theorem dX0_waysTo_1 : decode cX0_waysTo 1 = .ok (.aload_n 0, 1) := dk_42 (dk_at dksX0_waysTo_0 1 rfl rfl)
theorem dX0_waysTo_2 : decode cX0_waysTo 2 = .ok (.iload_n 1, 1) := dk_27 (dk_at dksX0_waysTo_0 2 rfl rfl)
theorem dX0_waysTo_3 : decode cX0_waysTo 3 = .ok (.invokevirtual 158, 3) := dk_182 0 158 (dk_at dksX0_waysTo_0 3 rfl rfl)
theorem dX0_waysTo_6 : decode cX0_waysTo 6 = .ok (.ifCond .eq 21, 3) := dk_153 0 21 (dk_at dksX0_waysTo_0 6 rfl rfl)
theorem dX0_waysTo_9 : decode cX0_waysTo 9 = .ok (.iload_n 2, 1) := dk_28 (dk_at dksX0_waysTo_0 9 rfl rfl)
theorem dX0_waysTo_10 : decode cX0_waysTo 10 = .ok (.invokestatic 89, 3) := dk_184 0 89 (dk_at dksX0_waysTo_0 10 rfl rfl)
theorem dX0_waysTo_13 : decode cX0_waysTo 13 = .ok (.ifCond .eq 14, 3) := dk_153 0 14 (dk_at dksX0_waysTo_0 13 rfl rfl)
theorem dX0_waysTo_16 : decode cX0_waysTo 16 = .ok (.iload_n 3, 1) := dk_29 (dk_at dksX0_waysTo_0 16 rfl rfl)
theorem dX0_waysTo_17 : decode cX0_waysTo 17 = .ok (.invokestatic 281, 3) := dk_184 1 25 (dk_at dksX0_waysTo_0 17 rfl rfl)
theorem dX0_waysTo_20 : decode cX0_waysTo 20 = .ok (.ifCond .eq 7, 3) := dk_153 0 7 (dk_at dksX0_waysTo_0 20 rfl rfl)
theorem dX0_waysTo_23 : decode cX0_waysTo 23 = .ok (.iconst 1, 1) := dk_4 (dk_at dksX0_waysTo_0 23 rfl rfl)
theorem dX0_waysTo_24 : decode cX0_waysTo 24 = .ok (.goto 4, 3) := dk_167 0 4 (dk_at dksX0_waysTo_1 0 rfl rfl)
theorem dX0_waysTo_27 : decode cX0_waysTo 27 = .ok (.iconst 0, 1) := dk_3 (dk_at dksX0_waysTo_1 3 rfl rfl)
theorem dX0_waysTo_28 : decode cX0_waysTo 28 = .ok (.iconst 1, 1) := dk_4 (dk_at dksX0_waysTo_1 4 rfl rfl)
theorem dX0_waysTo_29 : decode cX0_waysTo 29 = .ok (.invokevirtual 100, 3) := dk_182 0 100 (dk_at dksX0_waysTo_1 5 rfl rfl)
theorem dX0_waysTo_32 : decode cX0_waysTo 32 = .ok (.aload_n 0, 1) := dk_42 (dk_at dksX0_waysTo_1 8 rfl rfl)
theorem dX0_waysTo_33 : decode cX0_waysTo 33 = .ok (.iload 4, 2) := dk_21 4 (dk_at dksX0_waysTo_1 9 rfl rfl)
theorem dX0_waysTo_35 : decode cX0_waysTo 35 = .ok (.putfield 261, 3) := dk_181 1 5 (dk_at dksX0_waysTo_1 11 rfl rfl)
theorem dX0_waysTo_38 : decode cX0_waysTo 38 = .ok (.aload_n 0, 1) := dk_42 (dk_at dksX0_waysTo_1 14 rfl rfl)
theorem dX0_waysTo_39 : decode cX0_waysTo 39 = .ok (.iload_n 1, 1) := dk_27 (dk_at dksX0_waysTo_1 15 rfl rfl)
theorem dX0_waysTo_40 : decode cX0_waysTo 40 = .ok (.iload_n 3, 1) := dk_29 (dk_at dksX0_waysTo_1 16 rfl rfl)
theorem dX0_waysTo_41 : decode cX0_waysTo 41 = .ok (.invokevirtual 284, 3) := dk_182 1 28 (dk_at dksX0_waysTo_1 17 rfl rfl)
theorem dX0_waysTo_44 : decode cX0_waysTo 44 = .ok (.aload_n 0, 1) := dk_42 (dk_at dksX0_waysTo_1 20 rfl rfl)
theorem dX0_waysTo_45 : decode cX0_waysTo 45 = .ok (.getfield 46, 3) := dk_180 0 46 (dk_at dksX0_waysTo_1 21 rfl rfl)
theorem dX0_waysTo_48 : decode cX0_waysTo 48 = .ok (.getfield 131, 3) := dk_180 0 131 (dk_at dksX0_waysTo_2 0 rfl rfl)
theorem dX0_waysTo_51 : decode cX0_waysTo 51 = .ok (.iload_n 1, 1) := dk_27 (dk_at dksX0_waysTo_2 3 rfl rfl)
theorem dX0_waysTo_52 : decode cX0_waysTo 52 = .ok (.iaload, 1) := dk_46 (dk_at dksX0_waysTo_2 4 rfl rfl)
theorem dX0_waysTo_53 : decode cX0_waysTo 53 = .ok (.iload_n 2, 1) := dk_28 (dk_at dksX0_waysTo_2 5 rfl rfl)
theorem dX0_waysTo_54 : decode cX0_waysTo 54 = .ok (.if_icmp .ne 5, 3) := dk_160 0 5 (dk_at dksX0_waysTo_2 6 rfl rfl)
theorem dX0_waysTo_57 : decode cX0_waysTo 57 = .ok (.iconst 0, 1) := dk_3 (dk_at dksX0_waysTo_2 9 rfl rfl)
theorem dX0_waysTo_58 : decode cX0_waysTo 58 = .ok (.ireturn, 1) := dk_172 (dk_at dksX0_waysTo_2 10 rfl rfl)
theorem dX0_waysTo_59 : decode cX0_waysTo 59 = .ok (.aload_n 0, 1) := dk_42 (dk_at dksX0_waysTo_2 11 rfl rfl)
theorem dX0_waysTo_60 : decode cX0_waysTo 60 = .ok (.iload_n 1, 1) := dk_27 (dk_at dksX0_waysTo_2 12 rfl rfl)
theorem dX0_waysTo_61 : decode cX0_waysTo 61 = .ok (.iload_n 2, 1) := dk_28 (dk_at dksX0_waysTo_2 13 rfl rfl)
theorem dX0_waysTo_62 : decode cX0_waysTo 62 = .ok (.iload_n 3, 1) := dk_29 (dk_at dksX0_waysTo_2 14 rfl rfl)
theorem dX0_waysTo_63 : decode cX0_waysTo 63 = .ok (.invokevirtual 258, 3) := dk_182 1 2 (dk_at dksX0_waysTo_2 15 rfl rfl)
theorem dX0_waysTo_66 : decode cX0_waysTo 66 = .ok (.ifCond .eq 11, 3) := dk_153 0 11 (dk_at dksX0_waysTo_2 18 rfl rfl)
theorem dX0_waysTo_69 : decode cX0_waysTo 69 = .ok (.aload_n 0, 1) := dk_42 (dk_at dksX0_waysTo_2 21 rfl rfl)
theorem dX0_waysTo_70 : decode cX0_waysTo 70 = .ok (.iload_n 2, 1) := dk_28 (dk_at dksX0_waysTo_2 22 rfl rfl)
theorem dX0_waysTo_71 : decode cX0_waysTo 71 = .ok (.invokevirtual 278, 3) := dk_182 1 22 (dk_at dksX0_waysTo_3 0 rfl rfl)
theorem dX0_waysTo_74 : decode cX0_waysTo 74 = .ok (.goto 6, 3) := dk_167 0 6 (dk_at dksX0_waysTo_3 3 rfl rfl)
theorem dX0_waysTo_77 : decode cX0_waysTo 77 = .ok (.ldc_w 273, 3) := dk_19 1 17 (dk_at dksX0_waysTo_3 6 rfl rfl)
theorem dX0_waysTo_80 : decode cX0_waysTo 80 = .ok (.istore 5, 2) := dk_54 5 (dk_at dksX0_waysTo_3 9 rfl rfl)
theorem dX0_waysTo_82 : decode cX0_waysTo 82 = .ok (.aload_n 0, 1) := dk_42 (dk_at dksX0_waysTo_3 11 rfl rfl)
theorem dX0_waysTo_83 : decode cX0_waysTo 83 = .ok (.iload 5, 2) := dk_21 5 (dk_at dksX0_waysTo_3 12 rfl rfl)
theorem dX0_waysTo_85 : decode cX0_waysTo 85 = .ok (.ldc_w 273, 3) := dk_19 1 17 (dk_at dksX0_waysTo_3 14 rfl rfl)
theorem dX0_waysTo_88 : decode cX0_waysTo 88 = .ok (.if_icmp .ge 7, 3) := dk_162 0 7 (dk_at dksX0_waysTo_3 17 rfl rfl)
theorem dX0_waysTo_91 : decode cX0_waysTo 91 = .ok (.iconst 1, 1) := dk_4 (dk_at dksX0_waysTo_3 20 rfl rfl)
theorem dX0_waysTo_92 : decode cX0_waysTo 92 = .ok (.goto 4, 3) := dk_167 0 4 (dk_at dksX0_waysTo_3 21 rfl rfl)
theorem dX0_waysTo_95 : decode cX0_waysTo 95 = .ok (.iconst 0, 1) := dk_3 (dk_at dksX0_waysTo_4 0 rfl rfl)
theorem dX0_waysTo_96 : decode cX0_waysTo 96 = .ok (.iconst 2, 1) := dk_5 (dk_at dksX0_waysTo_4 1 rfl rfl)
theorem dX0_waysTo_97 : decode cX0_waysTo 97 = .ok (.invokevirtual 100, 3) := dk_182 0 100 (dk_at dksX0_waysTo_4 2 rfl rfl)
theorem dX0_waysTo_100 : decode cX0_waysTo 100 = .ok (.iload 4, 2) := dk_21 4 (dk_at dksX0_waysTo_4 5 rfl rfl)
theorem dX0_waysTo_102 : decode cX0_waysTo 102 = .ok (.ifCond .eq 10, 3) := dk_153 0 10 (dk_at dksX0_waysTo_4 7 rfl rfl)
theorem dX0_waysTo_105 : decode cX0_waysTo 105 = .ok (.iload 5, 2) := dk_21 5 (dk_at dksX0_waysTo_4 10 rfl rfl)
theorem dX0_waysTo_107 : decode cX0_waysTo 107 = .ok (.iconst 1, 1) := dk_4 (dk_at dksX0_waysTo_4 12 rfl rfl)
theorem dX0_waysTo_108 : decode cX0_waysTo 108 = .ok (.iadd, 1) := dk_96 (dk_at dksX0_waysTo_4 13 rfl rfl)
theorem dX0_waysTo_109 : decode cX0_waysTo 109 = .ok (.goto 5, 3) := dk_167 0 5 (dk_at dksX0_waysTo_4 14 rfl rfl)
theorem dX0_waysTo_112 : decode cX0_waysTo 112 = .ok (.iload 5, 2) := dk_21 5 (dk_at dksX0_waysTo_4 17 rfl rfl)
theorem dX0_waysTo_114 : decode cX0_waysTo 114 = .ok (.ireturn, 1) := dk_172 (dk_at dksX0_waysTo_4 19 rfl rfl)
abbrev cX0_isSet : ByteArray := prog_1_method_9_code
def yX0_isSet : MethodName := ⟨RX0, "isSet", "(I)Z"⟩
def dkwX0_isSet_0 : List UInt8 := [26, 3, 17, 0, 255, 184, 0, 85, 172]
abbrev dktX0_isSet_0 : List UInt8 := dkwX0_isSet_0 ++ []
theorem dksX0_isSet_0 : cX0_isSet.data.toList.drop 0 = dktX0_isSet_0 := by decide +kernel
theorem dX0_isSet_0 : decode cX0_isSet 0 = .ok (.iload_n 0, 1) := dk_26 (dk_at dksX0_isSet_0 0 rfl rfl)
theorem dX0_isSet_1 : decode cX0_isSet 1 = .ok (.iconst 0, 1) := dk_3 (dk_at dksX0_isSet_0 1 rfl rfl)
theorem dX0_isSet_2 : decode cX0_isSet 2 = .ok (.sipush 255, 3) := dk_17 0 255 (dk_at dksX0_isSet_0 2 rfl rfl)
theorem dX0_isSet_5 : decode cX0_isSet 5 = .ok (.invokestatic 85, 3) := dk_184 0 85 (dk_at dksX0_isSet_0 5 rfl rfl)
theorem dX0_isSet_8 : decode cX0_isSet 8 = .ok (.ireturn, 1) := dk_172 (dk_at dksX0_isSet_0 8 rfl rfl)
abbrev cX0_findsWays : ByteArray := prog_1_method_38_code
def yX0_findsWays : MethodName := ⟨RX0, "findsWays", "(II)V"⟩
def dkwX0_findsWays_7 : List UInt8 := [3, 128, 62, 132, 5, 1, 167, 255, 202, 132, 4, 1, 167, 255, 186, 167, 255, 174, 177]
abbrev dktX0_findsWays_7 : List UInt8 := dkwX0_findsWays_7 ++ []
def dkwX0_findsWays_6 : List UInt8 := [46, 19, 1, 17, 162, 0, 20, 42, 27, 21, 4, 21, 5, 28, 182, 1, 18, 153, 0, 7, 4, 167, 0, 4]
abbrev dktX0_findsWays_6 : List UInt8 := dkwX0_findsWays_6 ++ dktX0_findsWays_7
def dkwX0_findsWays_5 : List UInt8 := [21, 5, 42, 180, 1, 12, 4, 96, 163, 0, 49, 29, 42, 180, 0, 73, 16, 40, 21, 4, 104, 21, 5, 96]
abbrev dktX0_findsWays_5 : List UInt8 := dkwX0_findsWays_5 ++ dktX0_findsWays_6
def dkwX0_findsWays_4 : List UInt8 := [96, 3, 79, 4, 62, 29, 153, 0, 84, 3, 62, 3, 54, 4, 21, 4, 16, 8, 162, 0, 69, 3, 54, 5]
abbrev dktX0_findsWays_4 : List UInt8 := dkwX0_findsWays_4 ++ dktX0_findsWays_5
def dkwX0_findsWays_3 : List UInt8 := [180, 0, 134, 27, 46, 104, 42, 180, 0, 46, 180, 0, 155, 27, 46, 42, 180, 1, 12, 4, 96, 184, 0, 253]
abbrev dktX0_findsWays_3 : List UInt8 := dkwX0_findsWays_3 ++ dktX0_findsWays_4
def dkwX0_findsWays_2 : List UInt8 := [180, 0, 73, 29, 19, 1, 17, 79, 132, 3, 1, 167, 255, 237, 42, 180, 0, 73, 16, 40, 42, 180, 0, 46]
abbrev dktX0_findsWays_2 : List UInt8 := dkwX0_findsWays_2 ++ dktX0_findsWays_3
def dkwX0_findsWays_1 : List UInt8 := [180, 0, 46, 180, 0, 147, 27, 50, 182, 0, 172, 181, 1, 12, 3, 62, 29, 17, 1, 64, 162, 0, 18, 42]
abbrev dktX0_findsWays_1 : List UInt8 := dkwX0_findsWays_1 ++ dktX0_findsWays_2
def dkwX0_findsWays_0 : List UInt8 := [42, 42, 180, 0, 46, 180, 0, 127, 27, 51, 154, 0, 7, 4, 167, 0, 4, 3, 6, 182, 0, 100, 42, 42]
abbrev dktX0_findsWays_0 : List UInt8 := dkwX0_findsWays_0 ++ dktX0_findsWays_1
theorem dksX0_findsWays_0 : cX0_findsWays.data.toList.drop 0 = dktX0_findsWays_0 := by decide +kernel
theorem dksX0_findsWays_1 : cX0_findsWays.data.toList.drop 24 = dktX0_findsWays_1 := dk_seg dksX0_findsWays_0 24 rfl rfl
theorem dksX0_findsWays_2 : cX0_findsWays.data.toList.drop 48 = dktX0_findsWays_2 := dk_seg dksX0_findsWays_1 24 rfl rfl
theorem dksX0_findsWays_3 : cX0_findsWays.data.toList.drop 72 = dktX0_findsWays_3 := dk_seg dksX0_findsWays_2 24 rfl rfl
theorem dksX0_findsWays_4 : cX0_findsWays.data.toList.drop 96 = dktX0_findsWays_4 := dk_seg dksX0_findsWays_3 24 rfl rfl
theorem dksX0_findsWays_5 : cX0_findsWays.data.toList.drop 120 = dktX0_findsWays_5 := dk_seg dksX0_findsWays_4 24 rfl rfl
theorem dksX0_findsWays_6 : cX0_findsWays.data.toList.drop 144 = dktX0_findsWays_6 := dk_seg dksX0_findsWays_5 24 rfl rfl
theorem dksX0_findsWays_7 : cX0_findsWays.data.toList.drop 168 = dktX0_findsWays_7 := dk_seg dksX0_findsWays_6 24 rfl rfl
theorem dX0_findsWays_0 : decode cX0_findsWays 0 = .ok (.aload_n 0, 1) := dk_42 (dk_at dksX0_findsWays_0 0 rfl rfl)
theorem dX0_findsWays_1 : decode cX0_findsWays 1 = .ok (.aload_n 0, 1) := dk_42 (dk_at dksX0_findsWays_0 1 rfl rfl)
theorem dX0_findsWays_2 : decode cX0_findsWays 2 = .ok (.getfield 46, 3) := dk_180 0 46 (dk_at dksX0_findsWays_0 2 rfl rfl)
theorem dX0_findsWays_5 : decode cX0_findsWays 5 = .ok (.getfield 127, 3) := dk_180 0 127 (dk_at dksX0_findsWays_0 5 rfl rfl)
theorem dX0_findsWays_8 : decode cX0_findsWays 8 = .ok (.iload_n 1, 1) := dk_27 (dk_at dksX0_findsWays_0 8 rfl rfl)
theorem dX0_findsWays_9 : decode cX0_findsWays 9 = .ok (.baload, 1) := dk_51 (dk_at dksX0_findsWays_0 9 rfl rfl)
theorem dX0_findsWays_10 : decode cX0_findsWays 10 = .ok (.ifCond .ne 7, 3) := dk_154 0 7 (dk_at dksX0_findsWays_0 10 rfl rfl)
theorem dX0_findsWays_13 : decode cX0_findsWays 13 = .ok (.iconst 1, 1) := dk_4 (dk_at dksX0_findsWays_0 13 rfl rfl)
theorem dX0_findsWays_14 : decode cX0_findsWays 14 = .ok (.goto 4, 3) := dk_167 0 4 (dk_at dksX0_findsWays_0 14 rfl rfl)
theorem dX0_findsWays_17 : decode cX0_findsWays 17 = .ok (.iconst 0, 1) := dk_3 (dk_at dksX0_findsWays_0 17 rfl rfl)
theorem dX0_findsWays_18 : decode cX0_findsWays 18 = .ok (.iconst 3, 1) := dk_6 (dk_at dksX0_findsWays_0 18 rfl rfl)
theorem dX0_findsWays_19 : decode cX0_findsWays 19 = .ok (.invokevirtual 100, 3) := dk_182 0 100 (dk_at dksX0_findsWays_0 19 rfl rfl)
theorem dX0_findsWays_22 : decode cX0_findsWays 22 = .ok (.aload_n 0, 1) := dk_42 (dk_at dksX0_findsWays_0 22 rfl rfl)
theorem dX0_findsWays_23 : decode cX0_findsWays 23 = .ok (.aload_n 0, 1) := dk_42 (dk_at dksX0_findsWays_0 23 rfl rfl)
theorem dX0_findsWays_24 : decode cX0_findsWays 24 = .ok (.getfield 46, 3) := dk_180 0 46 (dk_at dksX0_findsWays_1 0 rfl rfl)
theorem dX0_findsWays_27 : decode cX0_findsWays 27 = .ok (.getfield 147, 3) := dk_180 0 147 (dk_at dksX0_findsWays_1 3 rfl rfl)
theorem dX0_findsWays_30 : decode cX0_findsWays 30 = .ok (.iload_n 1, 1) := dk_27 (dk_at dksX0_findsWays_1 6 rfl rfl)
theorem dX0_findsWays_31 : decode cX0_findsWays 31 = .ok (.aaload, 1) := dk_50 (dk_at dksX0_findsWays_1 7 rfl rfl)
theorem dX0_findsWays_32 : decode cX0_findsWays 32 = .ok (.invokevirtual 172, 3) := dk_182 0 172 (dk_at dksX0_findsWays_1 8 rfl rfl)
theorem dX0_findsWays_35 : decode cX0_findsWays 35 = .ok (.putfield 268, 3) := dk_181 1 12 (dk_at dksX0_findsWays_1 11 rfl rfl)
theorem dX0_findsWays_38 : decode cX0_findsWays 38 = .ok (.iconst 0, 1) := dk_3 (dk_at dksX0_findsWays_1 14 rfl rfl)
theorem dX0_findsWays_39 : decode cX0_findsWays 39 = .ok (.istore_n 3, 1) := dk_62 (dk_at dksX0_findsWays_1 15 rfl rfl)
theorem dX0_findsWays_40 : decode cX0_findsWays 40 = .ok (.iload_n 3, 1) := dk_29 (dk_at dksX0_findsWays_1 16 rfl rfl)
theorem dX0_findsWays_41 : decode cX0_findsWays 41 = .ok (.sipush 320, 3) := dk_17 1 64 (dk_at dksX0_findsWays_1 17 rfl rfl)
theorem dX0_findsWays_44 : decode cX0_findsWays 44 = .ok (.if_icmp .ge 18, 3) := dk_162 0 18 (dk_at dksX0_findsWays_1 20 rfl rfl)
theorem dX0_findsWays_47 : decode cX0_findsWays 47 = .ok (.aload_n 0, 1) := dk_42 (dk_at dksX0_findsWays_1 23 rfl rfl)
theorem dX0_findsWays_48 : decode cX0_findsWays 48 = .ok (.getfield 73, 3) := dk_180 0 73 (dk_at dksX0_findsWays_2 0 rfl rfl)
theorem dX0_findsWays_51 : decode cX0_findsWays 51 = .ok (.iload_n 3, 1) := dk_29 (dk_at dksX0_findsWays_2 3 rfl rfl)
theorem dX0_findsWays_52 : decode cX0_findsWays 52 = .ok (.ldc_w 273, 3) := dk_19 1 17 (dk_at dksX0_findsWays_2 4 rfl rfl)
theorem dX0_findsWays_55 : decode cX0_findsWays 55 = .ok (.iastore, 1) := dk_79 (dk_at dksX0_findsWays_2 7 rfl rfl)
theorem dX0_findsWays_56 : decode cX0_findsWays 56 = .ok (.iinc 3 1, 3) := dk_132 3 1 (dk_at dksX0_findsWays_2 8 rfl rfl)
theorem dX0_findsWays_59 : decode cX0_findsWays 59 = .ok (.goto (-19), 3) := dk_167 255 237 (dk_at dksX0_findsWays_2 11 rfl rfl)
theorem dX0_findsWays_62 : decode cX0_findsWays 62 = .ok (.aload_n 0, 1) := dk_42 (dk_at dksX0_findsWays_2 14 rfl rfl)
theorem dX0_findsWays_63 : decode cX0_findsWays 63 = .ok (.getfield 73, 3) := dk_180 0 73 (dk_at dksX0_findsWays_2 15 rfl rfl)
theorem dX0_findsWays_66 : decode cX0_findsWays 66 = .ok (.bipush 40, 2) := dk_16 40 (dk_at dksX0_findsWays_2 18 rfl rfl)
theorem dX0_findsWays_68 : decode cX0_findsWays 68 = .ok (.aload_n 0, 1) := dk_42 (dk_at dksX0_findsWays_2 20 rfl rfl)
theorem dX0_findsWays_69 : decode cX0_findsWays 69 = .ok (.getfield 46, 3) := dk_180 0 46 (dk_at dksX0_findsWays_2 21 rfl rfl)
theorem dX0_findsWays_72 : decode cX0_findsWays 72 = .ok (.getfield 134, 3) := dk_180 0 134 (dk_at dksX0_findsWays_3 0 rfl rfl)
theorem dX0_findsWays_75 : decode cX0_findsWays 75 = .ok (.iload_n 1, 1) := dk_27 (dk_at dksX0_findsWays_3 3 rfl rfl)
theorem dX0_findsWays_76 : decode cX0_findsWays 76 = .ok (.iaload, 1) := dk_46 (dk_at dksX0_findsWays_3 4 rfl rfl)
theorem dX0_findsWays_77 : decode cX0_findsWays 77 = .ok (.imul, 1) := dk_104 (dk_at dksX0_findsWays_3 5 rfl rfl)
theorem dX0_findsWays_78 : decode cX0_findsWays 78 = .ok (.aload_n 0, 1) := dk_42 (dk_at dksX0_findsWays_3 6 rfl rfl)
theorem dX0_findsWays_79 : decode cX0_findsWays 79 = .ok (.getfield 46, 3) := dk_180 0 46 (dk_at dksX0_findsWays_3 7 rfl rfl)
theorem dX0_findsWays_82 : decode cX0_findsWays 82 = .ok (.getfield 155, 3) := dk_180 0 155 (dk_at dksX0_findsWays_3 10 rfl rfl)
theorem dX0_findsWays_85 : decode cX0_findsWays 85 = .ok (.iload_n 1, 1) := dk_27 (dk_at dksX0_findsWays_3 13 rfl rfl)
theorem dX0_findsWays_86 : decode cX0_findsWays 86 = .ok (.iaload, 1) := dk_46 (dk_at dksX0_findsWays_3 14 rfl rfl)
theorem dX0_findsWays_87 : decode cX0_findsWays 87 = .ok (.aload_n 0, 1) := dk_42 (dk_at dksX0_findsWays_3 15 rfl rfl)
theorem dX0_findsWays_88 : decode cX0_findsWays 88 = .ok (.getfield 268, 3) := dk_180 1 12 (dk_at dksX0_findsWays_3 16 rfl rfl)
theorem dX0_findsWays_91 : decode cX0_findsWays 91 = .ok (.iconst 1, 1) := dk_4 (dk_at dksX0_findsWays_3 19 rfl rfl)
theorem dX0_findsWays_92 : decode cX0_findsWays 92 = .ok (.iadd, 1) := dk_96 (dk_at dksX0_findsWays_3 20 rfl rfl)
theorem dX0_findsWays_93 : decode cX0_findsWays 93 = .ok (.invokestatic 253, 3) := dk_184 0 253 (dk_at dksX0_findsWays_3 21 rfl rfl)
theorem dX0_findsWays_96 : decode cX0_findsWays 96 = .ok (.iadd, 1) := dk_96 (dk_at dksX0_findsWays_4 0 rfl rfl)
theorem dX0_findsWays_97 : decode cX0_findsWays 97 = .ok (.iconst 0, 1) := dk_3 (dk_at dksX0_findsWays_4 1 rfl rfl)
theorem dX0_findsWays_98 : decode cX0_findsWays 98 = .ok (.iastore, 1) := dk_79 (dk_at dksX0_findsWays_4 2 rfl rfl)
theorem dX0_findsWays_99 : decode cX0_findsWays 99 = .ok (.iconst 1, 1) := dk_4 (dk_at dksX0_findsWays_4 3 rfl rfl)
theorem dX0_findsWays_100 : decode cX0_findsWays 100 = .ok (.istore_n 3, 1) := dk_62 (dk_at dksX0_findsWays_4 4 rfl rfl)
theorem dX0_findsWays_101 : decode cX0_findsWays 101 = .ok (.iload_n 3, 1) := dk_29 (dk_at dksX0_findsWays_4 5 rfl rfl)
theorem dX0_findsWays_102 : decode cX0_findsWays 102 = .ok (.ifCond .eq 84, 3) := dk_153 0 84 (dk_at dksX0_findsWays_4 6 rfl rfl)
theorem dX0_findsWays_105 : decode cX0_findsWays 105 = .ok (.iconst 0, 1) := dk_3 (dk_at dksX0_findsWays_4 9 rfl rfl)
theorem dX0_findsWays_106 : decode cX0_findsWays 106 = .ok (.istore_n 3, 1) := dk_62 (dk_at dksX0_findsWays_4 10 rfl rfl)
theorem dX0_findsWays_107 : decode cX0_findsWays 107 = .ok (.iconst 0, 1) := dk_3 (dk_at dksX0_findsWays_4 11 rfl rfl)
theorem dX0_findsWays_108 : decode cX0_findsWays 108 = .ok (.istore 4, 2) := dk_54 4 (dk_at dksX0_findsWays_4 12 rfl rfl)
theorem dX0_findsWays_110 : decode cX0_findsWays 110 = .ok (.iload 4, 2) := dk_21 4 (dk_at dksX0_findsWays_4 14 rfl rfl)
theorem dX0_findsWays_112 : decode cX0_findsWays 112 = .ok (.bipush 8, 2) := dk_16 8 (dk_at dksX0_findsWays_4 16 rfl rfl)
theorem dX0_findsWays_114 : decode cX0_findsWays 114 = .ok (.if_icmp .ge 69, 3) := dk_162 0 69 (dk_at dksX0_findsWays_4 18 rfl rfl)
theorem dX0_findsWays_117 : decode cX0_findsWays 117 = .ok (.iconst 0, 1) := dk_3 (dk_at dksX0_findsWays_4 21 rfl rfl)
theorem dX0_findsWays_118 : decode cX0_findsWays 118 = .ok (.istore 5, 2) := dk_54 5 (dk_at dksX0_findsWays_4 22 rfl rfl)
theorem dX0_findsWays_120 : decode cX0_findsWays 120 = .ok (.iload 5, 2) := dk_21 5 (dk_at dksX0_findsWays_5 0 rfl rfl)
theorem dX0_findsWays_122 : decode cX0_findsWays 122 = .ok (.aload_n 0, 1) := dk_42 (dk_at dksX0_findsWays_5 2 rfl rfl)
theorem dX0_findsWays_123 : decode cX0_findsWays 123 = .ok (.getfield 268, 3) := dk_180 1 12 (dk_at dksX0_findsWays_5 3 rfl rfl)
theorem dX0_findsWays_126 : decode cX0_findsWays 126 = .ok (.iconst 1, 1) := dk_4 (dk_at dksX0_findsWays_5 6 rfl rfl)
theorem dX0_findsWays_127 : decode cX0_findsWays 127 = .ok (.iadd, 1) := dk_96 (dk_at dksX0_findsWays_5 7 rfl rfl)
theorem dX0_findsWays_128 : decode cX0_findsWays 128 = .ok (.if_icmp .gt 49, 3) := dk_163 0 49 (dk_at dksX0_findsWays_5 8 rfl rfl)
theorem dX0_findsWays_131 : decode cX0_findsWays 131 = .ok (.iload_n 3, 1) := dk_29 (dk_at dksX0_findsWays_5 11 rfl rfl)
theorem dX0_findsWays_132 : decode cX0_findsWays 132 = .ok (.aload_n 0, 1) := dk_42 (dk_at dksX0_findsWays_5 12 rfl rfl)
theorem dX0_findsWays_133 : decode cX0_findsWays 133 = .ok (.getfield 73, 3) := dk_180 0 73 (dk_at dksX0_findsWays_5 13 rfl rfl)
theorem dX0_findsWays_136 : decode cX0_findsWays 136 = .ok (.bipush 40, 2) := dk_16 40 (dk_at dksX0_findsWays_5 16 rfl rfl)
theorem dX0_findsWays_138 : decode cX0_findsWays 138 = .ok (.iload 4, 2) := dk_21 4 (dk_at dksX0_findsWays_5 18 rfl rfl)
theorem dX0_findsWays_140 : decode cX0_findsWays 140 = .ok (.imul, 1) := dk_104 (dk_at dksX0_findsWays_5 20 rfl rfl)
theorem dX0_findsWays_141 : decode cX0_findsWays 141 = .ok (.iload 5, 2) := dk_21 5 (dk_at dksX0_findsWays_5 21 rfl rfl)
theorem dX0_findsWays_143 : decode cX0_findsWays 143 = .ok (.iadd, 1) := dk_96 (dk_at dksX0_findsWays_5 23 rfl rfl)
theorem dX0_findsWays_144 : decode cX0_findsWays 144 = .ok (.iaload, 1) := dk_46 (dk_at dksX0_findsWays_6 0 rfl rfl)
theorem dX0_findsWays_145 : decode cX0_findsWays 145 = .ok (.ldc_w 273, 3) := dk_19 1 17 (dk_at dksX0_findsWays_6 1 rfl rfl)
theorem dX0_findsWays_148 : decode cX0_findsWays 148 = .ok (.if_icmp .ge 20, 3) := dk_162 0 20 (dk_at dksX0_findsWays_6 4 rfl rfl)
theorem dX0_findsWays_151 : decode cX0_findsWays 151 = .ok (.aload_n 0, 1) := dk_42 (dk_at dksX0_findsWays_6 7 rfl rfl)
theorem dX0_findsWays_152 : decode cX0_findsWays 152 = .ok (.iload_n 1, 1) := dk_27 (dk_at dksX0_findsWays_6 8 rfl rfl)
theorem dX0_findsWays_153 : decode cX0_findsWays 153 = .ok (.iload 4, 2) := dk_21 4 (dk_at dksX0_findsWays_6 9 rfl rfl)
theorem dX0_findsWays_155 : decode cX0_findsWays 155 = .ok (.iload 5, 2) := dk_21 5 (dk_at dksX0_findsWays_6 11 rfl rfl)
theorem dX0_findsWays_157 : decode cX0_findsWays 157 = .ok (.iload_n 2, 1) := dk_28 (dk_at dksX0_findsWays_6 13 rfl rfl)
theorem dX0_findsWays_158 : decode cX0_findsWays 158 = .ok (.invokevirtual 274, 3) := dk_182 1 18 (dk_at dksX0_findsWays_6 14 rfl rfl)
theorem dX0_findsWays_161 : decode cX0_findsWays 161 = .ok (.ifCond .eq 7, 3) := dk_153 0 7 (dk_at dksX0_findsWays_6 17 rfl rfl)
theorem dX0_findsWays_164 : decode cX0_findsWays 164 = .ok (.iconst 1, 1) := dk_4 (dk_at dksX0_findsWays_6 20 rfl rfl)
theorem dX0_findsWays_165 : decode cX0_findsWays 165 = .ok (.goto 4, 3) := dk_167 0 4 (dk_at dksX0_findsWays_6 21 rfl rfl)
theorem dX0_findsWays_168 : decode cX0_findsWays 168 = .ok (.iconst 0, 1) := dk_3 (dk_at dksX0_findsWays_7 0 rfl rfl)
theorem dX0_findsWays_169 : decode cX0_findsWays 169 = .ok (.ior, 1) := dk_128 (dk_at dksX0_findsWays_7 1 rfl rfl)
theorem dX0_findsWays_170 : decode cX0_findsWays 170 = .ok (.istore_n 3, 1) := dk_62 (dk_at dksX0_findsWays_7 2 rfl rfl)
theorem dX0_findsWays_171 : decode cX0_findsWays 171 = .ok (.iinc 5 1, 3) := dk_132 5 1 (dk_at dksX0_findsWays_7 3 rfl rfl)
theorem dX0_findsWays_174 : decode cX0_findsWays 174 = .ok (.goto (-54), 3) := dk_167 255 202 (dk_at dksX0_findsWays_7 6 rfl rfl)
theorem dX0_findsWays_177 : decode cX0_findsWays 177 = .ok (.iinc 4 1, 3) := dk_132 4 1 (dk_at dksX0_findsWays_7 9 rfl rfl)
theorem dX0_findsWays_180 : decode cX0_findsWays 180 = .ok (.goto (-70), 3) := dk_167 255 186 (dk_at dksX0_findsWays_7 12 rfl rfl)
theorem dX0_findsWays_183 : decode cX0_findsWays 183 = .ok (.goto (-82), 3) := dk_167 255 174 (dk_at dksX0_findsWays_7 15 rfl rfl)
theorem dX0_findsWays_186 : decode cX0_findsWays 186 = .ok (.return_, 1) := dk_177 (dk_at dksX0_findsWays_7 18 rfl rfl)
abbrev cX0_goesOn : ByteArray := prog_1_method_37_code
def yX0_goesOn : MethodName := ⟨RX0, "goesOn", "(IIII)Z"⟩
def dkwX0_goesOn_6 : List UInt8 := [132, 7, 1, 167, 255, 168, 21, 6, 172]
abbrev dktX0_goesOn_6 : List UInt8 := dkwX0_goesOn_6 ++ []
def dkwX0_goesOn_5 : List UInt8 := [21, 9, 21, 5, 42, 180, 1, 5, 153, 0, 7, 3, 167, 0, 5, 21, 8, 96, 182, 1, 9, 128, 54, 6]
abbrev dktX0_goesOn_5 : List UInt8 := dkwX0_goesOn_5 ++ dktX0_goesOn_6
def dkwX0_goesOn_4 : List UInt8 := [27, 21, 8, 182, 1, 14, 96, 54, 9, 21, 9, 42, 180, 1, 12, 163, 0, 32, 21, 6, 42, 21, 7]
abbrev dktX0_goesOn_4 : List UInt8 := dkwX0_goesOn_4 ++ dktX0_goesOn_5
def dkwX0_goesOn_3 : List UInt8 := [182, 0, 117, 54, 8, 21, 8, 154, 0, 12, 42, 180, 1, 12, 4, 96, 167, 0, 15, 29, 42, 180, 0, 46]
abbrev dktX0_goesOn_3 : List UInt8 := dkwX0_goesOn_3 ++ dktX0_goesOn_4
def dkwX0_goesOn_2 : List UInt8 := [4, 167, 0, 4, 3, 54, 6, 3, 54, 7, 21, 7, 16, 8, 162, 0, 87, 42, 180, 0, 46, 28, 21, 7]
abbrev dktX0_goesOn_2 : List UInt8 := dkwX0_goesOn_2 ++ dktX0_goesOn_3
def dkwX0_goesOn_1 : List UInt8 := [42, 28, 3, 21, 5, 42, 180, 1, 5, 153, 0, 7, 4, 167, 0, 4, 3, 96, 182, 1, 9, 153, 0, 7]
abbrev dktX0_goesOn_1 : List UInt8 := dkwX0_goesOn_1 ++ dktX0_goesOn_2
def dkwX0_goesOn_0 : List UInt8 := [42, 180, 0, 73, 16, 40, 28, 104, 29, 96, 46, 54, 5, 42, 27, 28, 21, 4, 182, 1, 2, 153, 0, 31]
abbrev dktX0_goesOn_0 : List UInt8 := dkwX0_goesOn_0 ++ dktX0_goesOn_1
theorem dksX0_goesOn_0 : cX0_goesOn.data.toList.drop 0 = dktX0_goesOn_0 := by decide +kernel
theorem dksX0_goesOn_1 : cX0_goesOn.data.toList.drop 24 = dktX0_goesOn_1 := dk_seg dksX0_goesOn_0 24 rfl rfl
theorem dksX0_goesOn_2 : cX0_goesOn.data.toList.drop 48 = dktX0_goesOn_2 := dk_seg dksX0_goesOn_1 24 rfl rfl
theorem dksX0_goesOn_3 : cX0_goesOn.data.toList.drop 72 = dktX0_goesOn_3 := dk_seg dksX0_goesOn_2 24 rfl rfl
theorem dksX0_goesOn_4 : cX0_goesOn.data.toList.drop 96 = dktX0_goesOn_4 := dk_seg dksX0_goesOn_3 24 rfl rfl
theorem dksX0_goesOn_5 : cX0_goesOn.data.toList.drop 119 = dktX0_goesOn_5 := dk_seg dksX0_goesOn_4 23 rfl rfl
theorem dksX0_goesOn_6 : cX0_goesOn.data.toList.drop 143 = dktX0_goesOn_6 := dk_seg dksX0_goesOn_5 24 rfl rfl
theorem dX0_goesOn_0 : decode cX0_goesOn 0 = .ok (.aload_n 0, 1) := dk_42 (dk_at dksX0_goesOn_0 0 rfl rfl)
theorem dX0_goesOn_1 : decode cX0_goesOn 1 = .ok (.getfield 73, 3) := dk_180 0 73 (dk_at dksX0_goesOn_0 1 rfl rfl)
theorem dX0_goesOn_4 : decode cX0_goesOn 4 = .ok (.bipush 40, 2) := dk_16 40 (dk_at dksX0_goesOn_0 4 rfl rfl)
theorem dX0_goesOn_6 : decode cX0_goesOn 6 = .ok (.iload_n 2, 1) := dk_28 (dk_at dksX0_goesOn_0 6 rfl rfl)
theorem dX0_goesOn_7 : decode cX0_goesOn 7 = .ok (.imul, 1) := dk_104 (dk_at dksX0_goesOn_0 7 rfl rfl)
theorem dX0_goesOn_8 : decode cX0_goesOn 8 = .ok (.iload_n 3, 1) := dk_29 (dk_at dksX0_goesOn_0 8 rfl rfl)
theorem dX0_goesOn_9 : decode cX0_goesOn 9 = .ok (.iadd, 1) := dk_96 (dk_at dksX0_goesOn_0 9 rfl rfl)
theorem dX0_goesOn_10 : decode cX0_goesOn 10 = .ok (.iaload, 1) := dk_46 (dk_at dksX0_goesOn_0 10 rfl rfl)
theorem dX0_goesOn_11 : decode cX0_goesOn 11 = .ok (.istore 5, 2) := dk_54 5 (dk_at dksX0_goesOn_0 11 rfl rfl)
theorem dX0_goesOn_13 : decode cX0_goesOn 13 = .ok (.aload_n 0, 1) := dk_42 (dk_at dksX0_goesOn_0 13 rfl rfl)
theorem dX0_goesOn_14 : decode cX0_goesOn 14 = .ok (.iload_n 1, 1) := dk_27 (dk_at dksX0_goesOn_0 14 rfl rfl)
theorem dX0_goesOn_15 : decode cX0_goesOn 15 = .ok (.iload_n 2, 1) := dk_28 (dk_at dksX0_goesOn_0 15 rfl rfl)
theorem dX0_goesOn_16 : decode cX0_goesOn 16 = .ok (.iload 4, 2) := dk_21 4 (dk_at dksX0_goesOn_0 16 rfl rfl)
theorem dX0_goesOn_18 : decode cX0_goesOn 18 = .ok (.invokevirtual 258, 3) := dk_182 1 2 (dk_at dksX0_goesOn_0 18 rfl rfl)
theorem dX0_goesOn_21 : decode cX0_goesOn 21 = .ok (.ifCond .eq 31, 3) := dk_153 0 31 (dk_at dksX0_goesOn_0 21 rfl rfl)
theorem dX0_goesOn_24 : decode cX0_goesOn 24 = .ok (.aload_n 0, 1) := dk_42 (dk_at dksX0_goesOn_1 0 rfl rfl)
theorem dX0_goesOn_25 : decode cX0_goesOn 25 = .ok (.iload_n 2, 1) := dk_28 (dk_at dksX0_goesOn_1 1 rfl rfl)
theorem dX0_goesOn_26 : decode cX0_goesOn 26 = .ok (.iconst 0, 1) := dk_3 (dk_at dksX0_goesOn_1 2 rfl rfl)
theorem dX0_goesOn_27 : decode cX0_goesOn 27 = .ok (.iload 5, 2) := dk_21 5 (dk_at dksX0_goesOn_1 3 rfl rfl)
theorem dX0_goesOn_29 : decode cX0_goesOn 29 = .ok (.aload_n 0, 1) := dk_42 (dk_at dksX0_goesOn_1 5 rfl rfl)
theorem dX0_goesOn_30 : decode cX0_goesOn 30 = .ok (.getfield 261, 3) := dk_180 1 5 (dk_at dksX0_goesOn_1 6 rfl rfl)
theorem dX0_goesOn_33 : decode cX0_goesOn 33 = .ok (.ifCond .eq 7, 3) := dk_153 0 7 (dk_at dksX0_goesOn_1 9 rfl rfl)
theorem dX0_goesOn_36 : decode cX0_goesOn 36 = .ok (.iconst 1, 1) := dk_4 (dk_at dksX0_goesOn_1 12 rfl rfl)
theorem dX0_goesOn_37 : decode cX0_goesOn 37 = .ok (.goto 4, 3) := dk_167 0 4 (dk_at dksX0_goesOn_1 13 rfl rfl)
theorem dX0_goesOn_40 : decode cX0_goesOn 40 = .ok (.iconst 0, 1) := dk_3 (dk_at dksX0_goesOn_1 16 rfl rfl)
theorem dX0_goesOn_41 : decode cX0_goesOn 41 = .ok (.iadd, 1) := dk_96 (dk_at dksX0_goesOn_1 17 rfl rfl)
theorem dX0_goesOn_42 : decode cX0_goesOn 42 = .ok (.invokevirtual 265, 3) := dk_182 1 9 (dk_at dksX0_goesOn_1 18 rfl rfl)
theorem dX0_goesOn_45 : decode cX0_goesOn 45 = .ok (.ifCond .eq 7, 3) := dk_153 0 7 (dk_at dksX0_goesOn_1 21 rfl rfl)
theorem dX0_goesOn_48 : decode cX0_goesOn 48 = .ok (.iconst 1, 1) := dk_4 (dk_at dksX0_goesOn_2 0 rfl rfl)
theorem dX0_goesOn_49 : decode cX0_goesOn 49 = .ok (.goto 4, 3) := dk_167 0 4 (dk_at dksX0_goesOn_2 1 rfl rfl)
theorem dX0_goesOn_52 : decode cX0_goesOn 52 = .ok (.iconst 0, 1) := dk_3 (dk_at dksX0_goesOn_2 4 rfl rfl)
theorem dX0_goesOn_53 : decode cX0_goesOn 53 = .ok (.istore 6, 2) := dk_54 6 (dk_at dksX0_goesOn_2 5 rfl rfl)
theorem dX0_goesOn_55 : decode cX0_goesOn 55 = .ok (.iconst 0, 1) := dk_3 (dk_at dksX0_goesOn_2 7 rfl rfl)
theorem dX0_goesOn_56 : decode cX0_goesOn 56 = .ok (.istore 7, 2) := dk_54 7 (dk_at dksX0_goesOn_2 8 rfl rfl)
theorem dX0_goesOn_58 : decode cX0_goesOn 58 = .ok (.iload 7, 2) := dk_21 7 (dk_at dksX0_goesOn_2 10 rfl rfl)
theorem dX0_goesOn_60 : decode cX0_goesOn 60 = .ok (.bipush 8, 2) := dk_16 8 (dk_at dksX0_goesOn_2 12 rfl rfl)
theorem dX0_goesOn_62 : decode cX0_goesOn 62 = .ok (.if_icmp .ge 87, 3) := dk_162 0 87 (dk_at dksX0_goesOn_2 14 rfl rfl)
theorem dX0_goesOn_65 : decode cX0_goesOn 65 = .ok (.aload_n 0, 1) := dk_42 (dk_at dksX0_goesOn_2 17 rfl rfl)
theorem dX0_goesOn_66 : decode cX0_goesOn 66 = .ok (.getfield 46, 3) := dk_180 0 46 (dk_at dksX0_goesOn_2 18 rfl rfl)
theorem dX0_goesOn_69 : decode cX0_goesOn 69 = .ok (.iload_n 2, 1) := dk_28 (dk_at dksX0_goesOn_2 21 rfl rfl)
theorem dX0_goesOn_70 : decode cX0_goesOn 70 = .ok (.iload 7, 2) := dk_21 7 (dk_at dksX0_goesOn_2 22 rfl rfl)
theorem dX0_goesOn_72 : decode cX0_goesOn 72 = .ok (.invokevirtual 117, 3) := dk_182 0 117 (dk_at dksX0_goesOn_3 0 rfl rfl)
theorem dX0_goesOn_75 : decode cX0_goesOn 75 = .ok (.istore 8, 2) := dk_54 8 (dk_at dksX0_goesOn_3 3 rfl rfl)
theorem dX0_goesOn_77 : decode cX0_goesOn 77 = .ok (.iload 8, 2) := dk_21 8 (dk_at dksX0_goesOn_3 5 rfl rfl)
theorem dX0_goesOn_79 : decode cX0_goesOn 79 = .ok (.ifCond .ne 12, 3) := dk_154 0 12 (dk_at dksX0_goesOn_3 7 rfl rfl)
theorem dX0_goesOn_82 : decode cX0_goesOn 82 = .ok (.aload_n 0, 1) := dk_42 (dk_at dksX0_goesOn_3 10 rfl rfl)
theorem dX0_goesOn_83 : decode cX0_goesOn 83 = .ok (.getfield 268, 3) := dk_180 1 12 (dk_at dksX0_goesOn_3 11 rfl rfl)
theorem dX0_goesOn_86 : decode cX0_goesOn 86 = .ok (.iconst 1, 1) := dk_4 (dk_at dksX0_goesOn_3 14 rfl rfl)
theorem dX0_goesOn_87 : decode cX0_goesOn 87 = .ok (.iadd, 1) := dk_96 (dk_at dksX0_goesOn_3 15 rfl rfl)
theorem dX0_goesOn_88 : decode cX0_goesOn 88 = .ok (.goto 15, 3) := dk_167 0 15 (dk_at dksX0_goesOn_3 16 rfl rfl)
theorem dX0_goesOn_91 : decode cX0_goesOn 91 = .ok (.iload_n 3, 1) := dk_29 (dk_at dksX0_goesOn_3 19 rfl rfl)
theorem dX0_goesOn_92 : decode cX0_goesOn 92 = .ok (.aload_n 0, 1) := dk_42 (dk_at dksX0_goesOn_3 20 rfl rfl)
theorem dX0_goesOn_93 : decode cX0_goesOn 93 = .ok (.getfield 46, 3) := dk_180 0 46 (dk_at dksX0_goesOn_3 21 rfl rfl)
theorem dX0_goesOn_96 : decode cX0_goesOn 96 = .ok (.iload_n 1, 1) := dk_27 (dk_at dksX0_goesOn_4 0 rfl rfl)
theorem dX0_goesOn_97 : decode cX0_goesOn 97 = .ok (.iload 8, 2) := dk_21 8 (dk_at dksX0_goesOn_4 1 rfl rfl)
theorem dX0_goesOn_99 : decode cX0_goesOn 99 = .ok (.invokevirtual 270, 3) := dk_182 1 14 (dk_at dksX0_goesOn_4 3 rfl rfl)
theorem dX0_goesOn_102 : decode cX0_goesOn 102 = .ok (.iadd, 1) := dk_96 (dk_at dksX0_goesOn_4 6 rfl rfl)
theorem dX0_goesOn_103 : decode cX0_goesOn 103 = .ok (.istore 9, 2) := dk_54 9 (dk_at dksX0_goesOn_4 7 rfl rfl)
theorem dX0_goesOn_105 : decode cX0_goesOn 105 = .ok (.iload 9, 2) := dk_21 9 (dk_at dksX0_goesOn_4 9 rfl rfl)
theorem dX0_goesOn_107 : decode cX0_goesOn 107 = .ok (.aload_n 0, 1) := dk_42 (dk_at dksX0_goesOn_4 11 rfl rfl)
theorem dX0_goesOn_108 : decode cX0_goesOn 108 = .ok (.getfield 268, 3) := dk_180 1 12 (dk_at dksX0_goesOn_4 12 rfl rfl)
theorem dX0_goesOn_111 : decode cX0_goesOn 111 = .ok (.if_icmp .gt 32, 3) := dk_163 0 32 (dk_at dksX0_goesOn_4 15 rfl rfl)
theorem dX0_goesOn_114 : decode cX0_goesOn 114 = .ok (.iload 6, 2) := dk_21 6 (dk_at dksX0_goesOn_4 18 rfl rfl)
theorem dX0_goesOn_116 : decode cX0_goesOn 116 = .ok (.aload_n 0, 1) := dk_42 (dk_at dksX0_goesOn_4 20 rfl rfl)
theorem dX0_goesOn_117 : decode cX0_goesOn 117 = .ok (.iload 7, 2) := dk_21 7 (dk_at dksX0_goesOn_4 21 rfl rfl)
theorem dX0_goesOn_119 : decode cX0_goesOn 119 = .ok (.iload 9, 2) := dk_21 9 (dk_at dksX0_goesOn_5 0 rfl rfl)
theorem dX0_goesOn_121 : decode cX0_goesOn 121 = .ok (.iload 5, 2) := dk_21 5 (dk_at dksX0_goesOn_5 2 rfl rfl)
theorem dX0_goesOn_123 : decode cX0_goesOn 123 = .ok (.aload_n 0, 1) := dk_42 (dk_at dksX0_goesOn_5 4 rfl rfl)
theorem dX0_goesOn_124 : decode cX0_goesOn 124 = .ok (.getfield 261, 3) := dk_180 1 5 (dk_at dksX0_goesOn_5 5 rfl rfl)
theorem dX0_goesOn_127 : decode cX0_goesOn 127 = .ok (.ifCond .eq 7, 3) := dk_153 0 7 (dk_at dksX0_goesOn_5 8 rfl rfl)
theorem dX0_goesOn_130 : decode cX0_goesOn 130 = .ok (.iconst 0, 1) := dk_3 (dk_at dksX0_goesOn_5 11 rfl rfl)
theorem dX0_goesOn_131 : decode cX0_goesOn 131 = .ok (.goto 5, 3) := dk_167 0 5 (dk_at dksX0_goesOn_5 12 rfl rfl)
theorem dX0_goesOn_134 : decode cX0_goesOn 134 = .ok (.iload 8, 2) := dk_21 8 (dk_at dksX0_goesOn_5 15 rfl rfl)
theorem dX0_goesOn_136 : decode cX0_goesOn 136 = .ok (.iadd, 1) := dk_96 (dk_at dksX0_goesOn_5 17 rfl rfl)
theorem dX0_goesOn_137 : decode cX0_goesOn 137 = .ok (.invokevirtual 265, 3) := dk_182 1 9 (dk_at dksX0_goesOn_5 18 rfl rfl)
theorem dX0_goesOn_140 : decode cX0_goesOn 140 = .ok (.ior, 1) := dk_128 (dk_at dksX0_goesOn_5 21 rfl rfl)
theorem dX0_goesOn_141 : decode cX0_goesOn 141 = .ok (.istore 6, 2) := dk_54 6 (dk_at dksX0_goesOn_5 22 rfl rfl)
theorem dX0_goesOn_143 : decode cX0_goesOn 143 = .ok (.iinc 7 1, 3) := dk_132 7 1 (dk_at dksX0_goesOn_6 0 rfl rfl)
theorem dX0_goesOn_146 : decode cX0_goesOn 146 = .ok (.goto (-88), 3) := dk_167 255 168 (dk_at dksX0_goesOn_6 3 rfl rfl)
theorem dX0_goesOn_149 : decode cX0_goesOn 149 = .ok (.iload 6, 2) := dk_21 6 (dk_at dksX0_goesOn_6 6 rfl rfl)
theorem dX0_goesOn_151 : decode cX0_goesOn 151 = .ok (.ireturn, 1) := dk_172 (dk_at dksX0_goesOn_6 8 rfl rfl)
abbrev cX0_mayDrink : ByteArray := prog_1_method_35_code
def yX0_mayDrink : MethodName := ⟨RX0, "mayDrink", "(III)Z"⟩
def dkwX0_mayDrink_1 : List UInt8 := [27, 50, 42, 180, 0, 46, 3, 182, 0, 250, 161, 0, 7, 4, 167, 0, 4, 3, 172]
abbrev dktX0_mayDrink_1 : List UInt8 := dkwX0_mayDrink_1 ++ []
def dkwX0_mayDrink_0 : List UInt8 := [29, 28, 184, 0, 247, 154, 0, 36, 42, 180, 0, 46, 180, 0, 106, 28, 46, 42, 180, 0, 46, 180, 0, 147]
abbrev dktX0_mayDrink_0 : List UInt8 := dkwX0_mayDrink_0 ++ dktX0_mayDrink_1
theorem dksX0_mayDrink_0 : cX0_mayDrink.data.toList.drop 0 = dktX0_mayDrink_0 := by decide +kernel
theorem dksX0_mayDrink_1 : cX0_mayDrink.data.toList.drop 24 = dktX0_mayDrink_1 := dk_seg dksX0_mayDrink_0 24 rfl rfl
theorem dX0_mayDrink_0 : decode cX0_mayDrink 0 = .ok (.iload_n 3, 1) := dk_29 (dk_at dksX0_mayDrink_0 0 rfl rfl)
theorem dX0_mayDrink_1 : decode cX0_mayDrink 1 = .ok (.iload_n 2, 1) := dk_28 (dk_at dksX0_mayDrink_0 1 rfl rfl)
theorem dX0_mayDrink_2 : decode cX0_mayDrink 2 = .ok (.invokestatic 247, 3) := dk_184 0 247 (dk_at dksX0_mayDrink_0 2 rfl rfl)
theorem dX0_mayDrink_5 : decode cX0_mayDrink 5 = .ok (.ifCond .ne 36, 3) := dk_154 0 36 (dk_at dksX0_mayDrink_0 5 rfl rfl)
theorem dX0_mayDrink_8 : decode cX0_mayDrink 8 = .ok (.aload_n 0, 1) := dk_42 (dk_at dksX0_mayDrink_0 8 rfl rfl)
theorem dX0_mayDrink_9 : decode cX0_mayDrink 9 = .ok (.getfield 46, 3) := dk_180 0 46 (dk_at dksX0_mayDrink_0 9 rfl rfl)
theorem dX0_mayDrink_12 : decode cX0_mayDrink 12 = .ok (.getfield 106, 3) := dk_180 0 106 (dk_at dksX0_mayDrink_0 12 rfl rfl)
theorem dX0_mayDrink_15 : decode cX0_mayDrink 15 = .ok (.iload_n 2, 1) := dk_28 (dk_at dksX0_mayDrink_0 15 rfl rfl)
theorem dX0_mayDrink_16 : decode cX0_mayDrink 16 = .ok (.iaload, 1) := dk_46 (dk_at dksX0_mayDrink_0 16 rfl rfl)
theorem dX0_mayDrink_17 : decode cX0_mayDrink 17 = .ok (.aload_n 0, 1) := dk_42 (dk_at dksX0_mayDrink_0 17 rfl rfl)
theorem dX0_mayDrink_18 : decode cX0_mayDrink 18 = .ok (.getfield 46, 3) := dk_180 0 46 (dk_at dksX0_mayDrink_0 18 rfl rfl)
theorem dX0_mayDrink_21 : decode cX0_mayDrink 21 = .ok (.getfield 147, 3) := dk_180 0 147 (dk_at dksX0_mayDrink_0 21 rfl rfl)
theorem dX0_mayDrink_24 : decode cX0_mayDrink 24 = .ok (.iload_n 1, 1) := dk_27 (dk_at dksX0_mayDrink_1 0 rfl rfl)
theorem dX0_mayDrink_25 : decode cX0_mayDrink 25 = .ok (.aaload, 1) := dk_50 (dk_at dksX0_mayDrink_1 1 rfl rfl)
theorem dX0_mayDrink_26 : decode cX0_mayDrink 26 = .ok (.aload_n 0, 1) := dk_42 (dk_at dksX0_mayDrink_1 2 rfl rfl)
theorem dX0_mayDrink_27 : decode cX0_mayDrink 27 = .ok (.getfield 46, 3) := dk_180 0 46 (dk_at dksX0_mayDrink_1 3 rfl rfl)
theorem dX0_mayDrink_30 : decode cX0_mayDrink 30 = .ok (.iconst 0, 1) := dk_3 (dk_at dksX0_mayDrink_1 6 rfl rfl)
theorem dX0_mayDrink_31 : decode cX0_mayDrink 31 = .ok (.invokevirtual 250, 3) := dk_182 0 250 (dk_at dksX0_mayDrink_1 7 rfl rfl)
theorem dX0_mayDrink_34 : decode cX0_mayDrink 34 = .ok (.if_icmp .lt 7, 3) := dk_161 0 7 (dk_at dksX0_mayDrink_1 10 rfl rfl)
theorem dX0_mayDrink_37 : decode cX0_mayDrink 37 = .ok (.iconst 1, 1) := dk_4 (dk_at dksX0_mayDrink_1 13 rfl rfl)
theorem dX0_mayDrink_38 : decode cX0_mayDrink 38 = .ok (.goto 4, 3) := dk_167 0 4 (dk_at dksX0_mayDrink_1 14 rfl rfl)
theorem dX0_mayDrink_41 : decode cX0_mayDrink 41 = .ok (.iconst 0, 1) := dk_3 (dk_at dksX0_mayDrink_1 17 rfl rfl)
theorem dX0_mayDrink_42 : decode cX0_mayDrink 42 = .ok (.ireturn, 1) := dk_172 (dk_at dksX0_mayDrink_1 18 rfl rfl)
abbrev cX0_hasBit : ByteArray := prog_1_method_2_code
def yX0_hasBit : MethodName := ⟨RX0, "hasBit", "(II)Z"⟩
def dkwX0_hasBit_0 : List UInt8 := [26, 27, 122, 4, 126, 4, 160, 0, 7, 4, 167, 0, 4, 3, 172]
abbrev dktX0_hasBit_0 : List UInt8 := dkwX0_hasBit_0 ++ []
theorem dksX0_hasBit_0 : cX0_hasBit.data.toList.drop 0 = dktX0_hasBit_0 := by decide +kernel
theorem dX0_hasBit_0 : decode cX0_hasBit 0 = .ok (.iload_n 0, 1) := dk_26 (dk_at dksX0_hasBit_0 0 rfl rfl)
theorem dX0_hasBit_1 : decode cX0_hasBit 1 = .ok (.iload_n 1, 1) := dk_27 (dk_at dksX0_hasBit_0 1 rfl rfl)
theorem dX0_hasBit_2 : decode cX0_hasBit 2 = .ok (.ishr, 1) := dk_122 (dk_at dksX0_hasBit_0 2 rfl rfl)
theorem dX0_hasBit_3 : decode cX0_hasBit 3 = .ok (.iconst 1, 1) := dk_4 (dk_at dksX0_hasBit_0 3 rfl rfl)
theorem dX0_hasBit_4 : decode cX0_hasBit 4 = .ok (.iand, 1) := dk_126 (dk_at dksX0_hasBit_0 4 rfl rfl)
theorem dX0_hasBit_5 : decode cX0_hasBit 5 = .ok (.iconst 1, 1) := dk_4 (dk_at dksX0_hasBit_0 5 rfl rfl)
theorem dX0_hasBit_6 : decode cX0_hasBit 6 = .ok (.if_icmp .ne 7, 3) := dk_160 0 7 (dk_at dksX0_hasBit_0 6 rfl rfl)
theorem dX0_hasBit_9 : decode cX0_hasBit 9 = .ok (.iconst 1, 1) := dk_4 (dk_at dksX0_hasBit_0 9 rfl rfl)
theorem dX0_hasBit_10 : decode cX0_hasBit 10 = .ok (.goto 4, 3) := dk_167 0 4 (dk_at dksX0_hasBit_0 10 rfl rfl)
theorem dX0_hasBit_13 : decode cX0_hasBit 13 = .ok (.iconst 0, 1) := dk_3 (dk_at dksX0_hasBit_0 13 rfl rfl)
theorem dX0_hasBit_14 : decode cX0_hasBit 14 = .ok (.ireturn, 1) := dk_172 (dk_at dksX0_hasBit_0 14 rfl rfl)
abbrev cX0_comes : ByteArray := prog_1_method_36_code
def yX0_comes : MethodName := ⟨RX0, "comes", "(III)Z"⟩
def dkwX0_comes_2 : List UInt8 := [79, 21, 4, 172]
abbrev dktX0_comes_2 : List UInt8 := dkwX0_comes_2 ++ []
def dkwX0_comes_1 : List UInt8 := [180, 0, 73, 16, 40, 27, 104, 28, 96, 42, 180, 0, 73, 16, 40, 27, 104, 28, 96, 46, 29, 184, 0, 253]
abbrev dktX0_comes_1 : List UInt8 := dkwX0_comes_1 ++ dktX0_comes_2
def dkwX0_comes_0 : List UInt8 := [29, 42, 180, 0, 73, 16, 40, 27, 104, 28, 96, 46, 162, 0, 7, 4, 167, 0, 4, 3, 54, 4, 42]
abbrev dktX0_comes_0 : List UInt8 := dkwX0_comes_0 ++ dktX0_comes_1
theorem dksX0_comes_0 : cX0_comes.data.toList.drop 0 = dktX0_comes_0 := by decide +kernel
theorem dksX0_comes_1 : cX0_comes.data.toList.drop 23 = dktX0_comes_1 := dk_seg dksX0_comes_0 23 rfl rfl
theorem dksX0_comes_2 : cX0_comes.data.toList.drop 47 = dktX0_comes_2 := dk_seg dksX0_comes_1 24 rfl rfl
theorem dX0_comes_0 : decode cX0_comes 0 = .ok (.iload_n 3, 1) := dk_29 (dk_at dksX0_comes_0 0 rfl rfl)
theorem dX0_comes_1 : decode cX0_comes 1 = .ok (.aload_n 0, 1) := dk_42 (dk_at dksX0_comes_0 1 rfl rfl)
theorem dX0_comes_2 : decode cX0_comes 2 = .ok (.getfield 73, 3) := dk_180 0 73 (dk_at dksX0_comes_0 2 rfl rfl)
theorem dX0_comes_5 : decode cX0_comes 5 = .ok (.bipush 40, 2) := dk_16 40 (dk_at dksX0_comes_0 5 rfl rfl)
theorem dX0_comes_7 : decode cX0_comes 7 = .ok (.iload_n 1, 1) := dk_27 (dk_at dksX0_comes_0 7 rfl rfl)
theorem dX0_comes_8 : decode cX0_comes 8 = .ok (.imul, 1) := dk_104 (dk_at dksX0_comes_0 8 rfl rfl)
theorem dX0_comes_9 : decode cX0_comes 9 = .ok (.iload_n 2, 1) := dk_28 (dk_at dksX0_comes_0 9 rfl rfl)
theorem dX0_comes_10 : decode cX0_comes 10 = .ok (.iadd, 1) := dk_96 (dk_at dksX0_comes_0 10 rfl rfl)
theorem dX0_comes_11 : decode cX0_comes 11 = .ok (.iaload, 1) := dk_46 (dk_at dksX0_comes_0 11 rfl rfl)
theorem dX0_comes_12 : decode cX0_comes 12 = .ok (.if_icmp .ge 7, 3) := dk_162 0 7 (dk_at dksX0_comes_0 12 rfl rfl)
theorem dX0_comes_15 : decode cX0_comes 15 = .ok (.iconst 1, 1) := dk_4 (dk_at dksX0_comes_0 15 rfl rfl)
theorem dX0_comes_16 : decode cX0_comes 16 = .ok (.goto 4, 3) := dk_167 0 4 (dk_at dksX0_comes_0 16 rfl rfl)
theorem dX0_comes_19 : decode cX0_comes 19 = .ok (.iconst 0, 1) := dk_3 (dk_at dksX0_comes_0 19 rfl rfl)
theorem dX0_comes_20 : decode cX0_comes 20 = .ok (.istore 4, 2) := dk_54 4 (dk_at dksX0_comes_0 20 rfl rfl)
theorem dX0_comes_22 : decode cX0_comes 22 = .ok (.aload_n 0, 1) := dk_42 (dk_at dksX0_comes_0 22 rfl rfl)
theorem dX0_comes_23 : decode cX0_comes 23 = .ok (.getfield 73, 3) := dk_180 0 73 (dk_at dksX0_comes_1 0 rfl rfl)
theorem dX0_comes_26 : decode cX0_comes 26 = .ok (.bipush 40, 2) := dk_16 40 (dk_at dksX0_comes_1 3 rfl rfl)
theorem dX0_comes_28 : decode cX0_comes 28 = .ok (.iload_n 1, 1) := dk_27 (dk_at dksX0_comes_1 5 rfl rfl)
theorem dX0_comes_29 : decode cX0_comes 29 = .ok (.imul, 1) := dk_104 (dk_at dksX0_comes_1 6 rfl rfl)
theorem dX0_comes_30 : decode cX0_comes 30 = .ok (.iload_n 2, 1) := dk_28 (dk_at dksX0_comes_1 7 rfl rfl)
theorem dX0_comes_31 : decode cX0_comes 31 = .ok (.iadd, 1) := dk_96 (dk_at dksX0_comes_1 8 rfl rfl)
theorem dX0_comes_32 : decode cX0_comes 32 = .ok (.aload_n 0, 1) := dk_42 (dk_at dksX0_comes_1 9 rfl rfl)
theorem dX0_comes_33 : decode cX0_comes 33 = .ok (.getfield 73, 3) := dk_180 0 73 (dk_at dksX0_comes_1 10 rfl rfl)
theorem dX0_comes_36 : decode cX0_comes 36 = .ok (.bipush 40, 2) := dk_16 40 (dk_at dksX0_comes_1 13 rfl rfl)
theorem dX0_comes_38 : decode cX0_comes 38 = .ok (.iload_n 1, 1) := dk_27 (dk_at dksX0_comes_1 15 rfl rfl)
theorem dX0_comes_39 : decode cX0_comes 39 = .ok (.imul, 1) := dk_104 (dk_at dksX0_comes_1 16 rfl rfl)
theorem dX0_comes_40 : decode cX0_comes 40 = .ok (.iload_n 2, 1) := dk_28 (dk_at dksX0_comes_1 17 rfl rfl)
theorem dX0_comes_41 : decode cX0_comes 41 = .ok (.iadd, 1) := dk_96 (dk_at dksX0_comes_1 18 rfl rfl)
theorem dX0_comes_42 : decode cX0_comes 42 = .ok (.iaload, 1) := dk_46 (dk_at dksX0_comes_1 19 rfl rfl)
theorem dX0_comes_43 : decode cX0_comes 43 = .ok (.iload_n 3, 1) := dk_29 (dk_at dksX0_comes_1 20 rfl rfl)
theorem dX0_comes_44 : decode cX0_comes 44 = .ok (.invokestatic 253, 3) := dk_184 0 253 (dk_at dksX0_comes_1 21 rfl rfl)
theorem dX0_comes_47 : decode cX0_comes 47 = .ok (.iastore, 1) := dk_79 (dk_at dksX0_comes_2 0 rfl rfl)
theorem dX0_comes_48 : decode cX0_comes 48 = .ok (.iload 4, 2) := dk_21 4 (dk_at dksX0_comes_2 1 rfl rfl)
theorem dX0_comes_50 : decode cX0_comes 50 = .ok (.ireturn, 1) := dk_172 (dk_at dksX0_comes_2 3 rfl rfl)
abbrev cX0_leastAt : ByteArray := prog_1_method_39_code
def yX0_leastAt : MethodName := ⟨RX0, "leastAt", "(I)I"⟩
def dkwX0_leastAt_1 : List UInt8 := [104, 29, 96, 46, 184, 0, 253, 61, 132, 3, 1, 167, 255, 227, 28, 172]
abbrev dktX0_leastAt_1 : List UInt8 := dkwX0_leastAt_1 ++ []
def dkwX0_leastAt_0 : List UInt8 := [19, 1, 17, 61, 3, 62, 29, 42, 180, 1, 12, 4, 96, 163, 0, 25, 28, 42, 180, 0, 73, 16, 40, 27]
abbrev dktX0_leastAt_0 : List UInt8 := dkwX0_leastAt_0 ++ dktX0_leastAt_1
theorem dksX0_leastAt_0 : cX0_leastAt.data.toList.drop 0 = dktX0_leastAt_0 := by decide +kernel
theorem dksX0_leastAt_1 : cX0_leastAt.data.toList.drop 24 = dktX0_leastAt_1 := dk_seg dksX0_leastAt_0 24 rfl rfl
theorem dX0_leastAt_0 : decode cX0_leastAt 0 = .ok (.ldc_w 273, 3) := dk_19 1 17 (dk_at dksX0_leastAt_0 0 rfl rfl)
theorem dX0_leastAt_3 : decode cX0_leastAt 3 = .ok (.istore_n 2, 1) := dk_61 (dk_at dksX0_leastAt_0 3 rfl rfl)
theorem dX0_leastAt_4 : decode cX0_leastAt 4 = .ok (.iconst 0, 1) := dk_3 (dk_at dksX0_leastAt_0 4 rfl rfl)
theorem dX0_leastAt_5 : decode cX0_leastAt 5 = .ok (.istore_n 3, 1) := dk_62 (dk_at dksX0_leastAt_0 5 rfl rfl)
theorem dX0_leastAt_6 : decode cX0_leastAt 6 = .ok (.iload_n 3, 1) := dk_29 (dk_at dksX0_leastAt_0 6 rfl rfl)
theorem dX0_leastAt_7 : decode cX0_leastAt 7 = .ok (.aload_n 0, 1) := dk_42 (dk_at dksX0_leastAt_0 7 rfl rfl)
theorem dX0_leastAt_8 : decode cX0_leastAt 8 = .ok (.getfield 268, 3) := dk_180 1 12 (dk_at dksX0_leastAt_0 8 rfl rfl)
theorem dX0_leastAt_11 : decode cX0_leastAt 11 = .ok (.iconst 1, 1) := dk_4 (dk_at dksX0_leastAt_0 11 rfl rfl)
theorem dX0_leastAt_12 : decode cX0_leastAt 12 = .ok (.iadd, 1) := dk_96 (dk_at dksX0_leastAt_0 12 rfl rfl)
theorem dX0_leastAt_13 : decode cX0_leastAt 13 = .ok (.if_icmp .gt 25, 3) := dk_163 0 25 (dk_at dksX0_leastAt_0 13 rfl rfl)
theorem dX0_leastAt_16 : decode cX0_leastAt 16 = .ok (.iload_n 2, 1) := dk_28 (dk_at dksX0_leastAt_0 16 rfl rfl)
theorem dX0_leastAt_17 : decode cX0_leastAt 17 = .ok (.aload_n 0, 1) := dk_42 (dk_at dksX0_leastAt_0 17 rfl rfl)
theorem dX0_leastAt_18 : decode cX0_leastAt 18 = .ok (.getfield 73, 3) := dk_180 0 73 (dk_at dksX0_leastAt_0 18 rfl rfl)
theorem dX0_leastAt_21 : decode cX0_leastAt 21 = .ok (.bipush 40, 2) := dk_16 40 (dk_at dksX0_leastAt_0 21 rfl rfl)
theorem dX0_leastAt_23 : decode cX0_leastAt 23 = .ok (.iload_n 1, 1) := dk_27 (dk_at dksX0_leastAt_0 23 rfl rfl)
theorem dX0_leastAt_24 : decode cX0_leastAt 24 = .ok (.imul, 1) := dk_104 (dk_at dksX0_leastAt_1 0 rfl rfl)
theorem dX0_leastAt_25 : decode cX0_leastAt 25 = .ok (.iload_n 3, 1) := dk_29 (dk_at dksX0_leastAt_1 1 rfl rfl)
theorem dX0_leastAt_26 : decode cX0_leastAt 26 = .ok (.iadd, 1) := dk_96 (dk_at dksX0_leastAt_1 2 rfl rfl)
theorem dX0_leastAt_27 : decode cX0_leastAt 27 = .ok (.iaload, 1) := dk_46 (dk_at dksX0_leastAt_1 3 rfl rfl)
theorem dX0_leastAt_28 : decode cX0_leastAt 28 = .ok (.invokestatic 253, 3) := dk_184 0 253 (dk_at dksX0_leastAt_1 4 rfl rfl)
theorem dX0_leastAt_31 : decode cX0_leastAt 31 = .ok (.istore_n 2, 1) := dk_61 (dk_at dksX0_leastAt_1 7 rfl rfl)
theorem dX0_leastAt_32 : decode cX0_leastAt 32 = .ok (.iinc 3 1, 3) := dk_132 3 1 (dk_at dksX0_leastAt_1 8 rfl rfl)
theorem dX0_leastAt_35 : decode cX0_leastAt 35 = .ok (.goto (-29), 3) := dk_167 255 227 (dk_at dksX0_leastAt_1 11 rfl rfl)
theorem dX0_leastAt_38 : decode cX0_leastAt 38 = .ok (.iload_n 2, 1) := dk_28 (dk_at dksX0_leastAt_1 14 rfl rfl)
theorem dX0_leastAt_39 : decode cX0_leastAt 39 = .ok (.ireturn, 1) := dk_172 (dk_at dksX0_leastAt_1 15 rfl rfl)
abbrev cX0_drinks : ByteArray := prog_1_method_43_code
def yX0_drinks : MethodName := ⟨RX0, "drinks", "(III)I"⟩
def dkwX0_drinks_0 : List UInt8 := [42, 27, 28, 29, 4, 182, 1, 31, 172, 58, 4, 42, 25, 4, 182, 0, 109, 172]
abbrev dktX0_drinks_0 : List UInt8 := dkwX0_drinks_0 ++ []
theorem dksX0_drinks_0 : cX0_drinks.data.toList.drop 0 = dktX0_drinks_0 := by decide +kernel
theorem dX0_drinks_0 : decode cX0_drinks 0 = .ok (.aload_n 0, 1) := dk_42 (dk_at dksX0_drinks_0 0 rfl rfl)
theorem dX0_drinks_1 : decode cX0_drinks 1 = .ok (.iload_n 1, 1) := dk_27 (dk_at dksX0_drinks_0 1 rfl rfl)
theorem dX0_drinks_2 : decode cX0_drinks 2 = .ok (.iload_n 2, 1) := dk_28 (dk_at dksX0_drinks_0 2 rfl rfl)
theorem dX0_drinks_3 : decode cX0_drinks 3 = .ok (.iload_n 3, 1) := dk_29 (dk_at dksX0_drinks_0 3 rfl rfl)
theorem dX0_drinks_4 : decode cX0_drinks 4 = .ok (.iconst 1, 1) := dk_4 (dk_at dksX0_drinks_0 4 rfl rfl)
theorem dX0_drinks_5 : decode cX0_drinks 5 = .ok (.invokevirtual 287, 3) := dk_182 1 31 (dk_at dksX0_drinks_0 5 rfl rfl)
theorem dX0_drinks_8 : decode cX0_drinks 8 = .ok (.ireturn, 1) := dk_172 (dk_at dksX0_drinks_0 8 rfl rfl)
theorem dX0_drinks_9 : decode cX0_drinks 9 = .ok (.astore 4, 2) := dk_58 4 (dk_at dksX0_drinks_0 9 rfl rfl)
theorem dX0_drinks_11 : decode cX0_drinks 11 = .ok (.aload_n 0, 1) := dk_42 (dk_at dksX0_drinks_0 11 rfl rfl)
theorem dX0_drinks_12 : decode cX0_drinks 12 = .ok (.aload 4, 2) := dk_25 4 (dk_at dksX0_drinks_0 12 rfl rfl)
theorem dX0_drinks_14 : decode cX0_drinks 14 = .ok (.invokevirtual 109, 3) := dk_182 0 109 (dk_at dksX0_drinks_0 14 rfl rfl)
theorem dX0_drinks_17 : decode cX0_drinks 17 = .ok (.ireturn, 1) := dk_172 (dk_at dksX0_drinks_0 17 rfl rfl)
abbrev cX0_reach : ByteArray := prog_1_method_44_code
def yX0_reach : MethodName := ⟨RX0, "reach", "(III)I"⟩
def dkwX0_reach_4 : List UInt8 := [132, 5, 1, 167, 255, 215, 21, 4, 172, 58, 4, 42, 25, 4, 182, 0, 109, 172]
abbrev dktX0_reach_4 : List UInt8 := dkwX0_reach_4 ++ []
def dkwX0_reach_3 : List UInt8 := [21, 5, 28, 182, 1, 2, 153, 0, 8, 21, 4, 167, 0, 9, 4, 21, 5, 120, 2, 130, 126, 54, 4]
abbrev dktX0_reach_3 : List UInt8 := dkwX0_reach_3 ++ dktX0_reach_4
def dkwX0_reach_2 : List UInt8 := [182, 1, 35, 54, 4, 3, 54, 5, 21, 5, 16, 8, 162, 0, 40, 21, 4, 29, 153, 0, 14, 42, 27]
abbrev dktX0_reach_2 : List UInt8 := dkwX0_reach_2 ++ dktX0_reach_3
def dkwX0_reach_1 : List UInt8 := [153, 0, 7, 4, 167, 0, 4, 3, 4, 182, 0, 100, 42, 3, 181, 1, 5, 42, 27, 28, 182, 1, 28, 42]
abbrev dktX0_reach_1 : List UInt8 := dkwX0_reach_1 ++ dktX0_reach_2
def dkwX0_reach_0 : List UInt8 := [42, 42, 27, 182, 0, 158, 153, 0, 23, 28, 184, 1, 25, 153, 0, 16, 29, 3, 4, 184, 0, 85]
abbrev dktX0_reach_0 : List UInt8 := dkwX0_reach_0 ++ dktX0_reach_1
theorem dksX0_reach_0 : cX0_reach.data.toList.drop 0 = dktX0_reach_0 := by decide +kernel
theorem dksX0_reach_1 : cX0_reach.data.toList.drop 22 = dktX0_reach_1 := dk_seg dksX0_reach_0 22 rfl rfl
theorem dksX0_reach_2 : cX0_reach.data.toList.drop 46 = dktX0_reach_2 := dk_seg dksX0_reach_1 24 rfl rfl
theorem dksX0_reach_3 : cX0_reach.data.toList.drop 69 = dktX0_reach_3 := dk_seg dksX0_reach_2 23 rfl rfl
theorem dksX0_reach_4 : cX0_reach.data.toList.drop 92 = dktX0_reach_4 := dk_seg dksX0_reach_3 23 rfl rfl
theorem dX0_reach_0 : decode cX0_reach 0 = .ok (.aload_n 0, 1) := dk_42 (dk_at dksX0_reach_0 0 rfl rfl)
theorem dX0_reach_1 : decode cX0_reach 1 = .ok (.aload_n 0, 1) := dk_42 (dk_at dksX0_reach_0 1 rfl rfl)
theorem dX0_reach_2 : decode cX0_reach 2 = .ok (.iload_n 1, 1) := dk_27 (dk_at dksX0_reach_0 2 rfl rfl)
theorem dX0_reach_3 : decode cX0_reach 3 = .ok (.invokevirtual 158, 3) := dk_182 0 158 (dk_at dksX0_reach_0 3 rfl rfl)
theorem dX0_reach_6 : decode cX0_reach 6 = .ok (.ifCond .eq 23, 3) := dk_153 0 23 (dk_at dksX0_reach_0 6 rfl rfl)
theorem dX0_reach_9 : decode cX0_reach 9 = .ok (.iload_n 2, 1) := dk_28 (dk_at dksX0_reach_0 9 rfl rfl)
theorem dX0_reach_10 : decode cX0_reach 10 = .ok (.invokestatic 281, 3) := dk_184 1 25 (dk_at dksX0_reach_0 10 rfl rfl)
theorem dX0_reach_13 : decode cX0_reach 13 = .ok (.ifCond .eq 16, 3) := dk_153 0 16 (dk_at dksX0_reach_0 13 rfl rfl)
theorem dX0_reach_16 : decode cX0_reach 16 = .ok (.iload_n 3, 1) := dk_29 (dk_at dksX0_reach_0 16 rfl rfl)
theorem dX0_reach_17 : decode cX0_reach 17 = .ok (.iconst 0, 1) := dk_3 (dk_at dksX0_reach_0 17 rfl rfl)
theorem dX0_reach_18 : decode cX0_reach 18 = .ok (.iconst 1, 1) := dk_4 (dk_at dksX0_reach_0 18 rfl rfl)
theorem dX0_reach_19 : decode cX0_reach 19 = .ok (.invokestatic 85, 3) := dk_184 0 85 (dk_at dksX0_reach_0 19 rfl rfl)
theorem dX0_reach_22 : decode cX0_reach 22 = .ok (.ifCond .eq 7, 3) := dk_153 0 7 (dk_at dksX0_reach_1 0 rfl rfl)
theorem dX0_reach_25 : decode cX0_reach 25 = .ok (.iconst 1, 1) := dk_4 (dk_at dksX0_reach_1 3 rfl rfl)
theorem dX0_reach_26 : decode cX0_reach 26 = .ok (.goto 4, 3) := dk_167 0 4 (dk_at dksX0_reach_1 4 rfl rfl)
theorem dX0_reach_29 : decode cX0_reach 29 = .ok (.iconst 0, 1) := dk_3 (dk_at dksX0_reach_1 7 rfl rfl)
theorem dX0_reach_30 : decode cX0_reach 30 = .ok (.iconst 1, 1) := dk_4 (dk_at dksX0_reach_1 8 rfl rfl)
theorem dX0_reach_31 : decode cX0_reach 31 = .ok (.invokevirtual 100, 3) := dk_182 0 100 (dk_at dksX0_reach_1 9 rfl rfl)
theorem dX0_reach_34 : decode cX0_reach 34 = .ok (.aload_n 0, 1) := dk_42 (dk_at dksX0_reach_1 12 rfl rfl)
theorem dX0_reach_35 : decode cX0_reach 35 = .ok (.iconst 0, 1) := dk_3 (dk_at dksX0_reach_1 13 rfl rfl)
theorem dX0_reach_36 : decode cX0_reach 36 = .ok (.putfield 261, 3) := dk_181 1 5 (dk_at dksX0_reach_1 14 rfl rfl)
theorem dX0_reach_39 : decode cX0_reach 39 = .ok (.aload_n 0, 1) := dk_42 (dk_at dksX0_reach_1 17 rfl rfl)
theorem dX0_reach_40 : decode cX0_reach 40 = .ok (.iload_n 1, 1) := dk_27 (dk_at dksX0_reach_1 18 rfl rfl)
theorem dX0_reach_41 : decode cX0_reach 41 = .ok (.iload_n 2, 1) := dk_28 (dk_at dksX0_reach_1 19 rfl rfl)
theorem dX0_reach_42 : decode cX0_reach 42 = .ok (.invokevirtual 284, 3) := dk_182 1 28 (dk_at dksX0_reach_1 20 rfl rfl)
theorem dX0_reach_45 : decode cX0_reach 45 = .ok (.aload_n 0, 1) := dk_42 (dk_at dksX0_reach_1 23 rfl rfl)
theorem dX0_reach_46 : decode cX0_reach 46 = .ok (.invokevirtual 291, 3) := dk_182 1 35 (dk_at dksX0_reach_2 0 rfl rfl)
theorem dX0_reach_49 : decode cX0_reach 49 = .ok (.istore 4, 2) := dk_54 4 (dk_at dksX0_reach_2 3 rfl rfl)
theorem dX0_reach_51 : decode cX0_reach 51 = .ok (.iconst 0, 1) := dk_3 (dk_at dksX0_reach_2 5 rfl rfl)
theorem dX0_reach_52 : decode cX0_reach 52 = .ok (.istore 5, 2) := dk_54 5 (dk_at dksX0_reach_2 6 rfl rfl)
theorem dX0_reach_54 : decode cX0_reach 54 = .ok (.iload 5, 2) := dk_21 5 (dk_at dksX0_reach_2 8 rfl rfl)
theorem dX0_reach_56 : decode cX0_reach 56 = .ok (.bipush 8, 2) := dk_16 8 (dk_at dksX0_reach_2 10 rfl rfl)
theorem dX0_reach_58 : decode cX0_reach 58 = .ok (.if_icmp .ge 40, 3) := dk_162 0 40 (dk_at dksX0_reach_2 12 rfl rfl)
theorem dX0_reach_61 : decode cX0_reach 61 = .ok (.iload 4, 2) := dk_21 4 (dk_at dksX0_reach_2 15 rfl rfl)
theorem dX0_reach_63 : decode cX0_reach 63 = .ok (.iload_n 3, 1) := dk_29 (dk_at dksX0_reach_2 17 rfl rfl)
theorem dX0_reach_64 : decode cX0_reach 64 = .ok (.ifCond .eq 14, 3) := dk_153 0 14 (dk_at dksX0_reach_2 18 rfl rfl)
theorem dX0_reach_67 : decode cX0_reach 67 = .ok (.aload_n 0, 1) := dk_42 (dk_at dksX0_reach_2 21 rfl rfl)
theorem dX0_reach_68 : decode cX0_reach 68 = .ok (.iload_n 1, 1) := dk_27 (dk_at dksX0_reach_2 22 rfl rfl)
theorem dX0_reach_69 : decode cX0_reach 69 = .ok (.iload 5, 2) := dk_21 5 (dk_at dksX0_reach_3 0 rfl rfl)
theorem dX0_reach_71 : decode cX0_reach 71 = .ok (.iload_n 2, 1) := dk_28 (dk_at dksX0_reach_3 2 rfl rfl)
theorem dX0_reach_72 : decode cX0_reach 72 = .ok (.invokevirtual 258, 3) := dk_182 1 2 (dk_at dksX0_reach_3 3 rfl rfl)
theorem dX0_reach_75 : decode cX0_reach 75 = .ok (.ifCond .eq 8, 3) := dk_153 0 8 (dk_at dksX0_reach_3 6 rfl rfl)
theorem dX0_reach_78 : decode cX0_reach 78 = .ok (.iload 4, 2) := dk_21 4 (dk_at dksX0_reach_3 9 rfl rfl)
theorem dX0_reach_80 : decode cX0_reach 80 = .ok (.goto 9, 3) := dk_167 0 9 (dk_at dksX0_reach_3 11 rfl rfl)
theorem dX0_reach_83 : decode cX0_reach 83 = .ok (.iconst 1, 1) := dk_4 (dk_at dksX0_reach_3 14 rfl rfl)
theorem dX0_reach_84 : decode cX0_reach 84 = .ok (.iload 5, 2) := dk_21 5 (dk_at dksX0_reach_3 15 rfl rfl)
theorem dX0_reach_86 : decode cX0_reach 86 = .ok (.ishl, 1) := dk_120 (dk_at dksX0_reach_3 17 rfl rfl)
theorem dX0_reach_87 : decode cX0_reach 87 = .ok (.iconst (-1), 1) := dk_2 (dk_at dksX0_reach_3 18 rfl rfl)
theorem dX0_reach_88 : decode cX0_reach 88 = .ok (.ixor, 1) := dk_130 (dk_at dksX0_reach_3 19 rfl rfl)
theorem dX0_reach_89 : decode cX0_reach 89 = .ok (.iand, 1) := dk_126 (dk_at dksX0_reach_3 20 rfl rfl)
theorem dX0_reach_90 : decode cX0_reach 90 = .ok (.istore 4, 2) := dk_54 4 (dk_at dksX0_reach_3 21 rfl rfl)
theorem dX0_reach_92 : decode cX0_reach 92 = .ok (.iinc 5 1, 3) := dk_132 5 1 (dk_at dksX0_reach_4 0 rfl rfl)
theorem dX0_reach_95 : decode cX0_reach 95 = .ok (.goto (-41), 3) := dk_167 255 215 (dk_at dksX0_reach_4 3 rfl rfl)
theorem dX0_reach_98 : decode cX0_reach 98 = .ok (.iload 4, 2) := dk_21 4 (dk_at dksX0_reach_4 6 rfl rfl)
theorem dX0_reach_100 : decode cX0_reach 100 = .ok (.ireturn, 1) := dk_172 (dk_at dksX0_reach_4 8 rfl rfl)
theorem dX0_reach_101 : decode cX0_reach 101 = .ok (.astore 4, 2) := dk_58 4 (dk_at dksX0_reach_4 9 rfl rfl)
theorem dX0_reach_103 : decode cX0_reach 103 = .ok (.aload_n 0, 1) := dk_42 (dk_at dksX0_reach_4 11 rfl rfl)
theorem dX0_reach_104 : decode cX0_reach 104 = .ok (.aload 4, 2) := dk_25 4 (dk_at dksX0_reach_4 12 rfl rfl)
theorem dX0_reach_106 : decode cX0_reach 106 = .ok (.invokevirtual 109, 3) := dk_182 0 109 (dk_at dksX0_reach_4 14 rfl rfl)
theorem dX0_reach_109 : decode cX0_reach 109 = .ok (.ireturn, 1) := dk_172 (dk_at dksX0_reach_4 17 rfl rfl)
abbrev cX0_reached : ByteArray := prog_1_method_40_code
def yX0_reached : MethodName := ⟨RX0, "reached", "()I"⟩
def dkwX0_reached_1 : List UInt8 := [120, 167, 0, 4, 3, 128, 60, 132, 2, 1, 167, 255, 226, 27, 172]
abbrev dktX0_reached_1 : List UInt8 := dkwX0_reached_1 ++ []
def dkwX0_reached_0 : List UInt8 := [3, 60, 3, 61, 28, 16, 8, 162, 0, 30, 27, 42, 28, 182, 1, 22, 19, 1, 17, 162, 0, 9, 4, 28]
abbrev dktX0_reached_0 : List UInt8 := dkwX0_reached_0 ++ dktX0_reached_1
theorem dksX0_reached_0 : cX0_reached.data.toList.drop 0 = dktX0_reached_0 := by decide +kernel
theorem dksX0_reached_1 : cX0_reached.data.toList.drop 24 = dktX0_reached_1 := dk_seg dksX0_reached_0 24 rfl rfl
theorem dX0_reached_0 : decode cX0_reached 0 = .ok (.iconst 0, 1) := dk_3 (dk_at dksX0_reached_0 0 rfl rfl)
theorem dX0_reached_1 : decode cX0_reached 1 = .ok (.istore_n 1, 1) := dk_60 (dk_at dksX0_reached_0 1 rfl rfl)
theorem dX0_reached_2 : decode cX0_reached 2 = .ok (.iconst 0, 1) := dk_3 (dk_at dksX0_reached_0 2 rfl rfl)
theorem dX0_reached_3 : decode cX0_reached 3 = .ok (.istore_n 2, 1) := dk_61 (dk_at dksX0_reached_0 3 rfl rfl)
theorem dX0_reached_4 : decode cX0_reached 4 = .ok (.iload_n 2, 1) := dk_28 (dk_at dksX0_reached_0 4 rfl rfl)
theorem dX0_reached_5 : decode cX0_reached 5 = .ok (.bipush 8, 2) := dk_16 8 (dk_at dksX0_reached_0 5 rfl rfl)
theorem dX0_reached_7 : decode cX0_reached 7 = .ok (.if_icmp .ge 30, 3) := dk_162 0 30 (dk_at dksX0_reached_0 7 rfl rfl)
theorem dX0_reached_10 : decode cX0_reached 10 = .ok (.iload_n 1, 1) := dk_27 (dk_at dksX0_reached_0 10 rfl rfl)
theorem dX0_reached_11 : decode cX0_reached 11 = .ok (.aload_n 0, 1) := dk_42 (dk_at dksX0_reached_0 11 rfl rfl)
theorem dX0_reached_12 : decode cX0_reached 12 = .ok (.iload_n 2, 1) := dk_28 (dk_at dksX0_reached_0 12 rfl rfl)
theorem dX0_reached_13 : decode cX0_reached 13 = .ok (.invokevirtual 278, 3) := dk_182 1 22 (dk_at dksX0_reached_0 13 rfl rfl)
theorem dX0_reached_16 : decode cX0_reached 16 = .ok (.ldc_w 273, 3) := dk_19 1 17 (dk_at dksX0_reached_0 16 rfl rfl)
theorem dX0_reached_19 : decode cX0_reached 19 = .ok (.if_icmp .ge 9, 3) := dk_162 0 9 (dk_at dksX0_reached_0 19 rfl rfl)
theorem dX0_reached_22 : decode cX0_reached 22 = .ok (.iconst 1, 1) := dk_4 (dk_at dksX0_reached_0 22 rfl rfl)
theorem dX0_reached_23 : decode cX0_reached 23 = .ok (.iload_n 2, 1) := dk_28 (dk_at dksX0_reached_0 23 rfl rfl)
theorem dX0_reached_24 : decode cX0_reached 24 = .ok (.ishl, 1) := dk_120 (dk_at dksX0_reached_1 0 rfl rfl)
theorem dX0_reached_25 : decode cX0_reached 25 = .ok (.goto 4, 3) := dk_167 0 4 (dk_at dksX0_reached_1 1 rfl rfl)
theorem dX0_reached_28 : decode cX0_reached 28 = .ok (.iconst 0, 1) := dk_3 (dk_at dksX0_reached_1 4 rfl rfl)
theorem dX0_reached_29 : decode cX0_reached 29 = .ok (.ior, 1) := dk_128 (dk_at dksX0_reached_1 5 rfl rfl)
theorem dX0_reached_30 : decode cX0_reached 30 = .ok (.istore_n 1, 1) := dk_60 (dk_at dksX0_reached_1 6 rfl rfl)
theorem dX0_reached_31 : decode cX0_reached 31 = .ok (.iinc 2 1, 3) := dk_132 2 1 (dk_at dksX0_reached_1 7 rfl rfl)
theorem dX0_reached_34 : decode cX0_reached 34 = .ok (.goto (-30), 3) := dk_167 255 226 (dk_at dksX0_reached_1 10 rfl rfl)
theorem dX0_reached_37 : decode cX0_reached 37 = .ok (.iload_n 1, 1) := dk_27 (dk_at dksX0_reached_1 13 rfl rfl)
theorem dX0_reached_38 : decode cX0_reached 38 = .ok (.ireturn, 1) := dk_172 (dk_at dksX0_reached_1 14 rfl rfl)
abbrev cX0_dry : ByteArray := prog_1_method_45_code
def yX0_dry : MethodName := ⟨RX0, "dry", "(II)I"⟩
def dkwX0_dry_5 : List UInt8 := [167, 255, 176, 28, 154, 0, 7, 29, 167, 0, 5, 21, 4, 172, 78, 42, 45, 182, 0, 109, 172]
abbrev dktX0_dry_5 : List UInt8 := dkwX0_dry_5 ++ []
def dkwX0_dry_4 : List UInt8 := [21, 5, 167, 0, 4, 29, 62, 21, 7, 153, 0, 8, 21, 6, 167, 0, 5, 21, 4, 54, 4, 132, 5, 1]
abbrev dktX0_dry_4 : List UInt8 := dkwX0_dry_4 ++ dktX0_dry_5
def dkwX0_dry_3 : List UInt8 := [29, 2, 159, 0, 10, 21, 6, 21, 4, 162, 0, 7, 4, 167, 0, 4, 3, 54, 7, 21, 7, 153, 0, 8]
abbrev dktX0_dry_3 : List UInt8 := dkwX0_dry_3 ++ dktX0_dry_4
def dkwX0_dry_2 : List UInt8 := [27, 4, 21, 5, 120, 182, 1, 28, 42, 182, 1, 35, 4, 21, 5, 120, 2, 130, 126, 184, 1, 38, 54, 6]
abbrev dktX0_dry_2 : List UInt8 := dkwX0_dry_2 ++ dktX0_dry_3
def dkwX0_dry_1 : List UInt8 := [182, 0, 100, 42, 3, 181, 1, 5, 2, 62, 3, 54, 4, 3, 54, 5, 21, 5, 16, 8, 162, 0, 79, 42]
abbrev dktX0_dry_1 : List UInt8 := dkwX0_dry_1 ++ dktX0_dry_2
def dkwX0_dry_0 : List UInt8 := [42, 42, 27, 182, 0, 158, 153, 0, 16, 28, 3, 4, 184, 0, 85, 153, 0, 7, 4, 167, 0, 4, 3, 4]
abbrev dktX0_dry_0 : List UInt8 := dkwX0_dry_0 ++ dktX0_dry_1
theorem dksX0_dry_0 : cX0_dry.data.toList.drop 0 = dktX0_dry_0 := by decide +kernel
theorem dksX0_dry_1 : cX0_dry.data.toList.drop 24 = dktX0_dry_1 := dk_seg dksX0_dry_0 24 rfl rfl
theorem dksX0_dry_2 : cX0_dry.data.toList.drop 48 = dktX0_dry_2 := dk_seg dksX0_dry_1 24 rfl rfl
theorem dksX0_dry_3 : cX0_dry.data.toList.drop 72 = dktX0_dry_3 := dk_seg dksX0_dry_2 24 rfl rfl
theorem dksX0_dry_4 : cX0_dry.data.toList.drop 96 = dktX0_dry_4 := dk_seg dksX0_dry_3 24 rfl rfl
theorem dksX0_dry_5 : cX0_dry.data.toList.drop 120 = dktX0_dry_5 := dk_seg dksX0_dry_4 24 rfl rfl
theorem dX0_dry_0 : decode cX0_dry 0 = .ok (.aload_n 0, 1) := dk_42 (dk_at dksX0_dry_0 0 rfl rfl)
theorem dX0_dry_1 : decode cX0_dry 1 = .ok (.aload_n 0, 1) := dk_42 (dk_at dksX0_dry_0 1 rfl rfl)
theorem dX0_dry_2 : decode cX0_dry 2 = .ok (.iload_n 1, 1) := dk_27 (dk_at dksX0_dry_0 2 rfl rfl)
theorem dX0_dry_3 : decode cX0_dry 3 = .ok (.invokevirtual 158, 3) := dk_182 0 158 (dk_at dksX0_dry_0 3 rfl rfl)
theorem dX0_dry_6 : decode cX0_dry 6 = .ok (.ifCond .eq 16, 3) := dk_153 0 16 (dk_at dksX0_dry_0 6 rfl rfl)
theorem dX0_dry_9 : decode cX0_dry 9 = .ok (.iload_n 2, 1) := dk_28 (dk_at dksX0_dry_0 9 rfl rfl)
theorem dX0_dry_10 : decode cX0_dry 10 = .ok (.iconst 0, 1) := dk_3 (dk_at dksX0_dry_0 10 rfl rfl)
theorem dX0_dry_11 : decode cX0_dry 11 = .ok (.iconst 1, 1) := dk_4 (dk_at dksX0_dry_0 11 rfl rfl)
theorem dX0_dry_12 : decode cX0_dry 12 = .ok (.invokestatic 85, 3) := dk_184 0 85 (dk_at dksX0_dry_0 12 rfl rfl)
theorem dX0_dry_15 : decode cX0_dry 15 = .ok (.ifCond .eq 7, 3) := dk_153 0 7 (dk_at dksX0_dry_0 15 rfl rfl)
theorem dX0_dry_18 : decode cX0_dry 18 = .ok (.iconst 1, 1) := dk_4 (dk_at dksX0_dry_0 18 rfl rfl)
theorem dX0_dry_19 : decode cX0_dry 19 = .ok (.goto 4, 3) := dk_167 0 4 (dk_at dksX0_dry_0 19 rfl rfl)
theorem dX0_dry_22 : decode cX0_dry 22 = .ok (.iconst 0, 1) := dk_3 (dk_at dksX0_dry_0 22 rfl rfl)
theorem dX0_dry_23 : decode cX0_dry 23 = .ok (.iconst 1, 1) := dk_4 (dk_at dksX0_dry_0 23 rfl rfl)
theorem dX0_dry_24 : decode cX0_dry 24 = .ok (.invokevirtual 100, 3) := dk_182 0 100 (dk_at dksX0_dry_1 0 rfl rfl)
theorem dX0_dry_27 : decode cX0_dry 27 = .ok (.aload_n 0, 1) := dk_42 (dk_at dksX0_dry_1 3 rfl rfl)
theorem dX0_dry_28 : decode cX0_dry 28 = .ok (.iconst 0, 1) := dk_3 (dk_at dksX0_dry_1 4 rfl rfl)
theorem dX0_dry_29 : decode cX0_dry 29 = .ok (.putfield 261, 3) := dk_181 1 5 (dk_at dksX0_dry_1 5 rfl rfl)
theorem dX0_dry_32 : decode cX0_dry 32 = .ok (.iconst (-1), 1) := dk_2 (dk_at dksX0_dry_1 8 rfl rfl)
theorem dX0_dry_33 : decode cX0_dry 33 = .ok (.istore_n 3, 1) := dk_62 (dk_at dksX0_dry_1 9 rfl rfl)
theorem dX0_dry_34 : decode cX0_dry 34 = .ok (.iconst 0, 1) := dk_3 (dk_at dksX0_dry_1 10 rfl rfl)
theorem dX0_dry_35 : decode cX0_dry 35 = .ok (.istore 4, 2) := dk_54 4 (dk_at dksX0_dry_1 11 rfl rfl)
theorem dX0_dry_37 : decode cX0_dry 37 = .ok (.iconst 0, 1) := dk_3 (dk_at dksX0_dry_1 13 rfl rfl)
theorem dX0_dry_38 : decode cX0_dry 38 = .ok (.istore 5, 2) := dk_54 5 (dk_at dksX0_dry_1 14 rfl rfl)
theorem dX0_dry_40 : decode cX0_dry 40 = .ok (.iload 5, 2) := dk_21 5 (dk_at dksX0_dry_1 16 rfl rfl)
theorem dX0_dry_42 : decode cX0_dry 42 = .ok (.bipush 8, 2) := dk_16 8 (dk_at dksX0_dry_1 18 rfl rfl)
theorem dX0_dry_44 : decode cX0_dry 44 = .ok (.if_icmp .ge 79, 3) := dk_162 0 79 (dk_at dksX0_dry_1 20 rfl rfl)
theorem dX0_dry_47 : decode cX0_dry 47 = .ok (.aload_n 0, 1) := dk_42 (dk_at dksX0_dry_1 23 rfl rfl)
theorem dX0_dry_48 : decode cX0_dry 48 = .ok (.iload_n 1, 1) := dk_27 (dk_at dksX0_dry_2 0 rfl rfl)
theorem dX0_dry_49 : decode cX0_dry 49 = .ok (.iconst 1, 1) := dk_4 (dk_at dksX0_dry_2 1 rfl rfl)
theorem dX0_dry_50 : decode cX0_dry 50 = .ok (.iload 5, 2) := dk_21 5 (dk_at dksX0_dry_2 2 rfl rfl)
theorem dX0_dry_52 : decode cX0_dry 52 = .ok (.ishl, 1) := dk_120 (dk_at dksX0_dry_2 4 rfl rfl)
theorem dX0_dry_53 : decode cX0_dry 53 = .ok (.invokevirtual 284, 3) := dk_182 1 28 (dk_at dksX0_dry_2 5 rfl rfl)
theorem dX0_dry_56 : decode cX0_dry 56 = .ok (.aload_n 0, 1) := dk_42 (dk_at dksX0_dry_2 8 rfl rfl)
theorem dX0_dry_57 : decode cX0_dry 57 = .ok (.invokevirtual 291, 3) := dk_182 1 35 (dk_at dksX0_dry_2 9 rfl rfl)
theorem dX0_dry_60 : decode cX0_dry 60 = .ok (.iconst 1, 1) := dk_4 (dk_at dksX0_dry_2 12 rfl rfl)
theorem dX0_dry_61 : decode cX0_dry 61 = .ok (.iload 5, 2) := dk_21 5 (dk_at dksX0_dry_2 13 rfl rfl)
theorem dX0_dry_63 : decode cX0_dry 63 = .ok (.ishl, 1) := dk_120 (dk_at dksX0_dry_2 15 rfl rfl)
theorem dX0_dry_64 : decode cX0_dry 64 = .ok (.iconst (-1), 1) := dk_2 (dk_at dksX0_dry_2 16 rfl rfl)
theorem dX0_dry_65 : decode cX0_dry 65 = .ok (.ixor, 1) := dk_130 (dk_at dksX0_dry_2 17 rfl rfl)
theorem dX0_dry_66 : decode cX0_dry 66 = .ok (.iand, 1) := dk_126 (dk_at dksX0_dry_2 18 rfl rfl)
theorem dX0_dry_67 : decode cX0_dry 67 = .ok (.invokestatic 294, 3) := dk_184 1 38 (dk_at dksX0_dry_2 19 rfl rfl)
theorem dX0_dry_70 : decode cX0_dry 70 = .ok (.istore 6, 2) := dk_54 6 (dk_at dksX0_dry_2 22 rfl rfl)
theorem dX0_dry_72 : decode cX0_dry 72 = .ok (.iload_n 3, 1) := dk_29 (dk_at dksX0_dry_3 0 rfl rfl)
theorem dX0_dry_73 : decode cX0_dry 73 = .ok (.iconst (-1), 1) := dk_2 (dk_at dksX0_dry_3 1 rfl rfl)
theorem dX0_dry_74 : decode cX0_dry 74 = .ok (.if_icmp .eq 10, 3) := dk_159 0 10 (dk_at dksX0_dry_3 2 rfl rfl)
theorem dX0_dry_77 : decode cX0_dry 77 = .ok (.iload 6, 2) := dk_21 6 (dk_at dksX0_dry_3 5 rfl rfl)
theorem dX0_dry_79 : decode cX0_dry 79 = .ok (.iload 4, 2) := dk_21 4 (dk_at dksX0_dry_3 7 rfl rfl)
theorem dX0_dry_81 : decode cX0_dry 81 = .ok (.if_icmp .ge 7, 3) := dk_162 0 7 (dk_at dksX0_dry_3 9 rfl rfl)
theorem dX0_dry_84 : decode cX0_dry 84 = .ok (.iconst 1, 1) := dk_4 (dk_at dksX0_dry_3 12 rfl rfl)
theorem dX0_dry_85 : decode cX0_dry 85 = .ok (.goto 4, 3) := dk_167 0 4 (dk_at dksX0_dry_3 13 rfl rfl)
theorem dX0_dry_88 : decode cX0_dry 88 = .ok (.iconst 0, 1) := dk_3 (dk_at dksX0_dry_3 16 rfl rfl)
theorem dX0_dry_89 : decode cX0_dry 89 = .ok (.istore 7, 2) := dk_54 7 (dk_at dksX0_dry_3 17 rfl rfl)
theorem dX0_dry_91 : decode cX0_dry 91 = .ok (.iload 7, 2) := dk_21 7 (dk_at dksX0_dry_3 19 rfl rfl)
theorem dX0_dry_93 : decode cX0_dry 93 = .ok (.ifCond .eq 8, 3) := dk_153 0 8 (dk_at dksX0_dry_3 21 rfl rfl)
theorem dX0_dry_96 : decode cX0_dry 96 = .ok (.iload 5, 2) := dk_21 5 (dk_at dksX0_dry_4 0 rfl rfl)
theorem dX0_dry_98 : decode cX0_dry 98 = .ok (.goto 4, 3) := dk_167 0 4 (dk_at dksX0_dry_4 2 rfl rfl)
theorem dX0_dry_101 : decode cX0_dry 101 = .ok (.iload_n 3, 1) := dk_29 (dk_at dksX0_dry_4 5 rfl rfl)
theorem dX0_dry_102 : decode cX0_dry 102 = .ok (.istore_n 3, 1) := dk_62 (dk_at dksX0_dry_4 6 rfl rfl)
theorem dX0_dry_103 : decode cX0_dry 103 = .ok (.iload 7, 2) := dk_21 7 (dk_at dksX0_dry_4 7 rfl rfl)
theorem dX0_dry_105 : decode cX0_dry 105 = .ok (.ifCond .eq 8, 3) := dk_153 0 8 (dk_at dksX0_dry_4 9 rfl rfl)
theorem dX0_dry_108 : decode cX0_dry 108 = .ok (.iload 6, 2) := dk_21 6 (dk_at dksX0_dry_4 12 rfl rfl)
theorem dX0_dry_110 : decode cX0_dry 110 = .ok (.goto 5, 3) := dk_167 0 5 (dk_at dksX0_dry_4 14 rfl rfl)
theorem dX0_dry_113 : decode cX0_dry 113 = .ok (.iload 4, 2) := dk_21 4 (dk_at dksX0_dry_4 17 rfl rfl)
theorem dX0_dry_115 : decode cX0_dry 115 = .ok (.istore 4, 2) := dk_54 4 (dk_at dksX0_dry_4 19 rfl rfl)
theorem dX0_dry_117 : decode cX0_dry 117 = .ok (.iinc 5 1, 3) := dk_132 5 1 (dk_at dksX0_dry_4 21 rfl rfl)
theorem dX0_dry_120 : decode cX0_dry 120 = .ok (.goto (-80), 3) := dk_167 255 176 (dk_at dksX0_dry_5 0 rfl rfl)
theorem dX0_dry_123 : decode cX0_dry 123 = .ok (.iload_n 2, 1) := dk_28 (dk_at dksX0_dry_5 3 rfl rfl)
theorem dX0_dry_124 : decode cX0_dry 124 = .ok (.ifCond .ne 7, 3) := dk_154 0 7 (dk_at dksX0_dry_5 4 rfl rfl)
theorem dX0_dry_127 : decode cX0_dry 127 = .ok (.iload_n 3, 1) := dk_29 (dk_at dksX0_dry_5 7 rfl rfl)
theorem dX0_dry_128 : decode cX0_dry 128 = .ok (.goto 5, 3) := dk_167 0 5 (dk_at dksX0_dry_5 8 rfl rfl)
theorem dX0_dry_131 : decode cX0_dry 131 = .ok (.iload 4, 2) := dk_21 4 (dk_at dksX0_dry_5 11 rfl rfl)
theorem dX0_dry_133 : decode cX0_dry 133 = .ok (.ireturn, 1) := dk_172 (dk_at dksX0_dry_5 13 rfl rfl)
theorem dX0_dry_134 : decode cX0_dry 134 = .ok (.astore_n 3, 1) := dk_78 (dk_at dksX0_dry_5 14 rfl rfl)
theorem dX0_dry_135 : decode cX0_dry 135 = .ok (.aload_n 0, 1) := dk_42 (dk_at dksX0_dry_5 15 rfl rfl)
theorem dX0_dry_136 : decode cX0_dry 136 = .ok (.aload_n 3, 1) := dk_45 (dk_at dksX0_dry_5 16 rfl rfl)
theorem dX0_dry_137 : decode cX0_dry 137 = .ok (.invokevirtual 109, 3) := dk_182 0 109 (dk_at dksX0_dry_5 17 rfl rfl)
theorem dX0_dry_140 : decode cX0_dry 140 = .ok (.ireturn, 1) := dk_172 (dk_at dksX0_dry_5 20 rfl rfl)
abbrev cX0_net : ByteArray := prog_1_method_46_code
def yX0_net : MethodName := ⟨RX0, "net", "()I"⟩
def dkwX0_net_7 : List UInt8 := [167, 255, 101, 28, 172, 76, 42, 43, 182, 0, 109, 172]
abbrev dktX0_net_7 : List UInt8 := dkwX0_net_7 ++ []
def dkwX0_net_6 : List UInt8 := [167, 0, 4, 3, 5, 182, 0, 100, 27, 4, 21, 4, 120, 128, 60, 28, 21, 5, 96, 61, 132, 3, 1]
abbrev dktX0_net_6 : List UInt8 := dkwX0_net_6 ++ dktX0_net_7
def dkwX0_net_5 : List UInt8 := [54, 5, 132, 7, 1, 167, 255, 168, 132, 6, 1, 167, 255, 152, 42, 21, 4, 2, 159, 0, 7, 4]
abbrev dktX0_net_5 : List UInt8 := dkwX0_net_5 ++ dktX0_net_6
def dkwX0_net_4 : List UInt8 := [153, 0, 8, 21, 7, 167, 0, 5, 21, 4, 54, 4, 21, 9, 153, 0, 8, 21, 8, 167, 0, 5, 21, 5]
abbrev dktX0_net_4 : List UInt8 := dkwX0_net_4 ++ dktX0_net_5
def dkwX0_net_3 : List UInt8 := [154, 0, 19, 21, 8, 158, 0, 14, 21, 8, 21, 5, 162, 0, 7, 4, 167, 0, 4, 3, 54, 9, 21, 9]
abbrev dktX0_net_3 : List UInt8 := dkwX0_net_3 ++ dktX0_net_4
def dkwX0_net_2 : List UInt8 := [21, 7, 182, 0, 117, 54, 8, 27, 21, 6, 184, 0, 247, 153, 0, 28, 27, 21, 7, 184, 0, 247]
abbrev dktX0_net_2 : List UInt8 := dkwX0_net_2 ++ dktX0_net_3
def dkwX0_net_1 : List UInt8 := [21, 6, 16, 8, 162, 0, 103, 3, 54, 7, 21, 7, 16, 8, 162, 0, 87, 42, 180, 0, 46, 21, 6]
abbrev dktX0_net_1 : List UInt8 := dkwX0_net_1 ++ dktX0_net_2
def dkwX0_net_0 : List UInt8 := [4, 60, 3, 61, 4, 62, 29, 16, 8, 162, 0, 155, 2, 54, 4, 19, 1, 17, 54, 5, 3, 54, 6]
abbrev dktX0_net_0 : List UInt8 := dkwX0_net_0 ++ dktX0_net_1
theorem dksX0_net_0 : cX0_net.data.toList.drop 0 = dktX0_net_0 := by decide +kernel
theorem dksX0_net_1 : cX0_net.data.toList.drop 23 = dktX0_net_1 := dk_seg dksX0_net_0 23 rfl rfl
theorem dksX0_net_2 : cX0_net.data.toList.drop 46 = dktX0_net_2 := dk_seg dksX0_net_1 23 rfl rfl
theorem dksX0_net_3 : cX0_net.data.toList.drop 68 = dktX0_net_3 := dk_seg dksX0_net_2 22 rfl rfl
theorem dksX0_net_4 : cX0_net.data.toList.drop 92 = dktX0_net_4 := dk_seg dksX0_net_3 24 rfl rfl
theorem dksX0_net_5 : cX0_net.data.toList.drop 116 = dktX0_net_5 := dk_seg dksX0_net_4 24 rfl rfl
theorem dksX0_net_6 : cX0_net.data.toList.drop 138 = dktX0_net_6 := dk_seg dksX0_net_5 22 rfl rfl
theorem dksX0_net_7 : cX0_net.data.toList.drop 161 = dktX0_net_7 := dk_seg dksX0_net_6 23 rfl rfl
theorem dX0_net_0 : decode cX0_net 0 = .ok (.iconst 1, 1) := dk_4 (dk_at dksX0_net_0 0 rfl rfl)
theorem dX0_net_1 : decode cX0_net 1 = .ok (.istore_n 1, 1) := dk_60 (dk_at dksX0_net_0 1 rfl rfl)
theorem dX0_net_2 : decode cX0_net 2 = .ok (.iconst 0, 1) := dk_3 (dk_at dksX0_net_0 2 rfl rfl)
theorem dX0_net_3 : decode cX0_net 3 = .ok (.istore_n 2, 1) := dk_61 (dk_at dksX0_net_0 3 rfl rfl)
theorem dX0_net_4 : decode cX0_net 4 = .ok (.iconst 1, 1) := dk_4 (dk_at dksX0_net_0 4 rfl rfl)
theorem dX0_net_5 : decode cX0_net 5 = .ok (.istore_n 3, 1) := dk_62 (dk_at dksX0_net_0 5 rfl rfl)
theorem dX0_net_6 : decode cX0_net 6 = .ok (.iload_n 3, 1) := dk_29 (dk_at dksX0_net_0 6 rfl rfl)
theorem dX0_net_7 : decode cX0_net 7 = .ok (.bipush 8, 2) := dk_16 8 (dk_at dksX0_net_0 7 rfl rfl)
theorem dX0_net_9 : decode cX0_net 9 = .ok (.if_icmp .ge 155, 3) := dk_162 0 155 (dk_at dksX0_net_0 9 rfl rfl)
theorem dX0_net_12 : decode cX0_net 12 = .ok (.iconst (-1), 1) := dk_2 (dk_at dksX0_net_0 12 rfl rfl)
theorem dX0_net_13 : decode cX0_net 13 = .ok (.istore 4, 2) := dk_54 4 (dk_at dksX0_net_0 13 rfl rfl)
theorem dX0_net_15 : decode cX0_net 15 = .ok (.ldc_w 273, 3) := dk_19 1 17 (dk_at dksX0_net_0 15 rfl rfl)
theorem dX0_net_18 : decode cX0_net 18 = .ok (.istore 5, 2) := dk_54 5 (dk_at dksX0_net_0 18 rfl rfl)
theorem dX0_net_20 : decode cX0_net 20 = .ok (.iconst 0, 1) := dk_3 (dk_at dksX0_net_0 20 rfl rfl)
theorem dX0_net_21 : decode cX0_net 21 = .ok (.istore 6, 2) := dk_54 6 (dk_at dksX0_net_0 21 rfl rfl)
theorem dX0_net_23 : decode cX0_net 23 = .ok (.iload 6, 2) := dk_21 6 (dk_at dksX0_net_1 0 rfl rfl)
theorem dX0_net_25 : decode cX0_net 25 = .ok (.bipush 8, 2) := dk_16 8 (dk_at dksX0_net_1 2 rfl rfl)
theorem dX0_net_27 : decode cX0_net 27 = .ok (.if_icmp .ge 103, 3) := dk_162 0 103 (dk_at dksX0_net_1 4 rfl rfl)
theorem dX0_net_30 : decode cX0_net 30 = .ok (.iconst 0, 1) := dk_3 (dk_at dksX0_net_1 7 rfl rfl)
theorem dX0_net_31 : decode cX0_net 31 = .ok (.istore 7, 2) := dk_54 7 (dk_at dksX0_net_1 8 rfl rfl)
theorem dX0_net_33 : decode cX0_net 33 = .ok (.iload 7, 2) := dk_21 7 (dk_at dksX0_net_1 10 rfl rfl)
theorem dX0_net_35 : decode cX0_net 35 = .ok (.bipush 8, 2) := dk_16 8 (dk_at dksX0_net_1 12 rfl rfl)
theorem dX0_net_37 : decode cX0_net 37 = .ok (.if_icmp .ge 87, 3) := dk_162 0 87 (dk_at dksX0_net_1 14 rfl rfl)
theorem dX0_net_40 : decode cX0_net 40 = .ok (.aload_n 0, 1) := dk_42 (dk_at dksX0_net_1 17 rfl rfl)
theorem dX0_net_41 : decode cX0_net 41 = .ok (.getfield 46, 3) := dk_180 0 46 (dk_at dksX0_net_1 18 rfl rfl)
theorem dX0_net_44 : decode cX0_net 44 = .ok (.iload 6, 2) := dk_21 6 (dk_at dksX0_net_1 21 rfl rfl)
theorem dX0_net_46 : decode cX0_net 46 = .ok (.iload 7, 2) := dk_21 7 (dk_at dksX0_net_2 0 rfl rfl)
theorem dX0_net_48 : decode cX0_net 48 = .ok (.invokevirtual 117, 3) := dk_182 0 117 (dk_at dksX0_net_2 2 rfl rfl)
theorem dX0_net_51 : decode cX0_net 51 = .ok (.istore 8, 2) := dk_54 8 (dk_at dksX0_net_2 5 rfl rfl)
theorem dX0_net_53 : decode cX0_net 53 = .ok (.iload_n 1, 1) := dk_27 (dk_at dksX0_net_2 7 rfl rfl)
theorem dX0_net_54 : decode cX0_net 54 = .ok (.iload 6, 2) := dk_21 6 (dk_at dksX0_net_2 8 rfl rfl)
theorem dX0_net_56 : decode cX0_net 56 = .ok (.invokestatic 247, 3) := dk_184 0 247 (dk_at dksX0_net_2 10 rfl rfl)
theorem dX0_net_59 : decode cX0_net 59 = .ok (.ifCond .eq 28, 3) := dk_153 0 28 (dk_at dksX0_net_2 13 rfl rfl)
theorem dX0_net_62 : decode cX0_net 62 = .ok (.iload_n 1, 1) := dk_27 (dk_at dksX0_net_2 16 rfl rfl)
theorem dX0_net_63 : decode cX0_net 63 = .ok (.iload 7, 2) := dk_21 7 (dk_at dksX0_net_2 17 rfl rfl)
theorem dX0_net_65 : decode cX0_net 65 = .ok (.invokestatic 247, 3) := dk_184 0 247 (dk_at dksX0_net_2 19 rfl rfl)
theorem dX0_net_68 : decode cX0_net 68 = .ok (.ifCond .ne 19, 3) := dk_154 0 19 (dk_at dksX0_net_3 0 rfl rfl)
theorem dX0_net_71 : decode cX0_net 71 = .ok (.iload 8, 2) := dk_21 8 (dk_at dksX0_net_3 3 rfl rfl)
theorem dX0_net_73 : decode cX0_net 73 = .ok (.ifCond .le 14, 3) := dk_158 0 14 (dk_at dksX0_net_3 5 rfl rfl)
theorem dX0_net_76 : decode cX0_net 76 = .ok (.iload 8, 2) := dk_21 8 (dk_at dksX0_net_3 8 rfl rfl)
theorem dX0_net_78 : decode cX0_net 78 = .ok (.iload 5, 2) := dk_21 5 (dk_at dksX0_net_3 10 rfl rfl)
theorem dX0_net_80 : decode cX0_net 80 = .ok (.if_icmp .ge 7, 3) := dk_162 0 7 (dk_at dksX0_net_3 12 rfl rfl)
theorem dX0_net_83 : decode cX0_net 83 = .ok (.iconst 1, 1) := dk_4 (dk_at dksX0_net_3 15 rfl rfl)
theorem dX0_net_84 : decode cX0_net 84 = .ok (.goto 4, 3) := dk_167 0 4 (dk_at dksX0_net_3 16 rfl rfl)
theorem dX0_net_87 : decode cX0_net 87 = .ok (.iconst 0, 1) := dk_3 (dk_at dksX0_net_3 19 rfl rfl)
theorem dX0_net_88 : decode cX0_net 88 = .ok (.istore 9, 2) := dk_54 9 (dk_at dksX0_net_3 20 rfl rfl)
theorem dX0_net_90 : decode cX0_net 90 = .ok (.iload 9, 2) := dk_21 9 (dk_at dksX0_net_3 22 rfl rfl)
theorem dX0_net_92 : decode cX0_net 92 = .ok (.ifCond .eq 8, 3) := dk_153 0 8 (dk_at dksX0_net_4 0 rfl rfl)
theorem dX0_net_95 : decode cX0_net 95 = .ok (.iload 7, 2) := dk_21 7 (dk_at dksX0_net_4 3 rfl rfl)
theorem dX0_net_97 : decode cX0_net 97 = .ok (.goto 5, 3) := dk_167 0 5 (dk_at dksX0_net_4 5 rfl rfl)
theorem dX0_net_100 : decode cX0_net 100 = .ok (.iload 4, 2) := dk_21 4 (dk_at dksX0_net_4 8 rfl rfl)
theorem dX0_net_102 : decode cX0_net 102 = .ok (.istore 4, 2) := dk_54 4 (dk_at dksX0_net_4 10 rfl rfl)
theorem dX0_net_104 : decode cX0_net 104 = .ok (.iload 9, 2) := dk_21 9 (dk_at dksX0_net_4 12 rfl rfl)
theorem dX0_net_106 : decode cX0_net 106 = .ok (.ifCond .eq 8, 3) := dk_153 0 8 (dk_at dksX0_net_4 14 rfl rfl)
theorem dX0_net_109 : decode cX0_net 109 = .ok (.iload 8, 2) := dk_21 8 (dk_at dksX0_net_4 17 rfl rfl)
theorem dX0_net_111 : decode cX0_net 111 = .ok (.goto 5, 3) := dk_167 0 5 (dk_at dksX0_net_4 19 rfl rfl)
theorem dX0_net_114 : decode cX0_net 114 = .ok (.iload 5, 2) := dk_21 5 (dk_at dksX0_net_4 22 rfl rfl)
theorem dX0_net_116 : decode cX0_net 116 = .ok (.istore 5, 2) := dk_54 5 (dk_at dksX0_net_5 0 rfl rfl)
theorem dX0_net_118 : decode cX0_net 118 = .ok (.iinc 7 1, 3) := dk_132 7 1 (dk_at dksX0_net_5 2 rfl rfl)
theorem dX0_net_121 : decode cX0_net 121 = .ok (.goto (-88), 3) := dk_167 255 168 (dk_at dksX0_net_5 5 rfl rfl)
theorem dX0_net_124 : decode cX0_net 124 = .ok (.iinc 6 1, 3) := dk_132 6 1 (dk_at dksX0_net_5 8 rfl rfl)
theorem dX0_net_127 : decode cX0_net 127 = .ok (.goto (-104), 3) := dk_167 255 152 (dk_at dksX0_net_5 11 rfl rfl)
theorem dX0_net_130 : decode cX0_net 130 = .ok (.aload_n 0, 1) := dk_42 (dk_at dksX0_net_5 14 rfl rfl)
theorem dX0_net_131 : decode cX0_net 131 = .ok (.iload 4, 2) := dk_21 4 (dk_at dksX0_net_5 15 rfl rfl)
theorem dX0_net_133 : decode cX0_net 133 = .ok (.iconst (-1), 1) := dk_2 (dk_at dksX0_net_5 17 rfl rfl)
theorem dX0_net_134 : decode cX0_net 134 = .ok (.if_icmp .eq 7, 3) := dk_159 0 7 (dk_at dksX0_net_5 18 rfl rfl)
theorem dX0_net_137 : decode cX0_net 137 = .ok (.iconst 1, 1) := dk_4 (dk_at dksX0_net_5 21 rfl rfl)
theorem dX0_net_138 : decode cX0_net 138 = .ok (.goto 4, 3) := dk_167 0 4 (dk_at dksX0_net_6 0 rfl rfl)
theorem dX0_net_141 : decode cX0_net 141 = .ok (.iconst 0, 1) := dk_3 (dk_at dksX0_net_6 3 rfl rfl)
theorem dX0_net_142 : decode cX0_net 142 = .ok (.iconst 2, 1) := dk_5 (dk_at dksX0_net_6 4 rfl rfl)
theorem dX0_net_143 : decode cX0_net 143 = .ok (.invokevirtual 100, 3) := dk_182 0 100 (dk_at dksX0_net_6 5 rfl rfl)
theorem dX0_net_146 : decode cX0_net 146 = .ok (.iload_n 1, 1) := dk_27 (dk_at dksX0_net_6 8 rfl rfl)
theorem dX0_net_147 : decode cX0_net 147 = .ok (.iconst 1, 1) := dk_4 (dk_at dksX0_net_6 9 rfl rfl)
theorem dX0_net_148 : decode cX0_net 148 = .ok (.iload 4, 2) := dk_21 4 (dk_at dksX0_net_6 10 rfl rfl)
theorem dX0_net_150 : decode cX0_net 150 = .ok (.ishl, 1) := dk_120 (dk_at dksX0_net_6 12 rfl rfl)
theorem dX0_net_151 : decode cX0_net 151 = .ok (.ior, 1) := dk_128 (dk_at dksX0_net_6 13 rfl rfl)
theorem dX0_net_152 : decode cX0_net 152 = .ok (.istore_n 1, 1) := dk_60 (dk_at dksX0_net_6 14 rfl rfl)
theorem dX0_net_153 : decode cX0_net 153 = .ok (.iload_n 2, 1) := dk_28 (dk_at dksX0_net_6 15 rfl rfl)
theorem dX0_net_154 : decode cX0_net 154 = .ok (.iload 5, 2) := dk_21 5 (dk_at dksX0_net_6 16 rfl rfl)
theorem dX0_net_156 : decode cX0_net 156 = .ok (.iadd, 1) := dk_96 (dk_at dksX0_net_6 18 rfl rfl)
theorem dX0_net_157 : decode cX0_net 157 = .ok (.istore_n 2, 1) := dk_61 (dk_at dksX0_net_6 19 rfl rfl)
theorem dX0_net_158 : decode cX0_net 158 = .ok (.iinc 3 1, 3) := dk_132 3 1 (dk_at dksX0_net_6 20 rfl rfl)
theorem dX0_net_161 : decode cX0_net 161 = .ok (.goto (-155), 3) := dk_167 255 101 (dk_at dksX0_net_7 0 rfl rfl)
theorem dX0_net_164 : decode cX0_net 164 = .ok (.iload_n 2, 1) := dk_28 (dk_at dksX0_net_7 3 rfl rfl)
theorem dX0_net_165 : decode cX0_net 165 = .ok (.ireturn, 1) := dk_172 (dk_at dksX0_net_7 4 rfl rfl)
theorem dX0_net_166 : decode cX0_net 166 = .ok (.astore_n 1, 1) := dk_76 (dk_at dksX0_net_7 5 rfl rfl)
theorem dX0_net_167 : decode cX0_net 167 = .ok (.aload_n 0, 1) := dk_42 (dk_at dksX0_net_7 6 rfl rfl)
theorem dX0_net_168 : decode cX0_net 168 = .ok (.aload_n 1, 1) := dk_43 (dk_at dksX0_net_7 7 rfl rfl)
theorem dX0_net_169 : decode cX0_net 169 = .ok (.invokevirtual 109, 3) := dk_182 0 109 (dk_at dksX0_net_7 8 rfl rfl)
theorem dX0_net_172 : decode cX0_net 172 = .ok (.ireturn, 1) := dk_172 (dk_at dksX0_net_7 11 rfl rfl)
abbrev cX0_shortest : ByteArray := prog_1_method_47_code
def yX0_shortest : MethodName := ⟨RX0, "shortest", "(II)I"⟩
def dkwX0_shortest_8 : List UInt8 := [42, 45, 182, 0, 109, 172]
abbrev dktX0_shortest_8 : List UInt8 := dkwX0_shortest_8 ++ []
def dkwX0_shortest_7 : List UInt8 := [46, 19, 1, 17, 162, 0, 7, 4, 167, 0, 4, 3, 5, 182, 0, 100, 42, 180, 0, 76, 28, 46, 172, 78]
abbrev dktX0_shortest_7 : List UInt8 := dkwX0_shortest_7 ++ dktX0_shortest_8
def dkwX0_shortest_6 : List UInt8 := [132, 5, 1, 167, 255, 191, 132, 4, 1, 167, 255, 175, 132, 3, 1, 167, 255, 160, 42, 42, 180, 0, 76, 28]
abbrev dktX0_shortest_6 : List UInt8 := dkwX0_shortest_6 ++ dktX0_shortest_7
def dkwX0_shortest_5 : List UInt8 := [180, 0, 76, 21, 4, 46, 21, 6, 96, 184, 0, 253, 167, 0, 10, 42, 180, 0, 76, 21, 5, 46, 79]
abbrev dktX0_shortest_5 : List UInt8 := dkwX0_shortest_5 ++ dktX0_shortest_6
def dkwX0_shortest_4 : List UInt8 := [182, 0, 117, 54, 6, 42, 180, 0, 76, 21, 5, 21, 6, 158, 0, 26, 42, 180, 0, 76, 21, 5, 46, 42]
abbrev dktX0_shortest_4 : List UInt8 := dkwX0_shortest_4 ++ dktX0_shortest_5
def dkwX0_shortest_3 : List UInt8 := [16, 8, 162, 0, 80, 3, 54, 5, 21, 5, 16, 8, 162, 0, 64, 42, 180, 0, 46, 21, 4, 21, 5]
abbrev dktX0_shortest_3 : List UInt8 := dkwX0_shortest_3 ++ dktX0_shortest_4
def dkwX0_shortest_2 : List UInt8 := [19, 1, 17, 79, 132, 3, 1, 167, 255, 229, 4, 62, 29, 16, 8, 162, 0, 96, 3, 54, 4, 21, 4]
abbrev dktX0_shortest_2 : List UInt8 := dkwX0_shortest_2 ++ dktX0_shortest_3
def dkwX0_shortest_1 : List UInt8 := [3, 62, 29, 16, 8, 162, 0, 27, 42, 180, 0, 76, 29, 29, 27, 160, 0, 7, 3, 167, 0, 6]
abbrev dktX0_shortest_1 : List UInt8 := dkwX0_shortest_1 ++ dktX0_shortest_2
def dkwX0_shortest_0 : List UInt8 := [42, 27, 184, 0, 89, 153, 0, 14, 28, 184, 0, 89, 153, 0, 7, 4, 167, 0, 4, 3, 4, 182, 0, 100]
abbrev dktX0_shortest_0 : List UInt8 := dkwX0_shortest_0 ++ dktX0_shortest_1
theorem dksX0_shortest_0 : cX0_shortest.data.toList.drop 0 = dktX0_shortest_0 := by decide +kernel
theorem dksX0_shortest_1 : cX0_shortest.data.toList.drop 24 = dktX0_shortest_1 := dk_seg dksX0_shortest_0 24 rfl rfl
theorem dksX0_shortest_2 : cX0_shortest.data.toList.drop 46 = dktX0_shortest_2 := dk_seg dksX0_shortest_1 22 rfl rfl
theorem dksX0_shortest_3 : cX0_shortest.data.toList.drop 69 = dktX0_shortest_3 := dk_seg dksX0_shortest_2 23 rfl rfl
theorem dksX0_shortest_4 : cX0_shortest.data.toList.drop 92 = dktX0_shortest_4 := dk_seg dksX0_shortest_3 23 rfl rfl
theorem dksX0_shortest_5 : cX0_shortest.data.toList.drop 116 = dktX0_shortest_5 := dk_seg dksX0_shortest_4 24 rfl rfl
theorem dksX0_shortest_6 : cX0_shortest.data.toList.drop 139 = dktX0_shortest_6 := dk_seg dksX0_shortest_5 23 rfl rfl
theorem dksX0_shortest_7 : cX0_shortest.data.toList.drop 163 = dktX0_shortest_7 := dk_seg dksX0_shortest_6 24 rfl rfl
theorem dksX0_shortest_8 : cX0_shortest.data.toList.drop 187 = dktX0_shortest_8 := dk_seg dksX0_shortest_7 24 rfl rfl
theorem dX0_shortest_0 : decode cX0_shortest 0 = .ok (.aload_n 0, 1) := dk_42 (dk_at dksX0_shortest_0 0 rfl rfl)
theorem dX0_shortest_1 : decode cX0_shortest 1 = .ok (.iload_n 1, 1) := dk_27 (dk_at dksX0_shortest_0 1 rfl rfl)
theorem dX0_shortest_2 : decode cX0_shortest 2 = .ok (.invokestatic 89, 3) := dk_184 0 89 (dk_at dksX0_shortest_0 2 rfl rfl)
theorem dX0_shortest_5 : decode cX0_shortest 5 = .ok (.ifCond .eq 14, 3) := dk_153 0 14 (dk_at dksX0_shortest_0 5 rfl rfl)
theorem dX0_shortest_8 : decode cX0_shortest 8 = .ok (.iload_n 2, 1) := dk_28 (dk_at dksX0_shortest_0 8 rfl rfl)
theorem dX0_shortest_9 : decode cX0_shortest 9 = .ok (.invokestatic 89, 3) := dk_184 0 89 (dk_at dksX0_shortest_0 9 rfl rfl)
theorem dX0_shortest_12 : decode cX0_shortest 12 = .ok (.ifCond .eq 7, 3) := dk_153 0 7 (dk_at dksX0_shortest_0 12 rfl rfl)
theorem dX0_shortest_15 : decode cX0_shortest 15 = .ok (.iconst 1, 1) := dk_4 (dk_at dksX0_shortest_0 15 rfl rfl)
theorem dX0_shortest_16 : decode cX0_shortest 16 = .ok (.goto 4, 3) := dk_167 0 4 (dk_at dksX0_shortest_0 16 rfl rfl)
theorem dX0_shortest_19 : decode cX0_shortest 19 = .ok (.iconst 0, 1) := dk_3 (dk_at dksX0_shortest_0 19 rfl rfl)
theorem dX0_shortest_20 : decode cX0_shortest 20 = .ok (.iconst 1, 1) := dk_4 (dk_at dksX0_shortest_0 20 rfl rfl)
theorem dX0_shortest_21 : decode cX0_shortest 21 = .ok (.invokevirtual 100, 3) := dk_182 0 100 (dk_at dksX0_shortest_0 21 rfl rfl)
theorem dX0_shortest_24 : decode cX0_shortest 24 = .ok (.iconst 0, 1) := dk_3 (dk_at dksX0_shortest_1 0 rfl rfl)
theorem dX0_shortest_25 : decode cX0_shortest 25 = .ok (.istore_n 3, 1) := dk_62 (dk_at dksX0_shortest_1 1 rfl rfl)
theorem dX0_shortest_26 : decode cX0_shortest 26 = .ok (.iload_n 3, 1) := dk_29 (dk_at dksX0_shortest_1 2 rfl rfl)
theorem dX0_shortest_27 : decode cX0_shortest 27 = .ok (.bipush 8, 2) := dk_16 8 (dk_at dksX0_shortest_1 3 rfl rfl)
theorem dX0_shortest_29 : decode cX0_shortest 29 = .ok (.if_icmp .ge 27, 3) := dk_162 0 27 (dk_at dksX0_shortest_1 5 rfl rfl)
theorem dX0_shortest_32 : decode cX0_shortest 32 = .ok (.aload_n 0, 1) := dk_42 (dk_at dksX0_shortest_1 8 rfl rfl)
theorem dX0_shortest_33 : decode cX0_shortest 33 = .ok (.getfield 76, 3) := dk_180 0 76 (dk_at dksX0_shortest_1 9 rfl rfl)
theorem dX0_shortest_36 : decode cX0_shortest 36 = .ok (.iload_n 3, 1) := dk_29 (dk_at dksX0_shortest_1 12 rfl rfl)
theorem dX0_shortest_37 : decode cX0_shortest 37 = .ok (.iload_n 3, 1) := dk_29 (dk_at dksX0_shortest_1 13 rfl rfl)
theorem dX0_shortest_38 : decode cX0_shortest 38 = .ok (.iload_n 1, 1) := dk_27 (dk_at dksX0_shortest_1 14 rfl rfl)
theorem dX0_shortest_39 : decode cX0_shortest 39 = .ok (.if_icmp .ne 7, 3) := dk_160 0 7 (dk_at dksX0_shortest_1 15 rfl rfl)
theorem dX0_shortest_42 : decode cX0_shortest 42 = .ok (.iconst 0, 1) := dk_3 (dk_at dksX0_shortest_1 18 rfl rfl)
theorem dX0_shortest_43 : decode cX0_shortest 43 = .ok (.goto 6, 3) := dk_167 0 6 (dk_at dksX0_shortest_1 19 rfl rfl)
theorem dX0_shortest_46 : decode cX0_shortest 46 = .ok (.ldc_w 273, 3) := dk_19 1 17 (dk_at dksX0_shortest_2 0 rfl rfl)
theorem dX0_shortest_49 : decode cX0_shortest 49 = .ok (.iastore, 1) := dk_79 (dk_at dksX0_shortest_2 3 rfl rfl)
theorem dX0_shortest_50 : decode cX0_shortest 50 = .ok (.iinc 3 1, 3) := dk_132 3 1 (dk_at dksX0_shortest_2 4 rfl rfl)
theorem dX0_shortest_53 : decode cX0_shortest 53 = .ok (.goto (-27), 3) := dk_167 255 229 (dk_at dksX0_shortest_2 7 rfl rfl)
theorem dX0_shortest_56 : decode cX0_shortest 56 = .ok (.iconst 1, 1) := dk_4 (dk_at dksX0_shortest_2 10 rfl rfl)
theorem dX0_shortest_57 : decode cX0_shortest 57 = .ok (.istore_n 3, 1) := dk_62 (dk_at dksX0_shortest_2 11 rfl rfl)
theorem dX0_shortest_58 : decode cX0_shortest 58 = .ok (.iload_n 3, 1) := dk_29 (dk_at dksX0_shortest_2 12 rfl rfl)
theorem dX0_shortest_59 : decode cX0_shortest 59 = .ok (.bipush 8, 2) := dk_16 8 (dk_at dksX0_shortest_2 13 rfl rfl)
theorem dX0_shortest_61 : decode cX0_shortest 61 = .ok (.if_icmp .ge 96, 3) := dk_162 0 96 (dk_at dksX0_shortest_2 15 rfl rfl)
theorem dX0_shortest_64 : decode cX0_shortest 64 = .ok (.iconst 0, 1) := dk_3 (dk_at dksX0_shortest_2 18 rfl rfl)
theorem dX0_shortest_65 : decode cX0_shortest 65 = .ok (.istore 4, 2) := dk_54 4 (dk_at dksX0_shortest_2 19 rfl rfl)
theorem dX0_shortest_67 : decode cX0_shortest 67 = .ok (.iload 4, 2) := dk_21 4 (dk_at dksX0_shortest_2 21 rfl rfl)
theorem dX0_shortest_69 : decode cX0_shortest 69 = .ok (.bipush 8, 2) := dk_16 8 (dk_at dksX0_shortest_3 0 rfl rfl)
theorem dX0_shortest_71 : decode cX0_shortest 71 = .ok (.if_icmp .ge 80, 3) := dk_162 0 80 (dk_at dksX0_shortest_3 2 rfl rfl)
theorem dX0_shortest_74 : decode cX0_shortest 74 = .ok (.iconst 0, 1) := dk_3 (dk_at dksX0_shortest_3 5 rfl rfl)
theorem dX0_shortest_75 : decode cX0_shortest 75 = .ok (.istore 5, 2) := dk_54 5 (dk_at dksX0_shortest_3 6 rfl rfl)
theorem dX0_shortest_77 : decode cX0_shortest 77 = .ok (.iload 5, 2) := dk_21 5 (dk_at dksX0_shortest_3 8 rfl rfl)
theorem dX0_shortest_79 : decode cX0_shortest 79 = .ok (.bipush 8, 2) := dk_16 8 (dk_at dksX0_shortest_3 10 rfl rfl)
theorem dX0_shortest_81 : decode cX0_shortest 81 = .ok (.if_icmp .ge 64, 3) := dk_162 0 64 (dk_at dksX0_shortest_3 12 rfl rfl)
theorem dX0_shortest_84 : decode cX0_shortest 84 = .ok (.aload_n 0, 1) := dk_42 (dk_at dksX0_shortest_3 15 rfl rfl)
theorem dX0_shortest_85 : decode cX0_shortest 85 = .ok (.getfield 46, 3) := dk_180 0 46 (dk_at dksX0_shortest_3 16 rfl rfl)
theorem dX0_shortest_88 : decode cX0_shortest 88 = .ok (.iload 4, 2) := dk_21 4 (dk_at dksX0_shortest_3 19 rfl rfl)
theorem dX0_shortest_90 : decode cX0_shortest 90 = .ok (.iload 5, 2) := dk_21 5 (dk_at dksX0_shortest_3 21 rfl rfl)
theorem dX0_shortest_92 : decode cX0_shortest 92 = .ok (.invokevirtual 117, 3) := dk_182 0 117 (dk_at dksX0_shortest_4 0 rfl rfl)
theorem dX0_shortest_95 : decode cX0_shortest 95 = .ok (.istore 6, 2) := dk_54 6 (dk_at dksX0_shortest_4 3 rfl rfl)
theorem dX0_shortest_97 : decode cX0_shortest 97 = .ok (.aload_n 0, 1) := dk_42 (dk_at dksX0_shortest_4 5 rfl rfl)
theorem dX0_shortest_98 : decode cX0_shortest 98 = .ok (.getfield 76, 3) := dk_180 0 76 (dk_at dksX0_shortest_4 6 rfl rfl)
theorem dX0_shortest_101 : decode cX0_shortest 101 = .ok (.iload 5, 2) := dk_21 5 (dk_at dksX0_shortest_4 9 rfl rfl)
theorem dX0_shortest_103 : decode cX0_shortest 103 = .ok (.iload 6, 2) := dk_21 6 (dk_at dksX0_shortest_4 11 rfl rfl)
theorem dX0_shortest_105 : decode cX0_shortest 105 = .ok (.ifCond .le 26, 3) := dk_158 0 26 (dk_at dksX0_shortest_4 13 rfl rfl)
theorem dX0_shortest_108 : decode cX0_shortest 108 = .ok (.aload_n 0, 1) := dk_42 (dk_at dksX0_shortest_4 16 rfl rfl)
theorem dX0_shortest_109 : decode cX0_shortest 109 = .ok (.getfield 76, 3) := dk_180 0 76 (dk_at dksX0_shortest_4 17 rfl rfl)
theorem dX0_shortest_112 : decode cX0_shortest 112 = .ok (.iload 5, 2) := dk_21 5 (dk_at dksX0_shortest_4 20 rfl rfl)
theorem dX0_shortest_114 : decode cX0_shortest 114 = .ok (.iaload, 1) := dk_46 (dk_at dksX0_shortest_4 22 rfl rfl)
theorem dX0_shortest_115 : decode cX0_shortest 115 = .ok (.aload_n 0, 1) := dk_42 (dk_at dksX0_shortest_4 23 rfl rfl)
theorem dX0_shortest_116 : decode cX0_shortest 116 = .ok (.getfield 76, 3) := dk_180 0 76 (dk_at dksX0_shortest_5 0 rfl rfl)
theorem dX0_shortest_119 : decode cX0_shortest 119 = .ok (.iload 4, 2) := dk_21 4 (dk_at dksX0_shortest_5 3 rfl rfl)
theorem dX0_shortest_121 : decode cX0_shortest 121 = .ok (.iaload, 1) := dk_46 (dk_at dksX0_shortest_5 5 rfl rfl)
theorem dX0_shortest_122 : decode cX0_shortest 122 = .ok (.iload 6, 2) := dk_21 6 (dk_at dksX0_shortest_5 6 rfl rfl)
theorem dX0_shortest_124 : decode cX0_shortest 124 = .ok (.iadd, 1) := dk_96 (dk_at dksX0_shortest_5 8 rfl rfl)
theorem dX0_shortest_125 : decode cX0_shortest 125 = .ok (.invokestatic 253, 3) := dk_184 0 253 (dk_at dksX0_shortest_5 9 rfl rfl)
theorem dX0_shortest_128 : decode cX0_shortest 128 = .ok (.goto 10, 3) := dk_167 0 10 (dk_at dksX0_shortest_5 12 rfl rfl)
theorem dX0_shortest_131 : decode cX0_shortest 131 = .ok (.aload_n 0, 1) := dk_42 (dk_at dksX0_shortest_5 15 rfl rfl)
theorem dX0_shortest_132 : decode cX0_shortest 132 = .ok (.getfield 76, 3) := dk_180 0 76 (dk_at dksX0_shortest_5 16 rfl rfl)
theorem dX0_shortest_135 : decode cX0_shortest 135 = .ok (.iload 5, 2) := dk_21 5 (dk_at dksX0_shortest_5 19 rfl rfl)
theorem dX0_shortest_137 : decode cX0_shortest 137 = .ok (.iaload, 1) := dk_46 (dk_at dksX0_shortest_5 21 rfl rfl)
theorem dX0_shortest_138 : decode cX0_shortest 138 = .ok (.iastore, 1) := dk_79 (dk_at dksX0_shortest_5 22 rfl rfl)
theorem dX0_shortest_139 : decode cX0_shortest 139 = .ok (.iinc 5 1, 3) := dk_132 5 1 (dk_at dksX0_shortest_6 0 rfl rfl)
theorem dX0_shortest_142 : decode cX0_shortest 142 = .ok (.goto (-65), 3) := dk_167 255 191 (dk_at dksX0_shortest_6 3 rfl rfl)
theorem dX0_shortest_145 : decode cX0_shortest 145 = .ok (.iinc 4 1, 3) := dk_132 4 1 (dk_at dksX0_shortest_6 6 rfl rfl)
theorem dX0_shortest_148 : decode cX0_shortest 148 = .ok (.goto (-81), 3) := dk_167 255 175 (dk_at dksX0_shortest_6 9 rfl rfl)
theorem dX0_shortest_151 : decode cX0_shortest 151 = .ok (.iinc 3 1, 3) := dk_132 3 1 (dk_at dksX0_shortest_6 12 rfl rfl)
theorem dX0_shortest_154 : decode cX0_shortest 154 = .ok (.goto (-96), 3) := dk_167 255 160 (dk_at dksX0_shortest_6 15 rfl rfl)
theorem dX0_shortest_157 : decode cX0_shortest 157 = .ok (.aload_n 0, 1) := dk_42 (dk_at dksX0_shortest_6 18 rfl rfl)
theorem dX0_shortest_158 : decode cX0_shortest 158 = .ok (.aload_n 0, 1) := dk_42 (dk_at dksX0_shortest_6 19 rfl rfl)
theorem dX0_shortest_159 : decode cX0_shortest 159 = .ok (.getfield 76, 3) := dk_180 0 76 (dk_at dksX0_shortest_6 20 rfl rfl)
theorem dX0_shortest_162 : decode cX0_shortest 162 = .ok (.iload_n 2, 1) := dk_28 (dk_at dksX0_shortest_6 23 rfl rfl)
theorem dX0_shortest_163 : decode cX0_shortest 163 = .ok (.iaload, 1) := dk_46 (dk_at dksX0_shortest_7 0 rfl rfl)
theorem dX0_shortest_164 : decode cX0_shortest 164 = .ok (.ldc_w 273, 3) := dk_19 1 17 (dk_at dksX0_shortest_7 1 rfl rfl)
theorem dX0_shortest_167 : decode cX0_shortest 167 = .ok (.if_icmp .ge 7, 3) := dk_162 0 7 (dk_at dksX0_shortest_7 4 rfl rfl)
theorem dX0_shortest_170 : decode cX0_shortest 170 = .ok (.iconst 1, 1) := dk_4 (dk_at dksX0_shortest_7 7 rfl rfl)
theorem dX0_shortest_171 : decode cX0_shortest 171 = .ok (.goto 4, 3) := dk_167 0 4 (dk_at dksX0_shortest_7 8 rfl rfl)
theorem dX0_shortest_174 : decode cX0_shortest 174 = .ok (.iconst 0, 1) := dk_3 (dk_at dksX0_shortest_7 11 rfl rfl)
theorem dX0_shortest_175 : decode cX0_shortest 175 = .ok (.iconst 2, 1) := dk_5 (dk_at dksX0_shortest_7 12 rfl rfl)
theorem dX0_shortest_176 : decode cX0_shortest 176 = .ok (.invokevirtual 100, 3) := dk_182 0 100 (dk_at dksX0_shortest_7 13 rfl rfl)
theorem dX0_shortest_179 : decode cX0_shortest 179 = .ok (.aload_n 0, 1) := dk_42 (dk_at dksX0_shortest_7 16 rfl rfl)
theorem dX0_shortest_180 : decode cX0_shortest 180 = .ok (.getfield 76, 3) := dk_180 0 76 (dk_at dksX0_shortest_7 17 rfl rfl)
theorem dX0_shortest_183 : decode cX0_shortest 183 = .ok (.iload_n 2, 1) := dk_28 (dk_at dksX0_shortest_7 20 rfl rfl)
theorem dX0_shortest_184 : decode cX0_shortest 184 = .ok (.iaload, 1) := dk_46 (dk_at dksX0_shortest_7 21 rfl rfl)
theorem dX0_shortest_185 : decode cX0_shortest 185 = .ok (.ireturn, 1) := dk_172 (dk_at dksX0_shortest_7 22 rfl rfl)
theorem dX0_shortest_186 : decode cX0_shortest 186 = .ok (.astore_n 3, 1) := dk_78 (dk_at dksX0_shortest_7 23 rfl rfl)
theorem dX0_shortest_187 : decode cX0_shortest 187 = .ok (.aload_n 0, 1) := dk_42 (dk_at dksX0_shortest_8 0 rfl rfl)
theorem dX0_shortest_188 : decode cX0_shortest 188 = .ok (.aload_n 3, 1) := dk_45 (dk_at dksX0_shortest_8 1 rfl rfl)
theorem dX0_shortest_189 : decode cX0_shortest 189 = .ok (.invokevirtual 109, 3) := dk_182 0 109 (dk_at dksX0_shortest_8 2 rfl rfl)
theorem dX0_shortest_192 : decode cX0_shortest 192 = .ok (.ireturn, 1) := dk_172 (dk_at dksX0_shortest_8 5 rfl rfl)
abbrev cX0_walked : ByteArray := prog_1_method_49_code
def yX0_walked : MethodName := ⟨RX0, "walked", "(I)I"⟩
def dkwX0_walked_2 : List UInt8 := [182, 1, 50, 182, 0, 117, 96, 62, 132, 4, 1, 167, 255, 220, 29, 172, 77, 42, 44, 182, 0, 109, 172]
abbrev dktX0_walked_2 : List UInt8 := dkwX0_walked_2 ++ []
def dkwX0_walked_1 : List UInt8 := [182, 1, 47, 162, 0, 33, 29, 42, 180, 0, 46, 44, 21, 4, 4, 100, 182, 1, 50, 44, 21, 4]
abbrev dktX0_walked_1 : List UInt8 := dkwX0_walked_1 ++ dktX0_walked_2
def dkwX0_walked_0 : List UInt8 := [42, 27, 184, 1, 53, 4, 182, 0, 100, 42, 27, 182, 1, 56, 77, 3, 62, 4, 54, 4, 21, 4, 44]
abbrev dktX0_walked_0 : List UInt8 := dkwX0_walked_0 ++ dktX0_walked_1
theorem dksX0_walked_0 : cX0_walked.data.toList.drop 0 = dktX0_walked_0 := by decide +kernel
theorem dksX0_walked_1 : cX0_walked.data.toList.drop 23 = dktX0_walked_1 := dk_seg dksX0_walked_0 23 rfl rfl
theorem dksX0_walked_2 : cX0_walked.data.toList.drop 45 = dktX0_walked_2 := dk_seg dksX0_walked_1 22 rfl rfl
theorem dX0_walked_0 : decode cX0_walked 0 = .ok (.aload_n 0, 1) := dk_42 (dk_at dksX0_walked_0 0 rfl rfl)
theorem dX0_walked_1 : decode cX0_walked 1 = .ok (.iload_n 1, 1) := dk_27 (dk_at dksX0_walked_0 1 rfl rfl)
theorem dX0_walked_2 : decode cX0_walked 2 = .ok (.invokestatic 309, 3) := dk_184 1 53 (dk_at dksX0_walked_0 2 rfl rfl)
theorem dX0_walked_5 : decode cX0_walked 5 = .ok (.iconst 1, 1) := dk_4 (dk_at dksX0_walked_0 5 rfl rfl)
theorem dX0_walked_6 : decode cX0_walked 6 = .ok (.invokevirtual 100, 3) := dk_182 0 100 (dk_at dksX0_walked_0 6 rfl rfl)
theorem dX0_walked_9 : decode cX0_walked 9 = .ok (.aload_n 0, 1) := dk_42 (dk_at dksX0_walked_0 9 rfl rfl)
theorem dX0_walked_10 : decode cX0_walked 10 = .ok (.iload_n 1, 1) := dk_27 (dk_at dksX0_walked_0 10 rfl rfl)
theorem dX0_walked_11 : decode cX0_walked 11 = .ok (.invokevirtual 312, 3) := dk_182 1 56 (dk_at dksX0_walked_0 11 rfl rfl)
theorem dX0_walked_14 : decode cX0_walked 14 = .ok (.astore_n 2, 1) := dk_77 (dk_at dksX0_walked_0 14 rfl rfl)
theorem dX0_walked_15 : decode cX0_walked 15 = .ok (.iconst 0, 1) := dk_3 (dk_at dksX0_walked_0 15 rfl rfl)
theorem dX0_walked_16 : decode cX0_walked 16 = .ok (.istore_n 3, 1) := dk_62 (dk_at dksX0_walked_0 16 rfl rfl)
theorem dX0_walked_17 : decode cX0_walked 17 = .ok (.iconst 1, 1) := dk_4 (dk_at dksX0_walked_0 17 rfl rfl)
theorem dX0_walked_18 : decode cX0_walked 18 = .ok (.istore 4, 2) := dk_54 4 (dk_at dksX0_walked_0 18 rfl rfl)
theorem dX0_walked_20 : decode cX0_walked 20 = .ok (.iload 4, 2) := dk_21 4 (dk_at dksX0_walked_0 20 rfl rfl)
theorem dX0_walked_22 : decode cX0_walked 22 = .ok (.aload_n 2, 1) := dk_44 (dk_at dksX0_walked_0 22 rfl rfl)
theorem dX0_walked_23 : decode cX0_walked 23 = .ok (.invokevirtual 303, 3) := dk_182 1 47 (dk_at dksX0_walked_1 0 rfl rfl)
theorem dX0_walked_26 : decode cX0_walked 26 = .ok (.if_icmp .ge 33, 3) := dk_162 0 33 (dk_at dksX0_walked_1 3 rfl rfl)
theorem dX0_walked_29 : decode cX0_walked 29 = .ok (.iload_n 3, 1) := dk_29 (dk_at dksX0_walked_1 6 rfl rfl)
theorem dX0_walked_30 : decode cX0_walked 30 = .ok (.aload_n 0, 1) := dk_42 (dk_at dksX0_walked_1 7 rfl rfl)
theorem dX0_walked_31 : decode cX0_walked 31 = .ok (.getfield 46, 3) := dk_180 0 46 (dk_at dksX0_walked_1 8 rfl rfl)
theorem dX0_walked_34 : decode cX0_walked 34 = .ok (.aload_n 2, 1) := dk_44 (dk_at dksX0_walked_1 11 rfl rfl)
theorem dX0_walked_35 : decode cX0_walked 35 = .ok (.iload 4, 2) := dk_21 4 (dk_at dksX0_walked_1 12 rfl rfl)
theorem dX0_walked_37 : decode cX0_walked 37 = .ok (.iconst 1, 1) := dk_4 (dk_at dksX0_walked_1 14 rfl rfl)
theorem dX0_walked_38 : decode cX0_walked 38 = .ok (.isub, 1) := dk_100 (dk_at dksX0_walked_1 15 rfl rfl)
theorem dX0_walked_39 : decode cX0_walked 39 = .ok (.invokevirtual 306, 3) := dk_182 1 50 (dk_at dksX0_walked_1 16 rfl rfl)
theorem dX0_walked_42 : decode cX0_walked 42 = .ok (.aload_n 2, 1) := dk_44 (dk_at dksX0_walked_1 19 rfl rfl)
theorem dX0_walked_43 : decode cX0_walked 43 = .ok (.iload 4, 2) := dk_21 4 (dk_at dksX0_walked_1 20 rfl rfl)
theorem dX0_walked_45 : decode cX0_walked 45 = .ok (.invokevirtual 306, 3) := dk_182 1 50 (dk_at dksX0_walked_2 0 rfl rfl)
theorem dX0_walked_48 : decode cX0_walked 48 = .ok (.invokevirtual 117, 3) := dk_182 0 117 (dk_at dksX0_walked_2 3 rfl rfl)
theorem dX0_walked_51 : decode cX0_walked 51 = .ok (.iadd, 1) := dk_96 (dk_at dksX0_walked_2 6 rfl rfl)
theorem dX0_walked_52 : decode cX0_walked 52 = .ok (.istore_n 3, 1) := dk_62 (dk_at dksX0_walked_2 7 rfl rfl)
theorem dX0_walked_53 : decode cX0_walked 53 = .ok (.iinc 4 1, 3) := dk_132 4 1 (dk_at dksX0_walked_2 8 rfl rfl)
theorem dX0_walked_56 : decode cX0_walked 56 = .ok (.goto (-36), 3) := dk_167 255 220 (dk_at dksX0_walked_2 11 rfl rfl)
theorem dX0_walked_59 : decode cX0_walked 59 = .ok (.iload_n 3, 1) := dk_29 (dk_at dksX0_walked_2 14 rfl rfl)
theorem dX0_walked_60 : decode cX0_walked 60 = .ok (.ireturn, 1) := dk_172 (dk_at dksX0_walked_2 15 rfl rfl)
theorem dX0_walked_61 : decode cX0_walked 61 = .ok (.astore_n 2, 1) := dk_77 (dk_at dksX0_walked_2 16 rfl rfl)
theorem dX0_walked_62 : decode cX0_walked 62 = .ok (.aload_n 0, 1) := dk_42 (dk_at dksX0_walked_2 17 rfl rfl)
theorem dX0_walked_63 : decode cX0_walked 63 = .ok (.aload_n 2, 1) := dk_44 (dk_at dksX0_walked_2 18 rfl rfl)
theorem dX0_walked_64 : decode cX0_walked 64 = .ok (.invokevirtual 109, 3) := dk_182 0 109 (dk_at dksX0_walked_2 19 rfl rfl)
theorem dX0_walked_67 : decode cX0_walked 67 = .ok (.ireturn, 1) := dk_172 (dk_at dksX0_walked_2 22 rfl rfl)
abbrev cX0_isSheet : ByteArray := prog_1_method_12_code
def yX0_isSheet : MethodName := ⟨RX0, "isSheet", "(I)Z"⟩
def dkwX0_isSheet_0 : List UInt8 := [26, 3, 6, 184, 0, 85, 172]
abbrev dktX0_isSheet_0 : List UInt8 := dkwX0_isSheet_0 ++ []
theorem dksX0_isSheet_0 : cX0_isSheet.data.toList.drop 0 = dktX0_isSheet_0 := by decide +kernel
theorem dX0_isSheet_0 : decode cX0_isSheet 0 = .ok (.iload_n 0, 1) := dk_26 (dk_at dksX0_isSheet_0 0 rfl rfl)
theorem dX0_isSheet_1 : decode cX0_isSheet 1 = .ok (.iconst 0, 1) := dk_3 (dk_at dksX0_isSheet_0 1 rfl rfl)
theorem dX0_isSheet_2 : decode cX0_isSheet 2 = .ok (.iconst 3, 1) := dk_6 (dk_at dksX0_isSheet_0 2 rfl rfl)
theorem dX0_isSheet_3 : decode cX0_isSheet 3 = .ok (.invokestatic 85, 3) := dk_184 0 85 (dk_at dksX0_isSheet_0 3 rfl rfl)
theorem dX0_isSheet_6 : decode cX0_isSheet 6 = .ok (.ireturn, 1) := dk_172 (dk_at dksX0_isSheet_0 6 rfl rfl)
abbrev cX0_walkOf : ByteArray := prog_1_method_48_code
def yX0_walkOf : MethodName := ⟨RX0, "walkOf", "(I)LWellNames$Sheet;"⟩
def dkwX0_walkOf_4 : List UInt8 := [158, 0, 7, 4, 167, 0, 4, 3, 126, 62, 132, 4, 1, 167, 255, 172, 42, 29, 5, 182, 0, 100, 44, 176]
abbrev dktX0_walkOf_4 : List UInt8 := dkwX0_walkOf_4 ++ []
def dkwX0_walkOf_3 : List UInt8 := [159, 0, 27, 42, 180, 0, 46, 44, 21, 4, 4, 100, 182, 1, 50, 44, 21, 4, 182, 1, 50, 182, 0, 117]
abbrev dktX0_walkOf_3 : List UInt8 := dkwX0_walkOf_3 ++ dktX0_walkOf_4
def dkwX0_walkOf_2 : List UInt8 := [153, 0, 49, 21, 4, 153, 0, 44, 44, 21, 4, 182, 1, 50, 44, 21, 4, 4, 100, 182, 1, 50]
abbrev dktX0_walkOf_2 : List UInt8 := dkwX0_walkOf_2 ++ dktX0_walkOf_3
def dkwX0_walkOf_1 : List UInt8 := [44, 182, 1, 47, 162, 0, 81, 29, 153, 0, 77, 44, 21, 4, 182, 1, 50, 184, 0, 89, 62, 29, 29]
abbrev dktX0_walkOf_1 : List UInt8 := dkwX0_walkOf_1 ++ dktX0_walkOf_2
def dkwX0_walkOf_0 : List UInt8 := [42, 27, 182, 1, 43, 77, 44, 182, 1, 47, 158, 0, 7, 4, 167, 0, 4, 3, 62, 3, 54, 4, 21, 4]
abbrev dktX0_walkOf_0 : List UInt8 := dkwX0_walkOf_0 ++ dktX0_walkOf_1
theorem dksX0_walkOf_0 : cX0_walkOf.data.toList.drop 0 = dktX0_walkOf_0 := by decide +kernel
theorem dksX0_walkOf_1 : cX0_walkOf.data.toList.drop 24 = dktX0_walkOf_1 := dk_seg dksX0_walkOf_0 24 rfl rfl
theorem dksX0_walkOf_2 : cX0_walkOf.data.toList.drop 47 = dktX0_walkOf_2 := dk_seg dksX0_walkOf_1 23 rfl rfl
theorem dksX0_walkOf_3 : cX0_walkOf.data.toList.drop 69 = dktX0_walkOf_3 := dk_seg dksX0_walkOf_2 22 rfl rfl
theorem dksX0_walkOf_4 : cX0_walkOf.data.toList.drop 93 = dktX0_walkOf_4 := dk_seg dksX0_walkOf_3 24 rfl rfl
theorem dX0_walkOf_0 : decode cX0_walkOf 0 = .ok (.aload_n 0, 1) := dk_42 (dk_at dksX0_walkOf_0 0 rfl rfl)
theorem dX0_walkOf_1 : decode cX0_walkOf 1 = .ok (.iload_n 1, 1) := dk_27 (dk_at dksX0_walkOf_0 1 rfl rfl)
theorem dX0_walkOf_2 : decode cX0_walkOf 2 = .ok (.invokevirtual 299, 3) := dk_182 1 43 (dk_at dksX0_walkOf_0 2 rfl rfl)
theorem dX0_walkOf_5 : decode cX0_walkOf 5 = .ok (.astore_n 2, 1) := dk_77 (dk_at dksX0_walkOf_0 5 rfl rfl)
theorem dX0_walkOf_6 : decode cX0_walkOf 6 = .ok (.aload_n 2, 1) := dk_44 (dk_at dksX0_walkOf_0 6 rfl rfl)
theorem dX0_walkOf_7 : decode cX0_walkOf 7 = .ok (.invokevirtual 303, 3) := dk_182 1 47 (dk_at dksX0_walkOf_0 7 rfl rfl)
theorem dX0_walkOf_10 : decode cX0_walkOf 10 = .ok (.ifCond .le 7, 3) := dk_158 0 7 (dk_at dksX0_walkOf_0 10 rfl rfl)
theorem dX0_walkOf_13 : decode cX0_walkOf 13 = .ok (.iconst 1, 1) := dk_4 (dk_at dksX0_walkOf_0 13 rfl rfl)
theorem dX0_walkOf_14 : decode cX0_walkOf 14 = .ok (.goto 4, 3) := dk_167 0 4 (dk_at dksX0_walkOf_0 14 rfl rfl)
theorem dX0_walkOf_17 : decode cX0_walkOf 17 = .ok (.iconst 0, 1) := dk_3 (dk_at dksX0_walkOf_0 17 rfl rfl)
theorem dX0_walkOf_18 : decode cX0_walkOf 18 = .ok (.istore_n 3, 1) := dk_62 (dk_at dksX0_walkOf_0 18 rfl rfl)
theorem dX0_walkOf_19 : decode cX0_walkOf 19 = .ok (.iconst 0, 1) := dk_3 (dk_at dksX0_walkOf_0 19 rfl rfl)
theorem dX0_walkOf_20 : decode cX0_walkOf 20 = .ok (.istore 4, 2) := dk_54 4 (dk_at dksX0_walkOf_0 20 rfl rfl)
theorem dX0_walkOf_22 : decode cX0_walkOf 22 = .ok (.iload 4, 2) := dk_21 4 (dk_at dksX0_walkOf_0 22 rfl rfl)
theorem dX0_walkOf_24 : decode cX0_walkOf 24 = .ok (.aload_n 2, 1) := dk_44 (dk_at dksX0_walkOf_1 0 rfl rfl)
theorem dX0_walkOf_25 : decode cX0_walkOf 25 = .ok (.invokevirtual 303, 3) := dk_182 1 47 (dk_at dksX0_walkOf_1 1 rfl rfl)
theorem dX0_walkOf_28 : decode cX0_walkOf 28 = .ok (.if_icmp .ge 81, 3) := dk_162 0 81 (dk_at dksX0_walkOf_1 4 rfl rfl)
theorem dX0_walkOf_31 : decode cX0_walkOf 31 = .ok (.iload_n 3, 1) := dk_29 (dk_at dksX0_walkOf_1 7 rfl rfl)
theorem dX0_walkOf_32 : decode cX0_walkOf 32 = .ok (.ifCond .eq 77, 3) := dk_153 0 77 (dk_at dksX0_walkOf_1 8 rfl rfl)
theorem dX0_walkOf_35 : decode cX0_walkOf 35 = .ok (.aload_n 2, 1) := dk_44 (dk_at dksX0_walkOf_1 11 rfl rfl)
theorem dX0_walkOf_36 : decode cX0_walkOf 36 = .ok (.iload 4, 2) := dk_21 4 (dk_at dksX0_walkOf_1 12 rfl rfl)
theorem dX0_walkOf_38 : decode cX0_walkOf 38 = .ok (.invokevirtual 306, 3) := dk_182 1 50 (dk_at dksX0_walkOf_1 14 rfl rfl)
theorem dX0_walkOf_41 : decode cX0_walkOf 41 = .ok (.invokestatic 89, 3) := dk_184 0 89 (dk_at dksX0_walkOf_1 17 rfl rfl)
theorem dX0_walkOf_44 : decode cX0_walkOf 44 = .ok (.istore_n 3, 1) := dk_62 (dk_at dksX0_walkOf_1 20 rfl rfl)
theorem dX0_walkOf_45 : decode cX0_walkOf 45 = .ok (.iload_n 3, 1) := dk_29 (dk_at dksX0_walkOf_1 21 rfl rfl)
theorem dX0_walkOf_46 : decode cX0_walkOf 46 = .ok (.iload_n 3, 1) := dk_29 (dk_at dksX0_walkOf_1 22 rfl rfl)
theorem dX0_walkOf_47 : decode cX0_walkOf 47 = .ok (.ifCond .eq 49, 3) := dk_153 0 49 (dk_at dksX0_walkOf_2 0 rfl rfl)
theorem dX0_walkOf_50 : decode cX0_walkOf 50 = .ok (.iload 4, 2) := dk_21 4 (dk_at dksX0_walkOf_2 3 rfl rfl)
theorem dX0_walkOf_52 : decode cX0_walkOf 52 = .ok (.ifCond .eq 44, 3) := dk_153 0 44 (dk_at dksX0_walkOf_2 5 rfl rfl)
theorem dX0_walkOf_55 : decode cX0_walkOf 55 = .ok (.aload_n 2, 1) := dk_44 (dk_at dksX0_walkOf_2 8 rfl rfl)
theorem dX0_walkOf_56 : decode cX0_walkOf 56 = .ok (.iload 4, 2) := dk_21 4 (dk_at dksX0_walkOf_2 9 rfl rfl)
theorem dX0_walkOf_58 : decode cX0_walkOf 58 = .ok (.invokevirtual 306, 3) := dk_182 1 50 (dk_at dksX0_walkOf_2 11 rfl rfl)
theorem dX0_walkOf_61 : decode cX0_walkOf 61 = .ok (.aload_n 2, 1) := dk_44 (dk_at dksX0_walkOf_2 14 rfl rfl)
theorem dX0_walkOf_62 : decode cX0_walkOf 62 = .ok (.iload 4, 2) := dk_21 4 (dk_at dksX0_walkOf_2 15 rfl rfl)
theorem dX0_walkOf_64 : decode cX0_walkOf 64 = .ok (.iconst 1, 1) := dk_4 (dk_at dksX0_walkOf_2 17 rfl rfl)
theorem dX0_walkOf_65 : decode cX0_walkOf 65 = .ok (.isub, 1) := dk_100 (dk_at dksX0_walkOf_2 18 rfl rfl)
theorem dX0_walkOf_66 : decode cX0_walkOf 66 = .ok (.invokevirtual 306, 3) := dk_182 1 50 (dk_at dksX0_walkOf_2 19 rfl rfl)
theorem dX0_walkOf_69 : decode cX0_walkOf 69 = .ok (.if_icmp .eq 27, 3) := dk_159 0 27 (dk_at dksX0_walkOf_3 0 rfl rfl)
theorem dX0_walkOf_72 : decode cX0_walkOf 72 = .ok (.aload_n 0, 1) := dk_42 (dk_at dksX0_walkOf_3 3 rfl rfl)
theorem dX0_walkOf_73 : decode cX0_walkOf 73 = .ok (.getfield 46, 3) := dk_180 0 46 (dk_at dksX0_walkOf_3 4 rfl rfl)
theorem dX0_walkOf_76 : decode cX0_walkOf 76 = .ok (.aload_n 2, 1) := dk_44 (dk_at dksX0_walkOf_3 7 rfl rfl)
theorem dX0_walkOf_77 : decode cX0_walkOf 77 = .ok (.iload 4, 2) := dk_21 4 (dk_at dksX0_walkOf_3 8 rfl rfl)
theorem dX0_walkOf_79 : decode cX0_walkOf 79 = .ok (.iconst 1, 1) := dk_4 (dk_at dksX0_walkOf_3 10 rfl rfl)
theorem dX0_walkOf_80 : decode cX0_walkOf 80 = .ok (.isub, 1) := dk_100 (dk_at dksX0_walkOf_3 11 rfl rfl)
theorem dX0_walkOf_81 : decode cX0_walkOf 81 = .ok (.invokevirtual 306, 3) := dk_182 1 50 (dk_at dksX0_walkOf_3 12 rfl rfl)
theorem dX0_walkOf_84 : decode cX0_walkOf 84 = .ok (.aload_n 2, 1) := dk_44 (dk_at dksX0_walkOf_3 15 rfl rfl)
theorem dX0_walkOf_85 : decode cX0_walkOf 85 = .ok (.iload 4, 2) := dk_21 4 (dk_at dksX0_walkOf_3 16 rfl rfl)
theorem dX0_walkOf_87 : decode cX0_walkOf 87 = .ok (.invokevirtual 306, 3) := dk_182 1 50 (dk_at dksX0_walkOf_3 18 rfl rfl)
theorem dX0_walkOf_90 : decode cX0_walkOf 90 = .ok (.invokevirtual 117, 3) := dk_182 0 117 (dk_at dksX0_walkOf_3 21 rfl rfl)
theorem dX0_walkOf_93 : decode cX0_walkOf 93 = .ok (.ifCond .le 7, 3) := dk_158 0 7 (dk_at dksX0_walkOf_4 0 rfl rfl)
theorem dX0_walkOf_96 : decode cX0_walkOf 96 = .ok (.iconst 1, 1) := dk_4 (dk_at dksX0_walkOf_4 3 rfl rfl)
theorem dX0_walkOf_97 : decode cX0_walkOf 97 = .ok (.goto 4, 3) := dk_167 0 4 (dk_at dksX0_walkOf_4 4 rfl rfl)
theorem dX0_walkOf_100 : decode cX0_walkOf 100 = .ok (.iconst 0, 1) := dk_3 (dk_at dksX0_walkOf_4 7 rfl rfl)
theorem dX0_walkOf_101 : decode cX0_walkOf 101 = .ok (.iand, 1) := dk_126 (dk_at dksX0_walkOf_4 8 rfl rfl)
theorem dX0_walkOf_102 : decode cX0_walkOf 102 = .ok (.istore_n 3, 1) := dk_62 (dk_at dksX0_walkOf_4 9 rfl rfl)
theorem dX0_walkOf_103 : decode cX0_walkOf 103 = .ok (.iinc 4 1, 3) := dk_132 4 1 (dk_at dksX0_walkOf_4 10 rfl rfl)
theorem dX0_walkOf_106 : decode cX0_walkOf 106 = .ok (.goto (-84), 3) := dk_167 255 172 (dk_at dksX0_walkOf_4 13 rfl rfl)
theorem dX0_walkOf_109 : decode cX0_walkOf 109 = .ok (.aload_n 0, 1) := dk_42 (dk_at dksX0_walkOf_4 16 rfl rfl)
theorem dX0_walkOf_110 : decode cX0_walkOf 110 = .ok (.iload_n 3, 1) := dk_29 (dk_at dksX0_walkOf_4 17 rfl rfl)
theorem dX0_walkOf_111 : decode cX0_walkOf 111 = .ok (.iconst 2, 1) := dk_5 (dk_at dksX0_walkOf_4 18 rfl rfl)
theorem dX0_walkOf_112 : decode cX0_walkOf 112 = .ok (.invokevirtual 100, 3) := dk_182 0 100 (dk_at dksX0_walkOf_4 19 rfl rfl)
theorem dX0_walkOf_115 : decode cX0_walkOf 115 = .ok (.aload_n 2, 1) := dk_44 (dk_at dksX0_walkOf_4 22 rfl rfl)
theorem dX0_walkOf_116 : decode cX0_walkOf 116 = .ok (.areturn, 1) := dk_176 (dk_at dksX0_walkOf_4 23 rfl rfl)
abbrev cX0_sheetAt : ByteArray := prog_1_method_14_code
def yX0_sheetAt : MethodName := ⟨RX0, "sheetAt", "(I)LWellNames$Sheet;"⟩
def dkwX0_sheetAt_1 : List UInt8 := [180, 0, 69, 27, 50, 180, 0, 96, 192, 0, 104, 176]
abbrev dktX0_sheetAt_1 : List UInt8 := dkwX0_sheetAt_1 ++ []
def dkwX0_sheetAt_0 : List UInt8 := [42, 42, 180, 0, 69, 27, 50, 180, 0, 96, 198, 0, 7, 4, 167, 0, 4, 3, 5, 182, 0, 100, 42]
abbrev dktX0_sheetAt_0 : List UInt8 := dkwX0_sheetAt_0 ++ dktX0_sheetAt_1
theorem dksX0_sheetAt_0 : cX0_sheetAt.data.toList.drop 0 = dktX0_sheetAt_0 := by decide +kernel
theorem dksX0_sheetAt_1 : cX0_sheetAt.data.toList.drop 23 = dktX0_sheetAt_1 := dk_seg dksX0_sheetAt_0 23 rfl rfl
theorem dX0_sheetAt_0 : decode cX0_sheetAt 0 = .ok (.aload_n 0, 1) := dk_42 (dk_at dksX0_sheetAt_0 0 rfl rfl)
theorem dX0_sheetAt_1 : decode cX0_sheetAt 1 = .ok (.aload_n 0, 1) := dk_42 (dk_at dksX0_sheetAt_0 1 rfl rfl)
theorem dX0_sheetAt_2 : decode cX0_sheetAt 2 = .ok (.getfield 69, 3) := dk_180 0 69 (dk_at dksX0_sheetAt_0 2 rfl rfl)
theorem dX0_sheetAt_5 : decode cX0_sheetAt 5 = .ok (.iload_n 1, 1) := dk_27 (dk_at dksX0_sheetAt_0 5 rfl rfl)
theorem dX0_sheetAt_6 : decode cX0_sheetAt 6 = .ok (.aaload, 1) := dk_50 (dk_at dksX0_sheetAt_0 6 rfl rfl)
theorem dX0_sheetAt_7 : decode cX0_sheetAt 7 = .ok (.getfield 96, 3) := dk_180 0 96 (dk_at dksX0_sheetAt_0 7 rfl rfl)
theorem dX0_sheetAt_10 : decode cX0_sheetAt 10 = .ok (.ifnull 7, 3) := dk_198 0 7 (dk_at dksX0_sheetAt_0 10 rfl rfl)
theorem dX0_sheetAt_13 : decode cX0_sheetAt 13 = .ok (.iconst 1, 1) := dk_4 (dk_at dksX0_sheetAt_0 13 rfl rfl)
theorem dX0_sheetAt_14 : decode cX0_sheetAt 14 = .ok (.goto 4, 3) := dk_167 0 4 (dk_at dksX0_sheetAt_0 14 rfl rfl)
theorem dX0_sheetAt_17 : decode cX0_sheetAt 17 = .ok (.iconst 0, 1) := dk_3 (dk_at dksX0_sheetAt_0 17 rfl rfl)
theorem dX0_sheetAt_18 : decode cX0_sheetAt 18 = .ok (.iconst 2, 1) := dk_5 (dk_at dksX0_sheetAt_0 18 rfl rfl)
theorem dX0_sheetAt_19 : decode cX0_sheetAt 19 = .ok (.invokevirtual 100, 3) := dk_182 0 100 (dk_at dksX0_sheetAt_0 19 rfl rfl)
theorem dX0_sheetAt_22 : decode cX0_sheetAt 22 = .ok (.aload_n 0, 1) := dk_42 (dk_at dksX0_sheetAt_0 22 rfl rfl)
theorem dX0_sheetAt_23 : decode cX0_sheetAt 23 = .ok (.getfield 69, 3) := dk_180 0 69 (dk_at dksX0_sheetAt_1 0 rfl rfl)
theorem dX0_sheetAt_26 : decode cX0_sheetAt 26 = .ok (.iload_n 1, 1) := dk_27 (dk_at dksX0_sheetAt_1 3 rfl rfl)
theorem dX0_sheetAt_27 : decode cX0_sheetAt 27 = .ok (.aaload, 1) := dk_50 (dk_at dksX0_sheetAt_1 4 rfl rfl)
theorem dX0_sheetAt_28 : decode cX0_sheetAt 28 = .ok (.getfield 96, 3) := dk_180 0 96 (dk_at dksX0_sheetAt_1 5 rfl rfl)
theorem dX0_sheetAt_31 : decode cX0_sheetAt 31 = .ok (.checkcast 104, 3) := dk_192 0 104 (dk_at dksX0_sheetAt_1 8 rfl rfl)
theorem dX0_sheetAt_34 : decode cX0_sheetAt 34 = .ok (.areturn, 1) := dk_176 (dk_at dksX0_sheetAt_1 11 rfl rfl)
abbrev cX0_alive : ByteArray := prog_1_method_50_code
def yX0_alive : MethodName := ⟨RX0, "alive", "(III)I"⟩
def dkwX0_alive_7 : List UInt8 := [182, 0, 109, 172]
abbrev dktX0_alive_7 : List UInt8 := dkwX0_alive_7 ++ []
def dkwX0_alive_6 : List UInt8 := [54, 6, 132, 8, 1, 167, 255, 152, 21, 7, 153, 0, 7, 4, 167, 0, 4, 3, 172, 58, 4, 42, 25, 4]
abbrev dktX0_alive_6 : List UInt8 := dkwX0_alive_6 ++ dktX0_alive_7
def dkwX0_alive_5 : List UInt8 := [3, 126, 54, 7, 29, 25, 5, 21, 8, 182, 1, 50, 184, 0, 247, 153, 0, 7, 3, 167, 0, 5, 21, 6]
abbrev dktX0_alive_5 : List UInt8 := dkwX0_alive_5 ++ dktX0_alive_6
def dkwX0_alive_4 : List UInt8 := [21, 9, 182, 1, 14, 96, 54, 6, 21, 7, 21, 6, 25, 4, 182, 0, 172, 163, 0, 7, 4, 167, 0, 4]
abbrev dktX0_alive_4 : List UInt8 := dkwX0_alive_4 ++ dktX0_alive_5
def dkwX0_alive_3 : List UInt8 := [182, 1, 50, 182, 0, 117, 54, 9, 21, 6, 21, 9, 154, 0, 7, 3, 167, 0, 13, 42, 180, 0, 46, 28]
abbrev dktX0_alive_3 : List UInt8 := dkwX0_alive_3 ++ dktX0_alive_4
def dkwX0_alive_2 : List UInt8 := [182, 1, 47, 162, 0, 100, 42, 180, 0, 46, 25, 5, 21, 8, 4, 100, 182, 1, 50, 25, 5, 21, 8]
abbrev dktX0_alive_2 : List UInt8 := dkwX0_alive_2 ++ dktX0_alive_3
def dkwX0_alive_1 : List UInt8 := [58, 4, 42, 27, 182, 1, 56, 58, 5, 3, 54, 6, 4, 54, 7, 4, 54, 8, 21, 8, 25, 5]
abbrev dktX0_alive_1 : List UInt8 := dkwX0_alive_1 ++ dktX0_alive_2
def dkwX0_alive_0 : List UInt8 := [42, 28, 27, 184, 1, 53, 153, 0, 14, 29, 184, 1, 25, 153, 0, 7, 4, 167, 0, 4, 3, 182, 0, 161]
abbrev dktX0_alive_0 : List UInt8 := dkwX0_alive_0 ++ dktX0_alive_1
theorem dksX0_alive_0 : cX0_alive.data.toList.drop 0 = dktX0_alive_0 := by decide +kernel
theorem dksX0_alive_1 : cX0_alive.data.toList.drop 24 = dktX0_alive_1 := dk_seg dksX0_alive_0 24 rfl rfl
theorem dksX0_alive_2 : cX0_alive.data.toList.drop 46 = dktX0_alive_2 := dk_seg dksX0_alive_1 22 rfl rfl
theorem dksX0_alive_3 : cX0_alive.data.toList.drop 69 = dktX0_alive_3 := dk_seg dksX0_alive_2 23 rfl rfl
theorem dksX0_alive_4 : cX0_alive.data.toList.drop 93 = dktX0_alive_4 := dk_seg dksX0_alive_3 24 rfl rfl
theorem dksX0_alive_5 : cX0_alive.data.toList.drop 117 = dktX0_alive_5 := dk_seg dksX0_alive_4 24 rfl rfl
theorem dksX0_alive_6 : cX0_alive.data.toList.drop 141 = dktX0_alive_6 := dk_seg dksX0_alive_5 24 rfl rfl
theorem dksX0_alive_7 : cX0_alive.data.toList.drop 165 = dktX0_alive_7 := dk_seg dksX0_alive_6 24 rfl rfl
theorem dX0_alive_0 : decode cX0_alive 0 = .ok (.aload_n 0, 1) := dk_42 (dk_at dksX0_alive_0 0 rfl rfl)
theorem dX0_alive_1 : decode cX0_alive 1 = .ok (.iload_n 2, 1) := dk_28 (dk_at dksX0_alive_0 1 rfl rfl)
theorem dX0_alive_2 : decode cX0_alive 2 = .ok (.iload_n 1, 1) := dk_27 (dk_at dksX0_alive_0 2 rfl rfl)
theorem dX0_alive_3 : decode cX0_alive 3 = .ok (.invokestatic 309, 3) := dk_184 1 53 (dk_at dksX0_alive_0 3 rfl rfl)
theorem dX0_alive_6 : decode cX0_alive 6 = .ok (.ifCond .eq 14, 3) := dk_153 0 14 (dk_at dksX0_alive_0 6 rfl rfl)
theorem dX0_alive_9 : decode cX0_alive 9 = .ok (.iload_n 3, 1) := dk_29 (dk_at dksX0_alive_0 9 rfl rfl)
theorem dX0_alive_10 : decode cX0_alive 10 = .ok (.invokestatic 281, 3) := dk_184 1 25 (dk_at dksX0_alive_0 10 rfl rfl)
theorem dX0_alive_13 : decode cX0_alive 13 = .ok (.ifCond .eq 7, 3) := dk_153 0 7 (dk_at dksX0_alive_0 13 rfl rfl)
theorem dX0_alive_16 : decode cX0_alive 16 = .ok (.iconst 1, 1) := dk_4 (dk_at dksX0_alive_0 16 rfl rfl)
theorem dX0_alive_17 : decode cX0_alive 17 = .ok (.goto 4, 3) := dk_167 0 4 (dk_at dksX0_alive_0 17 rfl rfl)
theorem dX0_alive_20 : decode cX0_alive 20 = .ok (.iconst 0, 1) := dk_3 (dk_at dksX0_alive_0 20 rfl rfl)
theorem dX0_alive_21 : decode cX0_alive 21 = .ok (.invokevirtual 161, 3) := dk_182 0 161 (dk_at dksX0_alive_0 21 rfl rfl)
theorem dX0_alive_24 : decode cX0_alive 24 = .ok (.astore 4, 2) := dk_58 4 (dk_at dksX0_alive_1 0 rfl rfl)
theorem dX0_alive_26 : decode cX0_alive 26 = .ok (.aload_n 0, 1) := dk_42 (dk_at dksX0_alive_1 2 rfl rfl)
theorem dX0_alive_27 : decode cX0_alive 27 = .ok (.iload_n 1, 1) := dk_27 (dk_at dksX0_alive_1 3 rfl rfl)
theorem dX0_alive_28 : decode cX0_alive 28 = .ok (.invokevirtual 312, 3) := dk_182 1 56 (dk_at dksX0_alive_1 4 rfl rfl)
theorem dX0_alive_31 : decode cX0_alive 31 = .ok (.astore 5, 2) := dk_58 5 (dk_at dksX0_alive_1 7 rfl rfl)
theorem dX0_alive_33 : decode cX0_alive 33 = .ok (.iconst 0, 1) := dk_3 (dk_at dksX0_alive_1 9 rfl rfl)
theorem dX0_alive_34 : decode cX0_alive 34 = .ok (.istore 6, 2) := dk_54 6 (dk_at dksX0_alive_1 10 rfl rfl)
theorem dX0_alive_36 : decode cX0_alive 36 = .ok (.iconst 1, 1) := dk_4 (dk_at dksX0_alive_1 12 rfl rfl)
theorem dX0_alive_37 : decode cX0_alive 37 = .ok (.istore 7, 2) := dk_54 7 (dk_at dksX0_alive_1 13 rfl rfl)
theorem dX0_alive_39 : decode cX0_alive 39 = .ok (.iconst 1, 1) := dk_4 (dk_at dksX0_alive_1 15 rfl rfl)
theorem dX0_alive_40 : decode cX0_alive 40 = .ok (.istore 8, 2) := dk_54 8 (dk_at dksX0_alive_1 16 rfl rfl)
theorem dX0_alive_42 : decode cX0_alive 42 = .ok (.iload 8, 2) := dk_21 8 (dk_at dksX0_alive_1 18 rfl rfl)
theorem dX0_alive_44 : decode cX0_alive 44 = .ok (.aload 5, 2) := dk_25 5 (dk_at dksX0_alive_1 20 rfl rfl)
theorem dX0_alive_46 : decode cX0_alive 46 = .ok (.invokevirtual 303, 3) := dk_182 1 47 (dk_at dksX0_alive_2 0 rfl rfl)
theorem dX0_alive_49 : decode cX0_alive 49 = .ok (.if_icmp .ge 100, 3) := dk_162 0 100 (dk_at dksX0_alive_2 3 rfl rfl)
theorem dX0_alive_52 : decode cX0_alive 52 = .ok (.aload_n 0, 1) := dk_42 (dk_at dksX0_alive_2 6 rfl rfl)
theorem dX0_alive_53 : decode cX0_alive 53 = .ok (.getfield 46, 3) := dk_180 0 46 (dk_at dksX0_alive_2 7 rfl rfl)
theorem dX0_alive_56 : decode cX0_alive 56 = .ok (.aload 5, 2) := dk_25 5 (dk_at dksX0_alive_2 10 rfl rfl)
theorem dX0_alive_58 : decode cX0_alive 58 = .ok (.iload 8, 2) := dk_21 8 (dk_at dksX0_alive_2 12 rfl rfl)
theorem dX0_alive_60 : decode cX0_alive 60 = .ok (.iconst 1, 1) := dk_4 (dk_at dksX0_alive_2 14 rfl rfl)
theorem dX0_alive_61 : decode cX0_alive 61 = .ok (.isub, 1) := dk_100 (dk_at dksX0_alive_2 15 rfl rfl)
theorem dX0_alive_62 : decode cX0_alive 62 = .ok (.invokevirtual 306, 3) := dk_182 1 50 (dk_at dksX0_alive_2 16 rfl rfl)
theorem dX0_alive_65 : decode cX0_alive 65 = .ok (.aload 5, 2) := dk_25 5 (dk_at dksX0_alive_2 19 rfl rfl)
theorem dX0_alive_67 : decode cX0_alive 67 = .ok (.iload 8, 2) := dk_21 8 (dk_at dksX0_alive_2 21 rfl rfl)
theorem dX0_alive_69 : decode cX0_alive 69 = .ok (.invokevirtual 306, 3) := dk_182 1 50 (dk_at dksX0_alive_3 0 rfl rfl)
theorem dX0_alive_72 : decode cX0_alive 72 = .ok (.invokevirtual 117, 3) := dk_182 0 117 (dk_at dksX0_alive_3 3 rfl rfl)
theorem dX0_alive_75 : decode cX0_alive 75 = .ok (.istore 9, 2) := dk_54 9 (dk_at dksX0_alive_3 6 rfl rfl)
theorem dX0_alive_77 : decode cX0_alive 77 = .ok (.iload 6, 2) := dk_21 6 (dk_at dksX0_alive_3 8 rfl rfl)
theorem dX0_alive_79 : decode cX0_alive 79 = .ok (.iload 9, 2) := dk_21 9 (dk_at dksX0_alive_3 10 rfl rfl)
theorem dX0_alive_81 : decode cX0_alive 81 = .ok (.ifCond .ne 7, 3) := dk_154 0 7 (dk_at dksX0_alive_3 12 rfl rfl)
theorem dX0_alive_84 : decode cX0_alive 84 = .ok (.iconst 0, 1) := dk_3 (dk_at dksX0_alive_3 15 rfl rfl)
theorem dX0_alive_85 : decode cX0_alive 85 = .ok (.goto 13, 3) := dk_167 0 13 (dk_at dksX0_alive_3 16 rfl rfl)
theorem dX0_alive_88 : decode cX0_alive 88 = .ok (.aload_n 0, 1) := dk_42 (dk_at dksX0_alive_3 19 rfl rfl)
theorem dX0_alive_89 : decode cX0_alive 89 = .ok (.getfield 46, 3) := dk_180 0 46 (dk_at dksX0_alive_3 20 rfl rfl)
theorem dX0_alive_92 : decode cX0_alive 92 = .ok (.iload_n 2, 1) := dk_28 (dk_at dksX0_alive_3 23 rfl rfl)
theorem dX0_alive_93 : decode cX0_alive 93 = .ok (.iload 9, 2) := dk_21 9 (dk_at dksX0_alive_4 0 rfl rfl)
theorem dX0_alive_95 : decode cX0_alive 95 = .ok (.invokevirtual 270, 3) := dk_182 1 14 (dk_at dksX0_alive_4 2 rfl rfl)
theorem dX0_alive_98 : decode cX0_alive 98 = .ok (.iadd, 1) := dk_96 (dk_at dksX0_alive_4 5 rfl rfl)
theorem dX0_alive_99 : decode cX0_alive 99 = .ok (.istore 6, 2) := dk_54 6 (dk_at dksX0_alive_4 6 rfl rfl)
theorem dX0_alive_101 : decode cX0_alive 101 = .ok (.iload 7, 2) := dk_21 7 (dk_at dksX0_alive_4 8 rfl rfl)
theorem dX0_alive_103 : decode cX0_alive 103 = .ok (.iload 6, 2) := dk_21 6 (dk_at dksX0_alive_4 10 rfl rfl)
theorem dX0_alive_105 : decode cX0_alive 105 = .ok (.aload 4, 2) := dk_25 4 (dk_at dksX0_alive_4 12 rfl rfl)
theorem dX0_alive_107 : decode cX0_alive 107 = .ok (.invokevirtual 172, 3) := dk_182 0 172 (dk_at dksX0_alive_4 14 rfl rfl)
theorem dX0_alive_110 : decode cX0_alive 110 = .ok (.if_icmp .gt 7, 3) := dk_163 0 7 (dk_at dksX0_alive_4 17 rfl rfl)
theorem dX0_alive_113 : decode cX0_alive 113 = .ok (.iconst 1, 1) := dk_4 (dk_at dksX0_alive_4 20 rfl rfl)
theorem dX0_alive_114 : decode cX0_alive 114 = .ok (.goto 4, 3) := dk_167 0 4 (dk_at dksX0_alive_4 21 rfl rfl)
theorem dX0_alive_117 : decode cX0_alive 117 = .ok (.iconst 0, 1) := dk_3 (dk_at dksX0_alive_5 0 rfl rfl)
theorem dX0_alive_118 : decode cX0_alive 118 = .ok (.iand, 1) := dk_126 (dk_at dksX0_alive_5 1 rfl rfl)
theorem dX0_alive_119 : decode cX0_alive 119 = .ok (.istore 7, 2) := dk_54 7 (dk_at dksX0_alive_5 2 rfl rfl)
theorem dX0_alive_121 : decode cX0_alive 121 = .ok (.iload_n 3, 1) := dk_29 (dk_at dksX0_alive_5 4 rfl rfl)
theorem dX0_alive_122 : decode cX0_alive 122 = .ok (.aload 5, 2) := dk_25 5 (dk_at dksX0_alive_5 5 rfl rfl)
theorem dX0_alive_124 : decode cX0_alive 124 = .ok (.iload 8, 2) := dk_21 8 (dk_at dksX0_alive_5 7 rfl rfl)
theorem dX0_alive_126 : decode cX0_alive 126 = .ok (.invokevirtual 306, 3) := dk_182 1 50 (dk_at dksX0_alive_5 9 rfl rfl)
theorem dX0_alive_129 : decode cX0_alive 129 = .ok (.invokestatic 247, 3) := dk_184 0 247 (dk_at dksX0_alive_5 12 rfl rfl)
theorem dX0_alive_132 : decode cX0_alive 132 = .ok (.ifCond .eq 7, 3) := dk_153 0 7 (dk_at dksX0_alive_5 15 rfl rfl)
theorem dX0_alive_135 : decode cX0_alive 135 = .ok (.iconst 0, 1) := dk_3 (dk_at dksX0_alive_5 18 rfl rfl)
theorem dX0_alive_136 : decode cX0_alive 136 = .ok (.goto 5, 3) := dk_167 0 5 (dk_at dksX0_alive_5 19 rfl rfl)
theorem dX0_alive_139 : decode cX0_alive 139 = .ok (.iload 6, 2) := dk_21 6 (dk_at dksX0_alive_5 22 rfl rfl)
theorem dX0_alive_141 : decode cX0_alive 141 = .ok (.istore 6, 2) := dk_54 6 (dk_at dksX0_alive_6 0 rfl rfl)
theorem dX0_alive_143 : decode cX0_alive 143 = .ok (.iinc 8 1, 3) := dk_132 8 1 (dk_at dksX0_alive_6 2 rfl rfl)
theorem dX0_alive_146 : decode cX0_alive 146 = .ok (.goto (-104), 3) := dk_167 255 152 (dk_at dksX0_alive_6 5 rfl rfl)
theorem dX0_alive_149 : decode cX0_alive 149 = .ok (.iload 7, 2) := dk_21 7 (dk_at dksX0_alive_6 8 rfl rfl)
theorem dX0_alive_151 : decode cX0_alive 151 = .ok (.ifCond .eq 7, 3) := dk_153 0 7 (dk_at dksX0_alive_6 10 rfl rfl)
theorem dX0_alive_154 : decode cX0_alive 154 = .ok (.iconst 1, 1) := dk_4 (dk_at dksX0_alive_6 13 rfl rfl)
theorem dX0_alive_155 : decode cX0_alive 155 = .ok (.goto 4, 3) := dk_167 0 4 (dk_at dksX0_alive_6 14 rfl rfl)
theorem dX0_alive_158 : decode cX0_alive 158 = .ok (.iconst 0, 1) := dk_3 (dk_at dksX0_alive_6 17 rfl rfl)
theorem dX0_alive_159 : decode cX0_alive 159 = .ok (.ireturn, 1) := dk_172 (dk_at dksX0_alive_6 18 rfl rfl)
theorem dX0_alive_160 : decode cX0_alive 160 = .ok (.astore 4, 2) := dk_58 4 (dk_at dksX0_alive_6 19 rfl rfl)
theorem dX0_alive_162 : decode cX0_alive 162 = .ok (.aload_n 0, 1) := dk_42 (dk_at dksX0_alive_6 21 rfl rfl)
theorem dX0_alive_163 : decode cX0_alive 163 = .ok (.aload 4, 2) := dk_25 4 (dk_at dksX0_alive_6 22 rfl rfl)
theorem dX0_alive_165 : decode cX0_alive 165 = .ok (.invokevirtual 109, 3) := dk_182 0 109 (dk_at dksX0_alive_7 0 rfl rfl)
theorem dX0_alive_168 : decode cX0_alive 168 = .ok (.ireturn, 1) := dk_172 (dk_at dksX0_alive_7 3 rfl rfl)
abbrev cX0_grown : ByteArray := prog_1_method_51_code
def yX0_grown : MethodName := ⟨RX0, "grown", "(III)I"⟩
def dkwX0_grown_5 : List UInt8 := [58, 4, 42, 25, 4, 182, 0, 109, 172]
abbrev dktX0_grown_5 : List UInt8 := dkwX0_grown_5 ++ []
def dkwX0_grown_4 : List UInt8 := [54, 6, 132, 7, 1, 167, 255, 229, 21, 4, 21, 6, 96, 54, 4, 132, 5, 1, 167, 255, 189, 21, 4, 172]
abbrev dktX0_grown_4 : List UInt8 := dkwX0_grown_4 ++ dktX0_grown_5
def dkwX0_grown_3 : List UInt8 := [54, 7, 21, 7, 28, 162, 0, 27, 17, 39, 15, 21, 6, 21, 6, 29, 104, 16, 100, 108, 96, 184, 0, 253]
abbrev dktX0_grown_3 : List UInt8 := dkwX0_grown_3 ++ dktX0_grown_4
def dkwX0_grown_2 : List UInt8 := [16, 8, 162, 0, 66, 42, 180, 0, 46, 180, 0, 124, 16, 8, 27, 104, 21, 5, 96, 46, 54, 6, 3]
abbrev dktX0_grown_2 : List UInt8 := dkwX0_grown_2 ++ dktX0_grown_3
def dkwX0_grown_1 : List UInt8 := [184, 0, 85, 153, 0, 7, 4, 167, 0, 4, 3, 4, 182, 0, 100, 3, 54, 4, 3, 54, 5, 21, 5]
abbrev dktX0_grown_1 : List UInt8 := dkwX0_grown_1 ++ dktX0_grown_2
def dkwX0_grown_0 : List UInt8 := [42, 27, 184, 0, 89, 153, 0, 27, 28, 3, 16, 100, 184, 0, 85, 153, 0, 17, 29, 3, 16, 20]
abbrev dktX0_grown_0 : List UInt8 := dkwX0_grown_0 ++ dktX0_grown_1
theorem dksX0_grown_0 : cX0_grown.data.toList.drop 0 = dktX0_grown_0 := by decide +kernel
theorem dksX0_grown_1 : cX0_grown.data.toList.drop 22 = dktX0_grown_1 := dk_seg dksX0_grown_0 22 rfl rfl
theorem dksX0_grown_2 : cX0_grown.data.toList.drop 45 = dktX0_grown_2 := dk_seg dksX0_grown_1 23 rfl rfl
theorem dksX0_grown_3 : cX0_grown.data.toList.drop 68 = dktX0_grown_3 := dk_seg dksX0_grown_2 23 rfl rfl
theorem dksX0_grown_4 : cX0_grown.data.toList.drop 92 = dktX0_grown_4 := dk_seg dksX0_grown_3 24 rfl rfl
theorem dksX0_grown_5 : cX0_grown.data.toList.drop 116 = dktX0_grown_5 := dk_seg dksX0_grown_4 24 rfl rfl
theorem dX0_grown_0 : decode cX0_grown 0 = .ok (.aload_n 0, 1) := dk_42 (dk_at dksX0_grown_0 0 rfl rfl)
theorem dX0_grown_1 : decode cX0_grown 1 = .ok (.iload_n 1, 1) := dk_27 (dk_at dksX0_grown_0 1 rfl rfl)
theorem dX0_grown_2 : decode cX0_grown 2 = .ok (.invokestatic 89, 3) := dk_184 0 89 (dk_at dksX0_grown_0 2 rfl rfl)
theorem dX0_grown_5 : decode cX0_grown 5 = .ok (.ifCond .eq 27, 3) := dk_153 0 27 (dk_at dksX0_grown_0 5 rfl rfl)
theorem dX0_grown_8 : decode cX0_grown 8 = .ok (.iload_n 2, 1) := dk_28 (dk_at dksX0_grown_0 8 rfl rfl)
theorem dX0_grown_9 : decode cX0_grown 9 = .ok (.iconst 0, 1) := dk_3 (dk_at dksX0_grown_0 9 rfl rfl)
theorem dX0_grown_10 : decode cX0_grown 10 = .ok (.bipush 100, 2) := dk_16 100 (dk_at dksX0_grown_0 10 rfl rfl)
theorem dX0_grown_12 : decode cX0_grown 12 = .ok (.invokestatic 85, 3) := dk_184 0 85 (dk_at dksX0_grown_0 12 rfl rfl)
theorem dX0_grown_15 : decode cX0_grown 15 = .ok (.ifCond .eq 17, 3) := dk_153 0 17 (dk_at dksX0_grown_0 15 rfl rfl)
theorem dX0_grown_18 : decode cX0_grown 18 = .ok (.iload_n 3, 1) := dk_29 (dk_at dksX0_grown_0 18 rfl rfl)
theorem dX0_grown_19 : decode cX0_grown 19 = .ok (.iconst 0, 1) := dk_3 (dk_at dksX0_grown_0 19 rfl rfl)
theorem dX0_grown_20 : decode cX0_grown 20 = .ok (.bipush 20, 2) := dk_16 20 (dk_at dksX0_grown_0 20 rfl rfl)
theorem dX0_grown_22 : decode cX0_grown 22 = .ok (.invokestatic 85, 3) := dk_184 0 85 (dk_at dksX0_grown_1 0 rfl rfl)
theorem dX0_grown_25 : decode cX0_grown 25 = .ok (.ifCond .eq 7, 3) := dk_153 0 7 (dk_at dksX0_grown_1 3 rfl rfl)
theorem dX0_grown_28 : decode cX0_grown 28 = .ok (.iconst 1, 1) := dk_4 (dk_at dksX0_grown_1 6 rfl rfl)
theorem dX0_grown_29 : decode cX0_grown 29 = .ok (.goto 4, 3) := dk_167 0 4 (dk_at dksX0_grown_1 7 rfl rfl)
theorem dX0_grown_32 : decode cX0_grown 32 = .ok (.iconst 0, 1) := dk_3 (dk_at dksX0_grown_1 10 rfl rfl)
theorem dX0_grown_33 : decode cX0_grown 33 = .ok (.iconst 1, 1) := dk_4 (dk_at dksX0_grown_1 11 rfl rfl)
theorem dX0_grown_34 : decode cX0_grown 34 = .ok (.invokevirtual 100, 3) := dk_182 0 100 (dk_at dksX0_grown_1 12 rfl rfl)
theorem dX0_grown_37 : decode cX0_grown 37 = .ok (.iconst 0, 1) := dk_3 (dk_at dksX0_grown_1 15 rfl rfl)
theorem dX0_grown_38 : decode cX0_grown 38 = .ok (.istore 4, 2) := dk_54 4 (dk_at dksX0_grown_1 16 rfl rfl)
theorem dX0_grown_40 : decode cX0_grown 40 = .ok (.iconst 0, 1) := dk_3 (dk_at dksX0_grown_1 18 rfl rfl)
theorem dX0_grown_41 : decode cX0_grown 41 = .ok (.istore 5, 2) := dk_54 5 (dk_at dksX0_grown_1 19 rfl rfl)
theorem dX0_grown_43 : decode cX0_grown 43 = .ok (.iload 5, 2) := dk_21 5 (dk_at dksX0_grown_1 21 rfl rfl)
theorem dX0_grown_45 : decode cX0_grown 45 = .ok (.bipush 8, 2) := dk_16 8 (dk_at dksX0_grown_2 0 rfl rfl)
theorem dX0_grown_47 : decode cX0_grown 47 = .ok (.if_icmp .ge 66, 3) := dk_162 0 66 (dk_at dksX0_grown_2 2 rfl rfl)
theorem dX0_grown_50 : decode cX0_grown 50 = .ok (.aload_n 0, 1) := dk_42 (dk_at dksX0_grown_2 5 rfl rfl)
theorem dX0_grown_51 : decode cX0_grown 51 = .ok (.getfield 46, 3) := dk_180 0 46 (dk_at dksX0_grown_2 6 rfl rfl)
theorem dX0_grown_54 : decode cX0_grown 54 = .ok (.getfield 124, 3) := dk_180 0 124 (dk_at dksX0_grown_2 9 rfl rfl)
theorem dX0_grown_57 : decode cX0_grown 57 = .ok (.bipush 8, 2) := dk_16 8 (dk_at dksX0_grown_2 12 rfl rfl)
theorem dX0_grown_59 : decode cX0_grown 59 = .ok (.iload_n 1, 1) := dk_27 (dk_at dksX0_grown_2 14 rfl rfl)
theorem dX0_grown_60 : decode cX0_grown 60 = .ok (.imul, 1) := dk_104 (dk_at dksX0_grown_2 15 rfl rfl)
theorem dX0_grown_61 : decode cX0_grown 61 = .ok (.iload 5, 2) := dk_21 5 (dk_at dksX0_grown_2 16 rfl rfl)
theorem dX0_grown_63 : decode cX0_grown 63 = .ok (.iadd, 1) := dk_96 (dk_at dksX0_grown_2 18 rfl rfl)
theorem dX0_grown_64 : decode cX0_grown 64 = .ok (.iaload, 1) := dk_46 (dk_at dksX0_grown_2 19 rfl rfl)
theorem dX0_grown_65 : decode cX0_grown 65 = .ok (.istore 6, 2) := dk_54 6 (dk_at dksX0_grown_2 20 rfl rfl)
theorem dX0_grown_67 : decode cX0_grown 67 = .ok (.iconst 0, 1) := dk_3 (dk_at dksX0_grown_2 22 rfl rfl)
theorem dX0_grown_68 : decode cX0_grown 68 = .ok (.istore 7, 2) := dk_54 7 (dk_at dksX0_grown_3 0 rfl rfl)
theorem dX0_grown_70 : decode cX0_grown 70 = .ok (.iload 7, 2) := dk_21 7 (dk_at dksX0_grown_3 2 rfl rfl)
theorem dX0_grown_72 : decode cX0_grown 72 = .ok (.iload_n 2, 1) := dk_28 (dk_at dksX0_grown_3 4 rfl rfl)
theorem dX0_grown_73 : decode cX0_grown 73 = .ok (.if_icmp .ge 27, 3) := dk_162 0 27 (dk_at dksX0_grown_3 5 rfl rfl)
theorem dX0_grown_76 : decode cX0_grown 76 = .ok (.sipush 9999, 3) := dk_17 39 15 (dk_at dksX0_grown_3 8 rfl rfl)
theorem dX0_grown_79 : decode cX0_grown 79 = .ok (.iload 6, 2) := dk_21 6 (dk_at dksX0_grown_3 11 rfl rfl)
theorem dX0_grown_81 : decode cX0_grown 81 = .ok (.iload 6, 2) := dk_21 6 (dk_at dksX0_grown_3 13 rfl rfl)
theorem dX0_grown_83 : decode cX0_grown 83 = .ok (.iload_n 3, 1) := dk_29 (dk_at dksX0_grown_3 15 rfl rfl)
theorem dX0_grown_84 : decode cX0_grown 84 = .ok (.imul, 1) := dk_104 (dk_at dksX0_grown_3 16 rfl rfl)
theorem dX0_grown_85 : decode cX0_grown 85 = .ok (.bipush 100, 2) := dk_16 100 (dk_at dksX0_grown_3 17 rfl rfl)
theorem dX0_grown_87 : decode cX0_grown 87 = .ok (.idiv, 1) := dk_108 (dk_at dksX0_grown_3 19 rfl rfl)
theorem dX0_grown_88 : decode cX0_grown 88 = .ok (.iadd, 1) := dk_96 (dk_at dksX0_grown_3 20 rfl rfl)
theorem dX0_grown_89 : decode cX0_grown 89 = .ok (.invokestatic 253, 3) := dk_184 0 253 (dk_at dksX0_grown_3 21 rfl rfl)
theorem dX0_grown_92 : decode cX0_grown 92 = .ok (.istore 6, 2) := dk_54 6 (dk_at dksX0_grown_4 0 rfl rfl)
theorem dX0_grown_94 : decode cX0_grown 94 = .ok (.iinc 7 1, 3) := dk_132 7 1 (dk_at dksX0_grown_4 2 rfl rfl)
theorem dX0_grown_97 : decode cX0_grown 97 = .ok (.goto (-27), 3) := dk_167 255 229 (dk_at dksX0_grown_4 5 rfl rfl)
theorem dX0_grown_100 : decode cX0_grown 100 = .ok (.iload 4, 2) := dk_21 4 (dk_at dksX0_grown_4 8 rfl rfl)
theorem dX0_grown_102 : decode cX0_grown 102 = .ok (.iload 6, 2) := dk_21 6 (dk_at dksX0_grown_4 10 rfl rfl)
theorem dX0_grown_104 : decode cX0_grown 104 = .ok (.iadd, 1) := dk_96 (dk_at dksX0_grown_4 12 rfl rfl)
theorem dX0_grown_105 : decode cX0_grown 105 = .ok (.istore 4, 2) := dk_54 4 (dk_at dksX0_grown_4 13 rfl rfl)
theorem dX0_grown_107 : decode cX0_grown 107 = .ok (.iinc 5 1, 3) := dk_132 5 1 (dk_at dksX0_grown_4 15 rfl rfl)
theorem dX0_grown_110 : decode cX0_grown 110 = .ok (.goto (-67), 3) := dk_167 255 189 (dk_at dksX0_grown_4 18 rfl rfl)
theorem dX0_grown_113 : decode cX0_grown 113 = .ok (.iload 4, 2) := dk_21 4 (dk_at dksX0_grown_4 21 rfl rfl)
theorem dX0_grown_115 : decode cX0_grown 115 = .ok (.ireturn, 1) := dk_172 (dk_at dksX0_grown_4 23 rfl rfl)
theorem dX0_grown_116 : decode cX0_grown 116 = .ok (.astore 4, 2) := dk_58 4 (dk_at dksX0_grown_5 0 rfl rfl)
theorem dX0_grown_118 : decode cX0_grown 118 = .ok (.aload_n 0, 1) := dk_42 (dk_at dksX0_grown_5 2 rfl rfl)
theorem dX0_grown_119 : decode cX0_grown 119 = .ok (.aload 4, 2) := dk_25 4 (dk_at dksX0_grown_5 3 rfl rfl)
theorem dX0_grown_121 : decode cX0_grown 121 = .ok (.invokevirtual 109, 3) := dk_182 0 109 (dk_at dksX0_grown_5 5 rfl rfl)
theorem dX0_grown_124 : decode cX0_grown 124 = .ok (.ireturn, 1) := dk_172 (dk_at dksX0_grown_5 8 rfl rfl)
abbrev cX0_seed : ByteArray := prog_1_method_52_code
def yX0_seed : MethodName := ⟨RX0, "seed", "(I)I"⟩
def dkwX0_seed_0 : List UInt8 := [42, 180, 0, 46, 180, 1, 59, 61, 42, 180, 0, 46, 27, 181, 1, 59, 28, 172]
abbrev dktX0_seed_0 : List UInt8 := dkwX0_seed_0 ++ []
theorem dksX0_seed_0 : cX0_seed.data.toList.drop 0 = dktX0_seed_0 := by decide +kernel
theorem dX0_seed_0 : decode cX0_seed 0 = .ok (.aload_n 0, 1) := dk_42 (dk_at dksX0_seed_0 0 rfl rfl)
theorem dX0_seed_1 : decode cX0_seed 1 = .ok (.getfield 46, 3) := dk_180 0 46 (dk_at dksX0_seed_0 1 rfl rfl)
theorem dX0_seed_4 : decode cX0_seed 4 = .ok (.getfield 315, 3) := dk_180 1 59 (dk_at dksX0_seed_0 4 rfl rfl)
theorem dX0_seed_7 : decode cX0_seed 7 = .ok (.istore_n 2, 1) := dk_61 (dk_at dksX0_seed_0 7 rfl rfl)
theorem dX0_seed_8 : decode cX0_seed 8 = .ok (.aload_n 0, 1) := dk_42 (dk_at dksX0_seed_0 8 rfl rfl)
theorem dX0_seed_9 : decode cX0_seed 9 = .ok (.getfield 46, 3) := dk_180 0 46 (dk_at dksX0_seed_0 9 rfl rfl)
theorem dX0_seed_12 : decode cX0_seed 12 = .ok (.iload_n 1, 1) := dk_27 (dk_at dksX0_seed_0 12 rfl rfl)
theorem dX0_seed_13 : decode cX0_seed 13 = .ok (.putfield 315, 3) := dk_181 1 59 (dk_at dksX0_seed_0 13 rfl rfl)
theorem dX0_seed_16 : decode cX0_seed 16 = .ok (.iload_n 2, 1) := dk_28 (dk_at dksX0_seed_0 16 rfl rfl)
theorem dX0_seed_17 : decode cX0_seed 17 = .ok (.ireturn, 1) := dk_172 (dk_at dksX0_seed_0 17 rfl rfl)
abbrev cX0_voice : ByteArray := prog_1_method_53_code
def yX0_voice : MethodName := ⟨RX0, "voice", "(III)I"⟩
def dkwX0_voice_3 : List UInt8 := [185, 1, 74, 2, 0, 172, 25, 4, 29, 185, 1, 79, 2, 0, 172, 58, 4, 42, 25, 4, 182, 0, 109, 172]
abbrev dktX0_voice_3 : List UInt8 := dkwX0_voice_3 ++ []
def dkwX0_voice_2 : List UInt8 := [25, 4, 29, 185, 1, 65, 2, 0, 172, 25, 4, 29, 185, 1, 69, 2, 0, 172, 25, 4, 29]
abbrev dktX0_voice_2 : List UInt8 := dkwX0_voice_2 ++ dktX0_voice_3
def dkwX0_voice_1 : List UInt8 := [170, 0, 0, 0, 0, 53, 0, 0, 0, 0, 0, 0, 0, 2, 0, 0, 0, 26, 0, 0, 0, 35, 0, 0, 0, 44]
abbrev dktX0_voice_1 : List UInt8 := dkwX0_voice_1 ++ dktX0_voice_2
def dkwX0_voice_0 : List UInt8 := [42, 27, 28, 3, 6, 184, 0, 85, 182, 0, 161, 58, 4, 42, 180, 0, 59, 3, 181, 1, 62, 28]
abbrev dktX0_voice_0 : List UInt8 := dkwX0_voice_0 ++ dktX0_voice_1
theorem dksX0_voice_0 : cX0_voice.data.toList.drop 0 = dktX0_voice_0 := by decide +kernel
theorem dksX0_voice_1 : cX0_voice.data.toList.drop 22 = dktX0_voice_1 := dk_seg dksX0_voice_0 22 rfl rfl
theorem dksX0_voice_2 : cX0_voice.data.toList.drop 48 = dktX0_voice_2 := dk_seg dksX0_voice_1 26 rfl rfl
theorem dksX0_voice_3 : cX0_voice.data.toList.drop 69 = dktX0_voice_3 := dk_seg dksX0_voice_2 21 rfl rfl
theorem dX0_voice_0 : decode cX0_voice 0 = .ok (.aload_n 0, 1) := dk_42 (dk_at dksX0_voice_0 0 rfl rfl)
theorem dX0_voice_1 : decode cX0_voice 1 = .ok (.iload_n 1, 1) := dk_27 (dk_at dksX0_voice_0 1 rfl rfl)
theorem dX0_voice_2 : decode cX0_voice 2 = .ok (.iload_n 2, 1) := dk_28 (dk_at dksX0_voice_0 2 rfl rfl)
theorem dX0_voice_3 : decode cX0_voice 3 = .ok (.iconst 0, 1) := dk_3 (dk_at dksX0_voice_0 3 rfl rfl)
theorem dX0_voice_4 : decode cX0_voice 4 = .ok (.iconst 3, 1) := dk_6 (dk_at dksX0_voice_0 4 rfl rfl)
theorem dX0_voice_5 : decode cX0_voice 5 = .ok (.invokestatic 85, 3) := dk_184 0 85 (dk_at dksX0_voice_0 5 rfl rfl)
theorem dX0_voice_8 : decode cX0_voice 8 = .ok (.invokevirtual 161, 3) := dk_182 0 161 (dk_at dksX0_voice_0 8 rfl rfl)
theorem dX0_voice_11 : decode cX0_voice 11 = .ok (.astore 4, 2) := dk_58 4 (dk_at dksX0_voice_0 11 rfl rfl)
theorem dX0_voice_13 : decode cX0_voice 13 = .ok (.aload_n 0, 1) := dk_42 (dk_at dksX0_voice_0 13 rfl rfl)
theorem dX0_voice_14 : decode cX0_voice 14 = .ok (.getfield 59, 3) := dk_180 0 59 (dk_at dksX0_voice_0 14 rfl rfl)
theorem dX0_voice_17 : decode cX0_voice 17 = .ok (.iconst 0, 1) := dk_3 (dk_at dksX0_voice_0 17 rfl rfl)
theorem dX0_voice_18 : decode cX0_voice 18 = .ok (.putfield 318, 3) := dk_181 1 62 (dk_at dksX0_voice_0 18 rfl rfl)
theorem dX0_voice_21 : decode cX0_voice 21 = .ok (.iload_n 2, 1) := dk_28 (dk_at dksX0_voice_0 21 rfl rfl)
theorem dX0_voice_22 : decode cX0_voice 22 = .ok (.tableswitch 53 0 2 #[26, 35, 44], 26) := by decide +kernel
theorem dX0_voice_48 : decode cX0_voice 48 = .ok (.aload 4, 2) := dk_25 4 (dk_at dksX0_voice_2 0 rfl rfl)
theorem dX0_voice_50 : decode cX0_voice 50 = .ok (.iload_n 3, 1) := dk_29 (dk_at dksX0_voice_2 2 rfl rfl)
theorem dX0_voice_51 : decode cX0_voice 51 = .ok (.invokeinterface 321 2, 5) := by decide +kernel
theorem dX0_voice_56 : decode cX0_voice 56 = .ok (.ireturn, 1) := dk_172 (dk_at dksX0_voice_2 8 rfl rfl)
theorem dX0_voice_57 : decode cX0_voice 57 = .ok (.aload 4, 2) := dk_25 4 (dk_at dksX0_voice_2 9 rfl rfl)
theorem dX0_voice_59 : decode cX0_voice 59 = .ok (.iload_n 3, 1) := dk_29 (dk_at dksX0_voice_2 11 rfl rfl)
theorem dX0_voice_60 : decode cX0_voice 60 = .ok (.invokeinterface 325 2, 5) := by decide +kernel
theorem dX0_voice_65 : decode cX0_voice 65 = .ok (.ireturn, 1) := dk_172 (dk_at dksX0_voice_2 17 rfl rfl)
theorem dX0_voice_66 : decode cX0_voice 66 = .ok (.aload 4, 2) := dk_25 4 (dk_at dksX0_voice_2 18 rfl rfl)
theorem dX0_voice_68 : decode cX0_voice 68 = .ok (.iload_n 3, 1) := dk_29 (dk_at dksX0_voice_2 20 rfl rfl)
theorem dX0_voice_69 : decode cX0_voice 69 = .ok (.invokeinterface 330 2, 5) := by decide +kernel
theorem dX0_voice_74 : decode cX0_voice 74 = .ok (.ireturn, 1) := dk_172 (dk_at dksX0_voice_3 5 rfl rfl)
theorem dX0_voice_75 : decode cX0_voice 75 = .ok (.aload 4, 2) := dk_25 4 (dk_at dksX0_voice_3 6 rfl rfl)
theorem dX0_voice_77 : decode cX0_voice 77 = .ok (.iload_n 3, 1) := dk_29 (dk_at dksX0_voice_3 8 rfl rfl)
theorem dX0_voice_78 : decode cX0_voice 78 = .ok (.invokeinterface 335 2, 5) := by decide +kernel
theorem dX0_voice_83 : decode cX0_voice 83 = .ok (.ireturn, 1) := dk_172 (dk_at dksX0_voice_3 14 rfl rfl)
theorem dX0_voice_84 : decode cX0_voice 84 = .ok (.astore 4, 2) := dk_58 4 (dk_at dksX0_voice_3 15 rfl rfl)
theorem dX0_voice_86 : decode cX0_voice 86 = .ok (.aload_n 0, 1) := dk_42 (dk_at dksX0_voice_3 17 rfl rfl)
theorem dX0_voice_87 : decode cX0_voice 87 = .ok (.aload 4, 2) := dk_25 4 (dk_at dksX0_voice_3 18 rfl rfl)
theorem dX0_voice_89 : decode cX0_voice 89 = .ok (.invokevirtual 109, 3) := dk_182 0 109 (dk_at dksX0_voice_3 20 rfl rfl)
theorem dX0_voice_92 : decode cX0_voice 92 = .ok (.ireturn, 1) := dk_172 (dk_at dksX0_voice_3 23 rfl rfl)
abbrev cX0_trace : ByteArray := prog_1_method_54_code
def yX0_trace : MethodName := ⟨RX0, "trace", "(I)I"⟩
def dkwX0_trace_1 : List UInt8 := [180, 1, 84, 27, 46, 172, 77, 42, 44, 182, 0, 109, 172]
abbrev dktX0_trace_1 : List UInt8 := dkwX0_trace_1 ++ []
def dkwX0_trace_0 : List UInt8 := [42, 27, 3, 42, 180, 0, 59, 180, 1, 62, 4, 100, 184, 0, 85, 5, 182, 0, 100, 42, 180, 0, 59]
abbrev dktX0_trace_0 : List UInt8 := dkwX0_trace_0 ++ dktX0_trace_1
theorem dksX0_trace_0 : cX0_trace.data.toList.drop 0 = dktX0_trace_0 := by decide +kernel
theorem dksX0_trace_1 : cX0_trace.data.toList.drop 23 = dktX0_trace_1 := dk_seg dksX0_trace_0 23 rfl rfl
theorem dX0_trace_0 : decode cX0_trace 0 = .ok (.aload_n 0, 1) := dk_42 (dk_at dksX0_trace_0 0 rfl rfl)
theorem dX0_trace_1 : decode cX0_trace 1 = .ok (.iload_n 1, 1) := dk_27 (dk_at dksX0_trace_0 1 rfl rfl)
theorem dX0_trace_2 : decode cX0_trace 2 = .ok (.iconst 0, 1) := dk_3 (dk_at dksX0_trace_0 2 rfl rfl)
theorem dX0_trace_3 : decode cX0_trace 3 = .ok (.aload_n 0, 1) := dk_42 (dk_at dksX0_trace_0 3 rfl rfl)
theorem dX0_trace_4 : decode cX0_trace 4 = .ok (.getfield 59, 3) := dk_180 0 59 (dk_at dksX0_trace_0 4 rfl rfl)
theorem dX0_trace_7 : decode cX0_trace 7 = .ok (.getfield 318, 3) := dk_180 1 62 (dk_at dksX0_trace_0 7 rfl rfl)
theorem dX0_trace_10 : decode cX0_trace 10 = .ok (.iconst 1, 1) := dk_4 (dk_at dksX0_trace_0 10 rfl rfl)
theorem dX0_trace_11 : decode cX0_trace 11 = .ok (.isub, 1) := dk_100 (dk_at dksX0_trace_0 11 rfl rfl)
theorem dX0_trace_12 : decode cX0_trace 12 = .ok (.invokestatic 85, 3) := dk_184 0 85 (dk_at dksX0_trace_0 12 rfl rfl)
theorem dX0_trace_15 : decode cX0_trace 15 = .ok (.iconst 2, 1) := dk_5 (dk_at dksX0_trace_0 15 rfl rfl)
theorem dX0_trace_16 : decode cX0_trace 16 = .ok (.invokevirtual 100, 3) := dk_182 0 100 (dk_at dksX0_trace_0 16 rfl rfl)
theorem dX0_trace_19 : decode cX0_trace 19 = .ok (.aload_n 0, 1) := dk_42 (dk_at dksX0_trace_0 19 rfl rfl)
theorem dX0_trace_20 : decode cX0_trace 20 = .ok (.getfield 59, 3) := dk_180 0 59 (dk_at dksX0_trace_0 20 rfl rfl)
theorem dX0_trace_23 : decode cX0_trace 23 = .ok (.getfield 340, 3) := dk_180 1 84 (dk_at dksX0_trace_1 0 rfl rfl)
theorem dX0_trace_26 : decode cX0_trace 26 = .ok (.iload_n 1, 1) := dk_27 (dk_at dksX0_trace_1 3 rfl rfl)
theorem dX0_trace_27 : decode cX0_trace 27 = .ok (.iaload, 1) := dk_46 (dk_at dksX0_trace_1 4 rfl rfl)
theorem dX0_trace_28 : decode cX0_trace 28 = .ok (.ireturn, 1) := dk_172 (dk_at dksX0_trace_1 5 rfl rfl)
theorem dX0_trace_29 : decode cX0_trace 29 = .ok (.astore_n 2, 1) := dk_77 (dk_at dksX0_trace_1 6 rfl rfl)
theorem dX0_trace_30 : decode cX0_trace 30 = .ok (.aload_n 0, 1) := dk_42 (dk_at dksX0_trace_1 7 rfl rfl)
theorem dX0_trace_31 : decode cX0_trace 31 = .ok (.aload_n 2, 1) := dk_44 (dk_at dksX0_trace_1 8 rfl rfl)
theorem dX0_trace_32 : decode cX0_trace 32 = .ok (.invokevirtual 109, 3) := dk_182 0 109 (dk_at dksX0_trace_1 9 rfl rfl)
theorem dX0_trace_35 : decode cX0_trace 35 = .ok (.ireturn, 1) := dk_172 (dk_at dksX0_trace_1 12 rfl rfl)
abbrev cX0_waters : ByteArray := prog_1_method_55_code
def yX0_waters : MethodName := ⟨RX0, "waters", "(I)I"⟩
def dkwX0_waters_3 : List UInt8 := [44, 182, 0, 109, 172]
abbrev dktX0_waters_3 : List UInt8 := dkwX0_waters_3 ++ []
def dkwX0_waters_2 : List UInt8 := [42, 180, 0, 46, 180, 0, 106, 29, 44, 29, 182, 1, 50, 79, 132, 3, 1, 167, 255, 210, 29, 172, 77, 42]
abbrev dktX0_waters_2 : List UInt8 := dkwX0_waters_2 ++ dktX0_waters_3
def dkwX0_waters_1 : List UInt8 := [162, 0, 44, 29, 184, 0, 89, 153, 0, 37, 44, 29, 182, 1, 50, 3, 16, 99, 184, 0, 85, 153, 0, 23]
abbrev dktX0_waters_1 : List UInt8 := dkwX0_waters_1 ++ dktX0_waters_2
def dkwX0_waters_0 : List UInt8 := [42, 27, 184, 1, 53, 4, 182, 0, 100, 42, 27, 182, 1, 43, 77, 3, 62, 29, 44, 182, 1, 47]
abbrev dktX0_waters_0 : List UInt8 := dkwX0_waters_0 ++ dktX0_waters_1
theorem dksX0_waters_0 : cX0_waters.data.toList.drop 0 = dktX0_waters_0 := by decide +kernel
theorem dksX0_waters_1 : cX0_waters.data.toList.drop 22 = dktX0_waters_1 := dk_seg dksX0_waters_0 22 rfl rfl
theorem dksX0_waters_2 : cX0_waters.data.toList.drop 46 = dktX0_waters_2 := dk_seg dksX0_waters_1 24 rfl rfl
theorem dksX0_waters_3 : cX0_waters.data.toList.drop 70 = dktX0_waters_3 := dk_seg dksX0_waters_2 24 rfl rfl
theorem dX0_waters_0 : decode cX0_waters 0 = .ok (.aload_n 0, 1) := dk_42 (dk_at dksX0_waters_0 0 rfl rfl)
theorem dX0_waters_1 : decode cX0_waters 1 = .ok (.iload_n 1, 1) := dk_27 (dk_at dksX0_waters_0 1 rfl rfl)
theorem dX0_waters_2 : decode cX0_waters 2 = .ok (.invokestatic 309, 3) := dk_184 1 53 (dk_at dksX0_waters_0 2 rfl rfl)
theorem dX0_waters_5 : decode cX0_waters 5 = .ok (.iconst 1, 1) := dk_4 (dk_at dksX0_waters_0 5 rfl rfl)
theorem dX0_waters_6 : decode cX0_waters 6 = .ok (.invokevirtual 100, 3) := dk_182 0 100 (dk_at dksX0_waters_0 6 rfl rfl)
theorem dX0_waters_9 : decode cX0_waters 9 = .ok (.aload_n 0, 1) := dk_42 (dk_at dksX0_waters_0 9 rfl rfl)
theorem dX0_waters_10 : decode cX0_waters 10 = .ok (.iload_n 1, 1) := dk_27 (dk_at dksX0_waters_0 10 rfl rfl)
theorem dX0_waters_11 : decode cX0_waters 11 = .ok (.invokevirtual 299, 3) := dk_182 1 43 (dk_at dksX0_waters_0 11 rfl rfl)
theorem dX0_waters_14 : decode cX0_waters 14 = .ok (.astore_n 2, 1) := dk_77 (dk_at dksX0_waters_0 14 rfl rfl)
theorem dX0_waters_15 : decode cX0_waters 15 = .ok (.iconst 0, 1) := dk_3 (dk_at dksX0_waters_0 15 rfl rfl)
theorem dX0_waters_16 : decode cX0_waters 16 = .ok (.istore_n 3, 1) := dk_62 (dk_at dksX0_waters_0 16 rfl rfl)
theorem dX0_waters_17 : decode cX0_waters 17 = .ok (.iload_n 3, 1) := dk_29 (dk_at dksX0_waters_0 17 rfl rfl)
theorem dX0_waters_18 : decode cX0_waters 18 = .ok (.aload_n 2, 1) := dk_44 (dk_at dksX0_waters_0 18 rfl rfl)
theorem dX0_waters_19 : decode cX0_waters 19 = .ok (.invokevirtual 303, 3) := dk_182 1 47 (dk_at dksX0_waters_0 19 rfl rfl)
theorem dX0_waters_22 : decode cX0_waters 22 = .ok (.if_icmp .ge 44, 3) := dk_162 0 44 (dk_at dksX0_waters_1 0 rfl rfl)
theorem dX0_waters_25 : decode cX0_waters 25 = .ok (.iload_n 3, 1) := dk_29 (dk_at dksX0_waters_1 3 rfl rfl)
theorem dX0_waters_26 : decode cX0_waters 26 = .ok (.invokestatic 89, 3) := dk_184 0 89 (dk_at dksX0_waters_1 4 rfl rfl)
theorem dX0_waters_29 : decode cX0_waters 29 = .ok (.ifCond .eq 37, 3) := dk_153 0 37 (dk_at dksX0_waters_1 7 rfl rfl)
theorem dX0_waters_32 : decode cX0_waters 32 = .ok (.aload_n 2, 1) := dk_44 (dk_at dksX0_waters_1 10 rfl rfl)
theorem dX0_waters_33 : decode cX0_waters 33 = .ok (.iload_n 3, 1) := dk_29 (dk_at dksX0_waters_1 11 rfl rfl)
theorem dX0_waters_34 : decode cX0_waters 34 = .ok (.invokevirtual 306, 3) := dk_182 1 50 (dk_at dksX0_waters_1 12 rfl rfl)
theorem dX0_waters_37 : decode cX0_waters 37 = .ok (.iconst 0, 1) := dk_3 (dk_at dksX0_waters_1 15 rfl rfl)
theorem dX0_waters_38 : decode cX0_waters 38 = .ok (.bipush 99, 2) := dk_16 99 (dk_at dksX0_waters_1 16 rfl rfl)
theorem dX0_waters_40 : decode cX0_waters 40 = .ok (.invokestatic 85, 3) := dk_184 0 85 (dk_at dksX0_waters_1 18 rfl rfl)
theorem dX0_waters_43 : decode cX0_waters 43 = .ok (.ifCond .eq 23, 3) := dk_153 0 23 (dk_at dksX0_waters_1 21 rfl rfl)
theorem dX0_waters_46 : decode cX0_waters 46 = .ok (.aload_n 0, 1) := dk_42 (dk_at dksX0_waters_2 0 rfl rfl)
theorem dX0_waters_47 : decode cX0_waters 47 = .ok (.getfield 46, 3) := dk_180 0 46 (dk_at dksX0_waters_2 1 rfl rfl)
theorem dX0_waters_50 : decode cX0_waters 50 = .ok (.getfield 106, 3) := dk_180 0 106 (dk_at dksX0_waters_2 4 rfl rfl)
theorem dX0_waters_53 : decode cX0_waters 53 = .ok (.iload_n 3, 1) := dk_29 (dk_at dksX0_waters_2 7 rfl rfl)
theorem dX0_waters_54 : decode cX0_waters 54 = .ok (.aload_n 2, 1) := dk_44 (dk_at dksX0_waters_2 8 rfl rfl)
theorem dX0_waters_55 : decode cX0_waters 55 = .ok (.iload_n 3, 1) := dk_29 (dk_at dksX0_waters_2 9 rfl rfl)
theorem dX0_waters_56 : decode cX0_waters 56 = .ok (.invokevirtual 306, 3) := dk_182 1 50 (dk_at dksX0_waters_2 10 rfl rfl)
theorem dX0_waters_59 : decode cX0_waters 59 = .ok (.iastore, 1) := dk_79 (dk_at dksX0_waters_2 13 rfl rfl)
theorem dX0_waters_60 : decode cX0_waters 60 = .ok (.iinc 3 1, 3) := dk_132 3 1 (dk_at dksX0_waters_2 14 rfl rfl)
theorem dX0_waters_63 : decode cX0_waters 63 = .ok (.goto (-46), 3) := dk_167 255 210 (dk_at dksX0_waters_2 17 rfl rfl)
theorem dX0_waters_66 : decode cX0_waters 66 = .ok (.iload_n 3, 1) := dk_29 (dk_at dksX0_waters_2 20 rfl rfl)
theorem dX0_waters_67 : decode cX0_waters 67 = .ok (.ireturn, 1) := dk_172 (dk_at dksX0_waters_2 21 rfl rfl)
theorem dX0_waters_68 : decode cX0_waters 68 = .ok (.astore_n 2, 1) := dk_77 (dk_at dksX0_waters_2 22 rfl rfl)
theorem dX0_waters_69 : decode cX0_waters 69 = .ok (.aload_n 0, 1) := dk_42 (dk_at dksX0_waters_2 23 rfl rfl)
theorem dX0_waters_70 : decode cX0_waters 70 = .ok (.aload_n 2, 1) := dk_44 (dk_at dksX0_waters_3 0 rfl rfl)
theorem dX0_waters_71 : decode cX0_waters 71 = .ok (.invokevirtual 109, 3) := dk_182 0 109 (dk_at dksX0_waters_3 1 rfl rfl)
theorem dX0_waters_74 : decode cX0_waters 74 = .ok (.ireturn, 1) := dk_172 (dk_at dksX0_waters_3 4 rfl rfl)
abbrev cX0_judge : ByteArray := prog_1_method_56_code
def yX0_judge : MethodName := ⟨RX0, "judge", "(I)I"⟩
def dkwX0_judge_3 : List UInt8 := [180, 0, 93, 160, 0, 7, 2, 167, 0, 4, 29, 172, 77, 42, 44, 182, 0, 109, 172]
abbrev dktX0_judge_3 : List UInt8 := dkwX0_judge_3 ++ []
def dkwX0_judge_2 : List UInt8 := [46, 160, 0, 9, 132, 3, 1, 167, 255, 220, 29, 44, 182, 1, 47, 160, 0, 18, 29, 42, 180, 0, 46]
abbrev dktX0_judge_2 : List UInt8 := dkwX0_judge_2 ++ dktX0_judge_3
def dkwX0_judge_1 : List UInt8 := [162, 0, 34, 42, 29, 182, 0, 158, 153, 0, 26, 44, 29, 182, 1, 50, 42, 180, 0, 46, 180, 0, 131, 29]
abbrev dktX0_judge_1 : List UInt8 := dkwX0_judge_1 ++ dktX0_judge_2
def dkwX0_judge_0 : List UInt8 := [42, 27, 184, 1, 53, 4, 182, 0, 100, 42, 27, 182, 1, 43, 77, 3, 62, 29, 44, 182, 1, 47]
abbrev dktX0_judge_0 : List UInt8 := dkwX0_judge_0 ++ dktX0_judge_1
theorem dksX0_judge_0 : cX0_judge.data.toList.drop 0 = dktX0_judge_0 := by decide +kernel
theorem dksX0_judge_1 : cX0_judge.data.toList.drop 22 = dktX0_judge_1 := dk_seg dksX0_judge_0 22 rfl rfl
theorem dksX0_judge_2 : cX0_judge.data.toList.drop 46 = dktX0_judge_2 := dk_seg dksX0_judge_1 24 rfl rfl
theorem dksX0_judge_3 : cX0_judge.data.toList.drop 69 = dktX0_judge_3 := dk_seg dksX0_judge_2 23 rfl rfl
theorem dX0_judge_0 : decode cX0_judge 0 = .ok (.aload_n 0, 1) := dk_42 (dk_at dksX0_judge_0 0 rfl rfl)
theorem dX0_judge_1 : decode cX0_judge 1 = .ok (.iload_n 1, 1) := dk_27 (dk_at dksX0_judge_0 1 rfl rfl)
theorem dX0_judge_2 : decode cX0_judge 2 = .ok (.invokestatic 309, 3) := dk_184 1 53 (dk_at dksX0_judge_0 2 rfl rfl)
theorem dX0_judge_5 : decode cX0_judge 5 = .ok (.iconst 1, 1) := dk_4 (dk_at dksX0_judge_0 5 rfl rfl)
theorem dX0_judge_6 : decode cX0_judge 6 = .ok (.invokevirtual 100, 3) := dk_182 0 100 (dk_at dksX0_judge_0 6 rfl rfl)
theorem dX0_judge_9 : decode cX0_judge 9 = .ok (.aload_n 0, 1) := dk_42 (dk_at dksX0_judge_0 9 rfl rfl)
theorem dX0_judge_10 : decode cX0_judge 10 = .ok (.iload_n 1, 1) := dk_27 (dk_at dksX0_judge_0 10 rfl rfl)
theorem dX0_judge_11 : decode cX0_judge 11 = .ok (.invokevirtual 299, 3) := dk_182 1 43 (dk_at dksX0_judge_0 11 rfl rfl)
theorem dX0_judge_14 : decode cX0_judge 14 = .ok (.astore_n 2, 1) := dk_77 (dk_at dksX0_judge_0 14 rfl rfl)
theorem dX0_judge_15 : decode cX0_judge 15 = .ok (.iconst 0, 1) := dk_3 (dk_at dksX0_judge_0 15 rfl rfl)
theorem dX0_judge_16 : decode cX0_judge 16 = .ok (.istore_n 3, 1) := dk_62 (dk_at dksX0_judge_0 16 rfl rfl)
theorem dX0_judge_17 : decode cX0_judge 17 = .ok (.iload_n 3, 1) := dk_29 (dk_at dksX0_judge_0 17 rfl rfl)
theorem dX0_judge_18 : decode cX0_judge 18 = .ok (.aload_n 2, 1) := dk_44 (dk_at dksX0_judge_0 18 rfl rfl)
theorem dX0_judge_19 : decode cX0_judge 19 = .ok (.invokevirtual 303, 3) := dk_182 1 47 (dk_at dksX0_judge_0 19 rfl rfl)
theorem dX0_judge_22 : decode cX0_judge 22 = .ok (.if_icmp .ge 34, 3) := dk_162 0 34 (dk_at dksX0_judge_1 0 rfl rfl)
theorem dX0_judge_25 : decode cX0_judge 25 = .ok (.aload_n 0, 1) := dk_42 (dk_at dksX0_judge_1 3 rfl rfl)
theorem dX0_judge_26 : decode cX0_judge 26 = .ok (.iload_n 3, 1) := dk_29 (dk_at dksX0_judge_1 4 rfl rfl)
theorem dX0_judge_27 : decode cX0_judge 27 = .ok (.invokevirtual 158, 3) := dk_182 0 158 (dk_at dksX0_judge_1 5 rfl rfl)
theorem dX0_judge_30 : decode cX0_judge 30 = .ok (.ifCond .eq 26, 3) := dk_153 0 26 (dk_at dksX0_judge_1 8 rfl rfl)
theorem dX0_judge_33 : decode cX0_judge 33 = .ok (.aload_n 2, 1) := dk_44 (dk_at dksX0_judge_1 11 rfl rfl)
theorem dX0_judge_34 : decode cX0_judge 34 = .ok (.iload_n 3, 1) := dk_29 (dk_at dksX0_judge_1 12 rfl rfl)
theorem dX0_judge_35 : decode cX0_judge 35 = .ok (.invokevirtual 306, 3) := dk_182 1 50 (dk_at dksX0_judge_1 13 rfl rfl)
theorem dX0_judge_38 : decode cX0_judge 38 = .ok (.aload_n 0, 1) := dk_42 (dk_at dksX0_judge_1 16 rfl rfl)
theorem dX0_judge_39 : decode cX0_judge 39 = .ok (.getfield 46, 3) := dk_180 0 46 (dk_at dksX0_judge_1 17 rfl rfl)
theorem dX0_judge_42 : decode cX0_judge 42 = .ok (.getfield 131, 3) := dk_180 0 131 (dk_at dksX0_judge_1 20 rfl rfl)
theorem dX0_judge_45 : decode cX0_judge 45 = .ok (.iload_n 3, 1) := dk_29 (dk_at dksX0_judge_1 23 rfl rfl)
theorem dX0_judge_46 : decode cX0_judge 46 = .ok (.iaload, 1) := dk_46 (dk_at dksX0_judge_2 0 rfl rfl)
theorem dX0_judge_47 : decode cX0_judge 47 = .ok (.if_icmp .ne 9, 3) := dk_160 0 9 (dk_at dksX0_judge_2 1 rfl rfl)
theorem dX0_judge_50 : decode cX0_judge 50 = .ok (.iinc 3 1, 3) := dk_132 3 1 (dk_at dksX0_judge_2 4 rfl rfl)
theorem dX0_judge_53 : decode cX0_judge 53 = .ok (.goto (-36), 3) := dk_167 255 220 (dk_at dksX0_judge_2 7 rfl rfl)
theorem dX0_judge_56 : decode cX0_judge 56 = .ok (.iload_n 3, 1) := dk_29 (dk_at dksX0_judge_2 10 rfl rfl)
theorem dX0_judge_57 : decode cX0_judge 57 = .ok (.aload_n 2, 1) := dk_44 (dk_at dksX0_judge_2 11 rfl rfl)
theorem dX0_judge_58 : decode cX0_judge 58 = .ok (.invokevirtual 303, 3) := dk_182 1 47 (dk_at dksX0_judge_2 12 rfl rfl)
theorem dX0_judge_61 : decode cX0_judge 61 = .ok (.if_icmp .ne 18, 3) := dk_160 0 18 (dk_at dksX0_judge_2 15 rfl rfl)
theorem dX0_judge_64 : decode cX0_judge 64 = .ok (.iload_n 3, 1) := dk_29 (dk_at dksX0_judge_2 18 rfl rfl)
theorem dX0_judge_65 : decode cX0_judge 65 = .ok (.aload_n 0, 1) := dk_42 (dk_at dksX0_judge_2 19 rfl rfl)
theorem dX0_judge_66 : decode cX0_judge 66 = .ok (.getfield 46, 3) := dk_180 0 46 (dk_at dksX0_judge_2 20 rfl rfl)
theorem dX0_judge_69 : decode cX0_judge 69 = .ok (.getfield 93, 3) := dk_180 0 93 (dk_at dksX0_judge_3 0 rfl rfl)
theorem dX0_judge_72 : decode cX0_judge 72 = .ok (.if_icmp .ne 7, 3) := dk_160 0 7 (dk_at dksX0_judge_3 3 rfl rfl)
theorem dX0_judge_75 : decode cX0_judge 75 = .ok (.iconst (-1), 1) := dk_2 (dk_at dksX0_judge_3 6 rfl rfl)
theorem dX0_judge_76 : decode cX0_judge 76 = .ok (.goto 4, 3) := dk_167 0 4 (dk_at dksX0_judge_3 7 rfl rfl)
theorem dX0_judge_79 : decode cX0_judge 79 = .ok (.iload_n 3, 1) := dk_29 (dk_at dksX0_judge_3 10 rfl rfl)
theorem dX0_judge_80 : decode cX0_judge 80 = .ok (.ireturn, 1) := dk_172 (dk_at dksX0_judge_3 11 rfl rfl)
theorem dX0_judge_81 : decode cX0_judge 81 = .ok (.astore_n 2, 1) := dk_77 (dk_at dksX0_judge_3 12 rfl rfl)
theorem dX0_judge_82 : decode cX0_judge 82 = .ok (.aload_n 0, 1) := dk_42 (dk_at dksX0_judge_3 13 rfl rfl)
theorem dX0_judge_83 : decode cX0_judge 83 = .ok (.aload_n 2, 1) := dk_44 (dk_at dksX0_judge_3 14 rfl rfl)
theorem dX0_judge_84 : decode cX0_judge 84 = .ok (.invokevirtual 109, 3) := dk_182 0 109 (dk_at dksX0_judge_3 15 rfl rfl)
theorem dX0_judge_87 : decode cX0_judge 87 = .ok (.ireturn, 1) := dk_172 (dk_at dksX0_judge_3 18 rfl rfl)
abbrev cX0_sheet : ByteArray := prog_1_method_57_code
def yX0_sheet : MethodName := ⟨RX0, "sheet", "(III)I"⟩
def dkwX0_sheet_5 : List UInt8 := [29, 183, 1, 99, 181, 0, 96, 4, 172, 58, 4, 42, 25, 4, 182, 0, 109, 172]
abbrev dktX0_sheet_5 : List UInt8 := dkwX0_sheet_5 ++ []
def dkwX0_sheet_4 : List UInt8 := [167, 0, 28, 28, 16, 16, 160, 0, 14, 187, 1, 94, 89, 29, 183, 1, 96, 167, 0, 11, 187, 1, 97, 89]
abbrev dktX0_sheet_4 : List UInt8 := dkwX0_sheet_4 ++ dktX0_sheet_5
def dkwX0_sheet_3 : List UInt8 := [4, 182, 0, 100, 42, 180, 0, 69, 27, 50, 28, 16, 8, 160, 0, 14, 187, 1, 90, 89, 29, 183, 1, 92]
abbrev dktX0_sheet_3 : List UInt8 := dkwX0_sheet_3 ++ dktX0_sheet_4
def dkwX0_sheet_2 : List UInt8 := [155, 0, 7, 4, 167, 0, 4, 3, 6, 182, 0, 100, 42, 29, 16, 40, 163, 0, 7, 4, 167, 0, 4, 3]
abbrev dktX0_sheet_2 : List UInt8 := dkwX0_sheet_2 ++ dktX0_sheet_3
def dkwX0_sheet_1 : List UInt8 := [4, 182, 0, 100, 28, 154, 0, 15, 42, 180, 0, 69, 27, 50, 1, 181, 0, 96, 4, 172, 42, 29]
abbrev dktX0_sheet_1 : List UInt8 := dkwX0_sheet_1 ++ dktX0_sheet_2
def dkwX0_sheet_0 : List UInt8 := [42, 27, 184, 1, 53, 153, 0, 18, 28, 153, 0, 10, 28, 184, 1, 87, 153, 0, 7, 4, 167, 0, 4, 3]
abbrev dktX0_sheet_0 : List UInt8 := dkwX0_sheet_0 ++ dktX0_sheet_1
theorem dksX0_sheet_0 : cX0_sheet.data.toList.drop 0 = dktX0_sheet_0 := by decide +kernel
theorem dksX0_sheet_1 : cX0_sheet.data.toList.drop 24 = dktX0_sheet_1 := dk_seg dksX0_sheet_0 24 rfl rfl
theorem dksX0_sheet_2 : cX0_sheet.data.toList.drop 46 = dktX0_sheet_2 := dk_seg dksX0_sheet_1 22 rfl rfl
theorem dksX0_sheet_3 : cX0_sheet.data.toList.drop 70 = dktX0_sheet_3 := dk_seg dksX0_sheet_2 24 rfl rfl
theorem dksX0_sheet_4 : cX0_sheet.data.toList.drop 94 = dktX0_sheet_4 := dk_seg dksX0_sheet_3 24 rfl rfl
theorem dksX0_sheet_5 : cX0_sheet.data.toList.drop 118 = dktX0_sheet_5 := dk_seg dksX0_sheet_4 24 rfl rfl
theorem dX0_sheet_0 : decode cX0_sheet 0 = .ok (.aload_n 0, 1) := dk_42 (dk_at dksX0_sheet_0 0 rfl rfl)
theorem dX0_sheet_1 : decode cX0_sheet 1 = .ok (.iload_n 1, 1) := dk_27 (dk_at dksX0_sheet_0 1 rfl rfl)
theorem dX0_sheet_2 : decode cX0_sheet 2 = .ok (.invokestatic 309, 3) := dk_184 1 53 (dk_at dksX0_sheet_0 2 rfl rfl)
theorem dX0_sheet_5 : decode cX0_sheet 5 = .ok (.ifCond .eq 18, 3) := dk_153 0 18 (dk_at dksX0_sheet_0 5 rfl rfl)
theorem dX0_sheet_8 : decode cX0_sheet 8 = .ok (.iload_n 2, 1) := dk_28 (dk_at dksX0_sheet_0 8 rfl rfl)
theorem dX0_sheet_9 : decode cX0_sheet 9 = .ok (.ifCond .eq 10, 3) := dk_153 0 10 (dk_at dksX0_sheet_0 9 rfl rfl)
theorem dX0_sheet_12 : decode cX0_sheet 12 = .ok (.iload_n 2, 1) := dk_28 (dk_at dksX0_sheet_0 12 rfl rfl)
theorem dX0_sheet_13 : decode cX0_sheet 13 = .ok (.invokestatic 343, 3) := dk_184 1 87 (dk_at dksX0_sheet_0 13 rfl rfl)
theorem dX0_sheet_16 : decode cX0_sheet 16 = .ok (.ifCond .eq 7, 3) := dk_153 0 7 (dk_at dksX0_sheet_0 16 rfl rfl)
theorem dX0_sheet_19 : decode cX0_sheet 19 = .ok (.iconst 1, 1) := dk_4 (dk_at dksX0_sheet_0 19 rfl rfl)
theorem dX0_sheet_20 : decode cX0_sheet 20 = .ok (.goto 4, 3) := dk_167 0 4 (dk_at dksX0_sheet_0 20 rfl rfl)
theorem dX0_sheet_23 : decode cX0_sheet 23 = .ok (.iconst 0, 1) := dk_3 (dk_at dksX0_sheet_0 23 rfl rfl)
theorem dX0_sheet_24 : decode cX0_sheet 24 = .ok (.iconst 1, 1) := dk_4 (dk_at dksX0_sheet_1 0 rfl rfl)
theorem dX0_sheet_25 : decode cX0_sheet 25 = .ok (.invokevirtual 100, 3) := dk_182 0 100 (dk_at dksX0_sheet_1 1 rfl rfl)
theorem dX0_sheet_28 : decode cX0_sheet 28 = .ok (.iload_n 2, 1) := dk_28 (dk_at dksX0_sheet_1 4 rfl rfl)
theorem dX0_sheet_29 : decode cX0_sheet 29 = .ok (.ifCond .ne 15, 3) := dk_154 0 15 (dk_at dksX0_sheet_1 5 rfl rfl)
theorem dX0_sheet_32 : decode cX0_sheet 32 = .ok (.aload_n 0, 1) := dk_42 (dk_at dksX0_sheet_1 8 rfl rfl)
theorem dX0_sheet_33 : decode cX0_sheet 33 = .ok (.getfield 69, 3) := dk_180 0 69 (dk_at dksX0_sheet_1 9 rfl rfl)
theorem dX0_sheet_36 : decode cX0_sheet 36 = .ok (.iload_n 1, 1) := dk_27 (dk_at dksX0_sheet_1 12 rfl rfl)
theorem dX0_sheet_37 : decode cX0_sheet 37 = .ok (.aaload, 1) := dk_50 (dk_at dksX0_sheet_1 13 rfl rfl)
theorem dX0_sheet_38 : decode cX0_sheet 38 = .ok (.aconst_null, 1) := dk_1 (dk_at dksX0_sheet_1 14 rfl rfl)
theorem dX0_sheet_39 : decode cX0_sheet 39 = .ok (.putfield 96, 3) := dk_181 0 96 (dk_at dksX0_sheet_1 15 rfl rfl)
theorem dX0_sheet_42 : decode cX0_sheet 42 = .ok (.iconst 1, 1) := dk_4 (dk_at dksX0_sheet_1 18 rfl rfl)
theorem dX0_sheet_43 : decode cX0_sheet 43 = .ok (.ireturn, 1) := dk_172 (dk_at dksX0_sheet_1 19 rfl rfl)
theorem dX0_sheet_44 : decode cX0_sheet 44 = .ok (.aload_n 0, 1) := dk_42 (dk_at dksX0_sheet_1 20 rfl rfl)
theorem dX0_sheet_45 : decode cX0_sheet 45 = .ok (.iload_n 3, 1) := dk_29 (dk_at dksX0_sheet_1 21 rfl rfl)
theorem dX0_sheet_46 : decode cX0_sheet 46 = .ok (.ifCond .lt 7, 3) := dk_155 0 7 (dk_at dksX0_sheet_2 0 rfl rfl)
theorem dX0_sheet_49 : decode cX0_sheet 49 = .ok (.iconst 1, 1) := dk_4 (dk_at dksX0_sheet_2 3 rfl rfl)
theorem dX0_sheet_50 : decode cX0_sheet 50 = .ok (.goto 4, 3) := dk_167 0 4 (dk_at dksX0_sheet_2 4 rfl rfl)
theorem dX0_sheet_53 : decode cX0_sheet 53 = .ok (.iconst 0, 1) := dk_3 (dk_at dksX0_sheet_2 7 rfl rfl)
theorem dX0_sheet_54 : decode cX0_sheet 54 = .ok (.iconst 3, 1) := dk_6 (dk_at dksX0_sheet_2 8 rfl rfl)
theorem dX0_sheet_55 : decode cX0_sheet 55 = .ok (.invokevirtual 100, 3) := dk_182 0 100 (dk_at dksX0_sheet_2 9 rfl rfl)
theorem dX0_sheet_58 : decode cX0_sheet 58 = .ok (.aload_n 0, 1) := dk_42 (dk_at dksX0_sheet_2 12 rfl rfl)
theorem dX0_sheet_59 : decode cX0_sheet 59 = .ok (.iload_n 3, 1) := dk_29 (dk_at dksX0_sheet_2 13 rfl rfl)
theorem dX0_sheet_60 : decode cX0_sheet 60 = .ok (.bipush 40, 2) := dk_16 40 (dk_at dksX0_sheet_2 14 rfl rfl)
theorem dX0_sheet_62 : decode cX0_sheet 62 = .ok (.if_icmp .gt 7, 3) := dk_163 0 7 (dk_at dksX0_sheet_2 16 rfl rfl)
theorem dX0_sheet_65 : decode cX0_sheet 65 = .ok (.iconst 1, 1) := dk_4 (dk_at dksX0_sheet_2 19 rfl rfl)
theorem dX0_sheet_66 : decode cX0_sheet 66 = .ok (.goto 4, 3) := dk_167 0 4 (dk_at dksX0_sheet_2 20 rfl rfl)
theorem dX0_sheet_69 : decode cX0_sheet 69 = .ok (.iconst 0, 1) := dk_3 (dk_at dksX0_sheet_2 23 rfl rfl)
theorem dX0_sheet_70 : decode cX0_sheet 70 = .ok (.iconst 1, 1) := dk_4 (dk_at dksX0_sheet_3 0 rfl rfl)
theorem dX0_sheet_71 : decode cX0_sheet 71 = .ok (.invokevirtual 100, 3) := dk_182 0 100 (dk_at dksX0_sheet_3 1 rfl rfl)
theorem dX0_sheet_74 : decode cX0_sheet 74 = .ok (.aload_n 0, 1) := dk_42 (dk_at dksX0_sheet_3 4 rfl rfl)
theorem dX0_sheet_75 : decode cX0_sheet 75 = .ok (.getfield 69, 3) := dk_180 0 69 (dk_at dksX0_sheet_3 5 rfl rfl)
theorem dX0_sheet_78 : decode cX0_sheet 78 = .ok (.iload_n 1, 1) := dk_27 (dk_at dksX0_sheet_3 8 rfl rfl)
theorem dX0_sheet_79 : decode cX0_sheet 79 = .ok (.aaload, 1) := dk_50 (dk_at dksX0_sheet_3 9 rfl rfl)
theorem dX0_sheet_80 : decode cX0_sheet 80 = .ok (.iload_n 2, 1) := dk_28 (dk_at dksX0_sheet_3 10 rfl rfl)
theorem dX0_sheet_81 : decode cX0_sheet 81 = .ok (.bipush 8, 2) := dk_16 8 (dk_at dksX0_sheet_3 11 rfl rfl)
theorem dX0_sheet_83 : decode cX0_sheet 83 = .ok (.if_icmp .ne 14, 3) := dk_160 0 14 (dk_at dksX0_sheet_3 13 rfl rfl)
theorem dX0_sheet_86 : decode cX0_sheet 86 = .ok (.new 346, 3) := dk_187 1 90 (dk_at dksX0_sheet_3 16 rfl rfl)
theorem dX0_sheet_89 : decode cX0_sheet 89 = .ok (.dup, 1) := dk_89 (dk_at dksX0_sheet_3 19 rfl rfl)
theorem dX0_sheet_90 : decode cX0_sheet 90 = .ok (.iload_n 3, 1) := dk_29 (dk_at dksX0_sheet_3 20 rfl rfl)
theorem dX0_sheet_91 : decode cX0_sheet 91 = .ok (.invokespecial 348, 3) := dk_183 1 92 (dk_at dksX0_sheet_3 21 rfl rfl)
theorem dX0_sheet_94 : decode cX0_sheet 94 = .ok (.goto 28, 3) := dk_167 0 28 (dk_at dksX0_sheet_4 0 rfl rfl)
theorem dX0_sheet_97 : decode cX0_sheet 97 = .ok (.iload_n 2, 1) := dk_28 (dk_at dksX0_sheet_4 3 rfl rfl)
theorem dX0_sheet_98 : decode cX0_sheet 98 = .ok (.bipush 16, 2) := dk_16 16 (dk_at dksX0_sheet_4 4 rfl rfl)
theorem dX0_sheet_100 : decode cX0_sheet 100 = .ok (.if_icmp .ne 14, 3) := dk_160 0 14 (dk_at dksX0_sheet_4 6 rfl rfl)
theorem dX0_sheet_103 : decode cX0_sheet 103 = .ok (.new 350, 3) := dk_187 1 94 (dk_at dksX0_sheet_4 9 rfl rfl)
theorem dX0_sheet_106 : decode cX0_sheet 106 = .ok (.dup, 1) := dk_89 (dk_at dksX0_sheet_4 12 rfl rfl)
theorem dX0_sheet_107 : decode cX0_sheet 107 = .ok (.iload_n 3, 1) := dk_29 (dk_at dksX0_sheet_4 13 rfl rfl)
theorem dX0_sheet_108 : decode cX0_sheet 108 = .ok (.invokespecial 352, 3) := dk_183 1 96 (dk_at dksX0_sheet_4 14 rfl rfl)
theorem dX0_sheet_111 : decode cX0_sheet 111 = .ok (.goto 11, 3) := dk_167 0 11 (dk_at dksX0_sheet_4 17 rfl rfl)
theorem dX0_sheet_114 : decode cX0_sheet 114 = .ok (.new 353, 3) := dk_187 1 97 (dk_at dksX0_sheet_4 20 rfl rfl)
theorem dX0_sheet_117 : decode cX0_sheet 117 = .ok (.dup, 1) := dk_89 (dk_at dksX0_sheet_4 23 rfl rfl)
theorem dX0_sheet_118 : decode cX0_sheet 118 = .ok (.iload_n 3, 1) := dk_29 (dk_at dksX0_sheet_5 0 rfl rfl)
theorem dX0_sheet_119 : decode cX0_sheet 119 = .ok (.invokespecial 355, 3) := dk_183 1 99 (dk_at dksX0_sheet_5 1 rfl rfl)
theorem dX0_sheet_122 : decode cX0_sheet 122 = .ok (.putfield 96, 3) := dk_181 0 96 (dk_at dksX0_sheet_5 4 rfl rfl)
theorem dX0_sheet_125 : decode cX0_sheet 125 = .ok (.iconst 1, 1) := dk_4 (dk_at dksX0_sheet_5 7 rfl rfl)
theorem dX0_sheet_126 : decode cX0_sheet 126 = .ok (.ireturn, 1) := dk_172 (dk_at dksX0_sheet_5 8 rfl rfl)
theorem dX0_sheet_127 : decode cX0_sheet 127 = .ok (.astore 4, 2) := dk_58 4 (dk_at dksX0_sheet_5 9 rfl rfl)
theorem dX0_sheet_129 : decode cX0_sheet 129 = .ok (.aload_n 0, 1) := dk_42 (dk_at dksX0_sheet_5 11 rfl rfl)
theorem dX0_sheet_130 : decode cX0_sheet 130 = .ok (.aload 4, 2) := dk_25 4 (dk_at dksX0_sheet_5 12 rfl rfl)
theorem dX0_sheet_132 : decode cX0_sheet 132 = .ok (.invokevirtual 109, 3) := dk_182 0 109 (dk_at dksX0_sheet_5 14 rfl rfl)
theorem dX0_sheet_135 : decode cX0_sheet 135 = .ok (.ireturn, 1) := dk_172 (dk_at dksX0_sheet_5 17 rfl rfl)
abbrev cX0_isWidth : ByteArray := prog_1_method_13_code
def yX0_isWidth : MethodName := ⟨RX0, "isWidth", "(I)Z"⟩
def dkwX0_isWidth_0 : List UInt8 := [26, 16, 8, 159, 0, 15, 26, 16, 16, 159, 0, 9, 26, 16, 32, 160, 0, 7, 4, 167, 0, 4, 3, 172]
abbrev dktX0_isWidth_0 : List UInt8 := dkwX0_isWidth_0 ++ []
theorem dksX0_isWidth_0 : cX0_isWidth.data.toList.drop 0 = dktX0_isWidth_0 := by decide +kernel
theorem dX0_isWidth_0 : decode cX0_isWidth 0 = .ok (.iload_n 0, 1) := dk_26 (dk_at dksX0_isWidth_0 0 rfl rfl)
theorem dX0_isWidth_1 : decode cX0_isWidth 1 = .ok (.bipush 8, 2) := dk_16 8 (dk_at dksX0_isWidth_0 1 rfl rfl)
theorem dX0_isWidth_3 : decode cX0_isWidth 3 = .ok (.if_icmp .eq 15, 3) := dk_159 0 15 (dk_at dksX0_isWidth_0 3 rfl rfl)
theorem dX0_isWidth_6 : decode cX0_isWidth 6 = .ok (.iload_n 0, 1) := dk_26 (dk_at dksX0_isWidth_0 6 rfl rfl)
theorem dX0_isWidth_7 : decode cX0_isWidth 7 = .ok (.bipush 16, 2) := dk_16 16 (dk_at dksX0_isWidth_0 7 rfl rfl)
theorem dX0_isWidth_9 : decode cX0_isWidth 9 = .ok (.if_icmp .eq 9, 3) := dk_159 0 9 (dk_at dksX0_isWidth_0 9 rfl rfl)
theorem dX0_isWidth_12 : decode cX0_isWidth 12 = .ok (.iload_n 0, 1) := dk_26 (dk_at dksX0_isWidth_0 12 rfl rfl)
theorem dX0_isWidth_13 : decode cX0_isWidth 13 = .ok (.bipush 32, 2) := dk_16 32 (dk_at dksX0_isWidth_0 13 rfl rfl)
theorem dX0_isWidth_15 : decode cX0_isWidth 15 = .ok (.if_icmp .ne 7, 3) := dk_160 0 7 (dk_at dksX0_isWidth_0 15 rfl rfl)
theorem dX0_isWidth_18 : decode cX0_isWidth 18 = .ok (.iconst 1, 1) := dk_4 (dk_at dksX0_isWidth_0 18 rfl rfl)
theorem dX0_isWidth_19 : decode cX0_isWidth 19 = .ok (.goto 4, 3) := dk_167 0 4 (dk_at dksX0_isWidth_0 19 rfl rfl)
theorem dX0_isWidth_22 : decode cX0_isWidth 22 = .ok (.iconst 0, 1) := dk_3 (dk_at dksX0_isWidth_0 22 rfl rfl)
theorem dX0_isWidth_23 : decode cX0_isWidth 23 = .ok (.ireturn, 1) := dk_172 (dk_at dksX0_isWidth_0 23 rfl rfl)
abbrev cX0_put : ByteArray := prog_1_method_58_code
def yX0_put : MethodName := ⟨RX0, "put", "(III)I"⟩
def dkwX0_put_2 : List UInt8 := [182, 0, 109, 172]
abbrev dktX0_put_2 : List UInt8 := dkwX0_put_2 ++ []
def dkwX0_put_1 : List UInt8 := [4, 100, 184, 0, 85, 4, 182, 0, 100, 25, 4, 28, 29, 182, 1, 100, 4, 172, 58, 4, 42, 25, 4]
abbrev dktX0_put_1 : List UInt8 := dkwX0_put_1 ++ dktX0_put_2
def dkwX0_put_0 : List UInt8 := [42, 27, 184, 1, 53, 4, 182, 0, 100, 42, 27, 182, 1, 43, 58, 4, 42, 28, 3, 25, 4, 182, 1, 47]
abbrev dktX0_put_0 : List UInt8 := dkwX0_put_0 ++ dktX0_put_1
theorem dksX0_put_0 : cX0_put.data.toList.drop 0 = dktX0_put_0 := by decide +kernel
theorem dksX0_put_1 : cX0_put.data.toList.drop 24 = dktX0_put_1 := dk_seg dksX0_put_0 24 rfl rfl
theorem dksX0_put_2 : cX0_put.data.toList.drop 47 = dktX0_put_2 := dk_seg dksX0_put_1 23 rfl rfl
theorem dX0_put_0 : decode cX0_put 0 = .ok (.aload_n 0, 1) := dk_42 (dk_at dksX0_put_0 0 rfl rfl)
theorem dX0_put_1 : decode cX0_put 1 = .ok (.iload_n 1, 1) := dk_27 (dk_at dksX0_put_0 1 rfl rfl)
theorem dX0_put_2 : decode cX0_put 2 = .ok (.invokestatic 309, 3) := dk_184 1 53 (dk_at dksX0_put_0 2 rfl rfl)
theorem dX0_put_5 : decode cX0_put 5 = .ok (.iconst 1, 1) := dk_4 (dk_at dksX0_put_0 5 rfl rfl)
theorem dX0_put_6 : decode cX0_put 6 = .ok (.invokevirtual 100, 3) := dk_182 0 100 (dk_at dksX0_put_0 6 rfl rfl)
theorem dX0_put_9 : decode cX0_put 9 = .ok (.aload_n 0, 1) := dk_42 (dk_at dksX0_put_0 9 rfl rfl)
theorem dX0_put_10 : decode cX0_put 10 = .ok (.iload_n 1, 1) := dk_27 (dk_at dksX0_put_0 10 rfl rfl)
theorem dX0_put_11 : decode cX0_put 11 = .ok (.invokevirtual 299, 3) := dk_182 1 43 (dk_at dksX0_put_0 11 rfl rfl)
theorem dX0_put_14 : decode cX0_put 14 = .ok (.astore 4, 2) := dk_58 4 (dk_at dksX0_put_0 14 rfl rfl)
theorem dX0_put_16 : decode cX0_put 16 = .ok (.aload_n 0, 1) := dk_42 (dk_at dksX0_put_0 16 rfl rfl)
theorem dX0_put_17 : decode cX0_put 17 = .ok (.iload_n 2, 1) := dk_28 (dk_at dksX0_put_0 17 rfl rfl)
theorem dX0_put_18 : decode cX0_put 18 = .ok (.iconst 0, 1) := dk_3 (dk_at dksX0_put_0 18 rfl rfl)
theorem dX0_put_19 : decode cX0_put 19 = .ok (.aload 4, 2) := dk_25 4 (dk_at dksX0_put_0 19 rfl rfl)
theorem dX0_put_21 : decode cX0_put 21 = .ok (.invokevirtual 303, 3) := dk_182 1 47 (dk_at dksX0_put_0 21 rfl rfl)
theorem dX0_put_24 : decode cX0_put 24 = .ok (.iconst 1, 1) := dk_4 (dk_at dksX0_put_1 0 rfl rfl)
theorem dX0_put_25 : decode cX0_put 25 = .ok (.isub, 1) := dk_100 (dk_at dksX0_put_1 1 rfl rfl)
theorem dX0_put_26 : decode cX0_put 26 = .ok (.invokestatic 85, 3) := dk_184 0 85 (dk_at dksX0_put_1 2 rfl rfl)
theorem dX0_put_29 : decode cX0_put 29 = .ok (.iconst 1, 1) := dk_4 (dk_at dksX0_put_1 5 rfl rfl)
theorem dX0_put_30 : decode cX0_put 30 = .ok (.invokevirtual 100, 3) := dk_182 0 100 (dk_at dksX0_put_1 6 rfl rfl)
theorem dX0_put_33 : decode cX0_put 33 = .ok (.aload 4, 2) := dk_25 4 (dk_at dksX0_put_1 9 rfl rfl)
theorem dX0_put_35 : decode cX0_put 35 = .ok (.iload_n 2, 1) := dk_28 (dk_at dksX0_put_1 11 rfl rfl)
theorem dX0_put_36 : decode cX0_put 36 = .ok (.iload_n 3, 1) := dk_29 (dk_at dksX0_put_1 12 rfl rfl)
theorem dX0_put_37 : decode cX0_put 37 = .ok (.invokevirtual 356, 3) := dk_182 1 100 (dk_at dksX0_put_1 13 rfl rfl)
theorem dX0_put_40 : decode cX0_put 40 = .ok (.iconst 1, 1) := dk_4 (dk_at dksX0_put_1 16 rfl rfl)
theorem dX0_put_41 : decode cX0_put 41 = .ok (.ireturn, 1) := dk_172 (dk_at dksX0_put_1 17 rfl rfl)
theorem dX0_put_42 : decode cX0_put 42 = .ok (.astore 4, 2) := dk_58 4 (dk_at dksX0_put_1 18 rfl rfl)
theorem dX0_put_44 : decode cX0_put 44 = .ok (.aload_n 0, 1) := dk_42 (dk_at dksX0_put_1 20 rfl rfl)
theorem dX0_put_45 : decode cX0_put 45 = .ok (.aload 4, 2) := dk_25 4 (dk_at dksX0_put_1 21 rfl rfl)
theorem dX0_put_47 : decode cX0_put 47 = .ok (.invokevirtual 109, 3) := dk_182 0 109 (dk_at dksX0_put_2 0 rfl rfl)
theorem dX0_put_50 : decode cX0_put 50 = .ok (.ireturn, 1) := dk_172 (dk_at dksX0_put_2 3 rfl rfl)
abbrev cX0_move : ByteArray := prog_1_method_59_code
def yX0_move : MethodName := ⟨RX0, "move", "(IIIII)I"⟩
def dkwX0_move_6 : List UInt8 := [96, 46, 182, 1, 100, 132, 9, 1, 167, 255, 229, 21, 5, 172, 58, 6, 42, 25, 6, 182, 0, 109, 172]
abbrev dktX0_move_6 : List UInt8 := dkwX0_move_6 ++ []
def dkwX0_move_5 : List UInt8 := [58, 8, 3, 54, 9, 21, 9, 21, 5, 162, 0, 26, 25, 7, 21, 4, 21, 9, 96, 25, 8, 28, 21, 9]
abbrev dktX0_move_5 : List UInt8 := dkwX0_move_5 ++ dktX0_move_6
def dkwX0_move_4 : List UInt8 := [182, 1, 47, 21, 5, 100, 163, 0, 7, 4, 167, 0, 4, 3, 4, 182, 0, 100, 25, 6, 182, 1, 106]
abbrev dktX0_move_4 : List UInt8 := dkwX0_move_4 ++ dktX0_move_5
def dkwX0_move_3 : List UInt8 := [155, 0, 37, 21, 4, 155, 0, 32, 28, 25, 6, 182, 1, 47, 21, 5, 100, 163, 0, 20, 21, 4, 25, 7]
abbrev dktX0_move_3 : List UInt8 := dkwX0_move_3 ++ dktX0_move_4
def dkwX0_move_2 : List UInt8 := [182, 1, 103, 160, 0, 7, 4, 167, 0, 4, 3, 8, 182, 0, 100, 42, 21, 5, 155, 0, 41, 28]
abbrev dktX0_move_2 : List UInt8 := dkwX0_move_2 ++ dktX0_move_3
def dkwX0_move_1 : List UInt8 := [42, 27, 182, 1, 43, 58, 6, 42, 29, 182, 1, 43, 58, 7, 42, 25, 6, 182, 1, 103, 25, 7]
abbrev dktX0_move_1 : List UInt8 := dkwX0_move_1 ++ dktX0_move_2
def dkwX0_move_0 : List UInt8 := [42, 27, 184, 1, 53, 153, 0, 14, 29, 184, 1, 53, 153, 0, 7, 4, 167, 0, 4, 3, 4, 182, 0, 100]
abbrev dktX0_move_0 : List UInt8 := dkwX0_move_0 ++ dktX0_move_1
theorem dksX0_move_0 : cX0_move.data.toList.drop 0 = dktX0_move_0 := by decide +kernel
theorem dksX0_move_1 : cX0_move.data.toList.drop 24 = dktX0_move_1 := dk_seg dksX0_move_0 24 rfl rfl
theorem dksX0_move_2 : cX0_move.data.toList.drop 46 = dktX0_move_2 := dk_seg dksX0_move_1 22 rfl rfl
theorem dksX0_move_3 : cX0_move.data.toList.drop 68 = dktX0_move_3 := dk_seg dksX0_move_2 22 rfl rfl
theorem dksX0_move_4 : cX0_move.data.toList.drop 92 = dktX0_move_4 := dk_seg dksX0_move_3 24 rfl rfl
theorem dksX0_move_5 : cX0_move.data.toList.drop 115 = dktX0_move_5 := dk_seg dksX0_move_4 23 rfl rfl
theorem dksX0_move_6 : cX0_move.data.toList.drop 139 = dktX0_move_6 := dk_seg dksX0_move_5 24 rfl rfl
theorem dX0_move_0 : decode cX0_move 0 = .ok (.aload_n 0, 1) := dk_42 (dk_at dksX0_move_0 0 rfl rfl)
theorem dX0_move_1 : decode cX0_move 1 = .ok (.iload_n 1, 1) := dk_27 (dk_at dksX0_move_0 1 rfl rfl)
theorem dX0_move_2 : decode cX0_move 2 = .ok (.invokestatic 309, 3) := dk_184 1 53 (dk_at dksX0_move_0 2 rfl rfl)
theorem dX0_move_5 : decode cX0_move 5 = .ok (.ifCond .eq 14, 3) := dk_153 0 14 (dk_at dksX0_move_0 5 rfl rfl)
theorem dX0_move_8 : decode cX0_move 8 = .ok (.iload_n 3, 1) := dk_29 (dk_at dksX0_move_0 8 rfl rfl)
theorem dX0_move_9 : decode cX0_move 9 = .ok (.invokestatic 309, 3) := dk_184 1 53 (dk_at dksX0_move_0 9 rfl rfl)
theorem dX0_move_12 : decode cX0_move 12 = .ok (.ifCond .eq 7, 3) := dk_153 0 7 (dk_at dksX0_move_0 12 rfl rfl)
theorem dX0_move_15 : decode cX0_move 15 = .ok (.iconst 1, 1) := dk_4 (dk_at dksX0_move_0 15 rfl rfl)
theorem dX0_move_16 : decode cX0_move 16 = .ok (.goto 4, 3) := dk_167 0 4 (dk_at dksX0_move_0 16 rfl rfl)
theorem dX0_move_19 : decode cX0_move 19 = .ok (.iconst 0, 1) := dk_3 (dk_at dksX0_move_0 19 rfl rfl)
theorem dX0_move_20 : decode cX0_move 20 = .ok (.iconst 1, 1) := dk_4 (dk_at dksX0_move_0 20 rfl rfl)
theorem dX0_move_21 : decode cX0_move 21 = .ok (.invokevirtual 100, 3) := dk_182 0 100 (dk_at dksX0_move_0 21 rfl rfl)
theorem dX0_move_24 : decode cX0_move 24 = .ok (.aload_n 0, 1) := dk_42 (dk_at dksX0_move_1 0 rfl rfl)
theorem dX0_move_25 : decode cX0_move 25 = .ok (.iload_n 1, 1) := dk_27 (dk_at dksX0_move_1 1 rfl rfl)
theorem dX0_move_26 : decode cX0_move 26 = .ok (.invokevirtual 299, 3) := dk_182 1 43 (dk_at dksX0_move_1 2 rfl rfl)
theorem dX0_move_29 : decode cX0_move 29 = .ok (.astore 6, 2) := dk_58 6 (dk_at dksX0_move_1 5 rfl rfl)
theorem dX0_move_31 : decode cX0_move 31 = .ok (.aload_n 0, 1) := dk_42 (dk_at dksX0_move_1 7 rfl rfl)
theorem dX0_move_32 : decode cX0_move 32 = .ok (.iload_n 3, 1) := dk_29 (dk_at dksX0_move_1 8 rfl rfl)
theorem dX0_move_33 : decode cX0_move 33 = .ok (.invokevirtual 299, 3) := dk_182 1 43 (dk_at dksX0_move_1 9 rfl rfl)
theorem dX0_move_36 : decode cX0_move 36 = .ok (.astore 7, 2) := dk_58 7 (dk_at dksX0_move_1 12 rfl rfl)
theorem dX0_move_38 : decode cX0_move 38 = .ok (.aload_n 0, 1) := dk_42 (dk_at dksX0_move_1 14 rfl rfl)
theorem dX0_move_39 : decode cX0_move 39 = .ok (.aload 6, 2) := dk_25 6 (dk_at dksX0_move_1 15 rfl rfl)
theorem dX0_move_41 : decode cX0_move 41 = .ok (.invokevirtual 359, 3) := dk_182 1 103 (dk_at dksX0_move_1 17 rfl rfl)
theorem dX0_move_44 : decode cX0_move 44 = .ok (.aload 7, 2) := dk_25 7 (dk_at dksX0_move_1 20 rfl rfl)
theorem dX0_move_46 : decode cX0_move 46 = .ok (.invokevirtual 359, 3) := dk_182 1 103 (dk_at dksX0_move_2 0 rfl rfl)
theorem dX0_move_49 : decode cX0_move 49 = .ok (.if_icmp .ne 7, 3) := dk_160 0 7 (dk_at dksX0_move_2 3 rfl rfl)
theorem dX0_move_52 : decode cX0_move 52 = .ok (.iconst 1, 1) := dk_4 (dk_at dksX0_move_2 6 rfl rfl)
theorem dX0_move_53 : decode cX0_move 53 = .ok (.goto 4, 3) := dk_167 0 4 (dk_at dksX0_move_2 7 rfl rfl)
theorem dX0_move_56 : decode cX0_move 56 = .ok (.iconst 0, 1) := dk_3 (dk_at dksX0_move_2 10 rfl rfl)
theorem dX0_move_57 : decode cX0_move 57 = .ok (.iconst 5, 1) := dk_8 (dk_at dksX0_move_2 11 rfl rfl)
theorem dX0_move_58 : decode cX0_move 58 = .ok (.invokevirtual 100, 3) := dk_182 0 100 (dk_at dksX0_move_2 12 rfl rfl)
theorem dX0_move_61 : decode cX0_move 61 = .ok (.aload_n 0, 1) := dk_42 (dk_at dksX0_move_2 15 rfl rfl)
theorem dX0_move_62 : decode cX0_move 62 = .ok (.iload 5, 2) := dk_21 5 (dk_at dksX0_move_2 16 rfl rfl)
theorem dX0_move_64 : decode cX0_move 64 = .ok (.ifCond .lt 41, 3) := dk_155 0 41 (dk_at dksX0_move_2 18 rfl rfl)
theorem dX0_move_67 : decode cX0_move 67 = .ok (.iload_n 2, 1) := dk_28 (dk_at dksX0_move_2 21 rfl rfl)
theorem dX0_move_68 : decode cX0_move 68 = .ok (.ifCond .lt 37, 3) := dk_155 0 37 (dk_at dksX0_move_3 0 rfl rfl)
theorem dX0_move_71 : decode cX0_move 71 = .ok (.iload 4, 2) := dk_21 4 (dk_at dksX0_move_3 3 rfl rfl)
theorem dX0_move_73 : decode cX0_move 73 = .ok (.ifCond .lt 32, 3) := dk_155 0 32 (dk_at dksX0_move_3 5 rfl rfl)
theorem dX0_move_76 : decode cX0_move 76 = .ok (.iload_n 2, 1) := dk_28 (dk_at dksX0_move_3 8 rfl rfl)
theorem dX0_move_77 : decode cX0_move 77 = .ok (.aload 6, 2) := dk_25 6 (dk_at dksX0_move_3 9 rfl rfl)
theorem dX0_move_79 : decode cX0_move 79 = .ok (.invokevirtual 303, 3) := dk_182 1 47 (dk_at dksX0_move_3 11 rfl rfl)
theorem dX0_move_82 : decode cX0_move 82 = .ok (.iload 5, 2) := dk_21 5 (dk_at dksX0_move_3 14 rfl rfl)
theorem dX0_move_84 : decode cX0_move 84 = .ok (.isub, 1) := dk_100 (dk_at dksX0_move_3 16 rfl rfl)
theorem dX0_move_85 : decode cX0_move 85 = .ok (.if_icmp .gt 20, 3) := dk_163 0 20 (dk_at dksX0_move_3 17 rfl rfl)
theorem dX0_move_88 : decode cX0_move 88 = .ok (.iload 4, 2) := dk_21 4 (dk_at dksX0_move_3 20 rfl rfl)
theorem dX0_move_90 : decode cX0_move 90 = .ok (.aload 7, 2) := dk_25 7 (dk_at dksX0_move_3 22 rfl rfl)
theorem dX0_move_92 : decode cX0_move 92 = .ok (.invokevirtual 303, 3) := dk_182 1 47 (dk_at dksX0_move_4 0 rfl rfl)
theorem dX0_move_95 : decode cX0_move 95 = .ok (.iload 5, 2) := dk_21 5 (dk_at dksX0_move_4 3 rfl rfl)
theorem dX0_move_97 : decode cX0_move 97 = .ok (.isub, 1) := dk_100 (dk_at dksX0_move_4 5 rfl rfl)
theorem dX0_move_98 : decode cX0_move 98 = .ok (.if_icmp .gt 7, 3) := dk_163 0 7 (dk_at dksX0_move_4 6 rfl rfl)
theorem dX0_move_101 : decode cX0_move 101 = .ok (.iconst 1, 1) := dk_4 (dk_at dksX0_move_4 9 rfl rfl)
theorem dX0_move_102 : decode cX0_move 102 = .ok (.goto 4, 3) := dk_167 0 4 (dk_at dksX0_move_4 10 rfl rfl)
theorem dX0_move_105 : decode cX0_move 105 = .ok (.iconst 0, 1) := dk_3 (dk_at dksX0_move_4 13 rfl rfl)
theorem dX0_move_106 : decode cX0_move 106 = .ok (.iconst 1, 1) := dk_4 (dk_at dksX0_move_4 14 rfl rfl)
theorem dX0_move_107 : decode cX0_move 107 = .ok (.invokevirtual 100, 3) := dk_182 0 100 (dk_at dksX0_move_4 15 rfl rfl)
theorem dX0_move_110 : decode cX0_move 110 = .ok (.aload 6, 2) := dk_25 6 (dk_at dksX0_move_4 18 rfl rfl)
theorem dX0_move_112 : decode cX0_move 112 = .ok (.invokevirtual 362, 3) := dk_182 1 106 (dk_at dksX0_move_4 20 rfl rfl)
theorem dX0_move_115 : decode cX0_move 115 = .ok (.astore 8, 2) := dk_58 8 (dk_at dksX0_move_5 0 rfl rfl)
theorem dX0_move_117 : decode cX0_move 117 = .ok (.iconst 0, 1) := dk_3 (dk_at dksX0_move_5 2 rfl rfl)
theorem dX0_move_118 : decode cX0_move 118 = .ok (.istore 9, 2) := dk_54 9 (dk_at dksX0_move_5 3 rfl rfl)
theorem dX0_move_120 : decode cX0_move 120 = .ok (.iload 9, 2) := dk_21 9 (dk_at dksX0_move_5 5 rfl rfl)
theorem dX0_move_122 : decode cX0_move 122 = .ok (.iload 5, 2) := dk_21 5 (dk_at dksX0_move_5 7 rfl rfl)
theorem dX0_move_124 : decode cX0_move 124 = .ok (.if_icmp .ge 26, 3) := dk_162 0 26 (dk_at dksX0_move_5 9 rfl rfl)
theorem dX0_move_127 : decode cX0_move 127 = .ok (.aload 7, 2) := dk_25 7 (dk_at dksX0_move_5 12 rfl rfl)
theorem dX0_move_129 : decode cX0_move 129 = .ok (.iload 4, 2) := dk_21 4 (dk_at dksX0_move_5 14 rfl rfl)
theorem dX0_move_131 : decode cX0_move 131 = .ok (.iload 9, 2) := dk_21 9 (dk_at dksX0_move_5 16 rfl rfl)
theorem dX0_move_133 : decode cX0_move 133 = .ok (.iadd, 1) := dk_96 (dk_at dksX0_move_5 18 rfl rfl)
theorem dX0_move_134 : decode cX0_move 134 = .ok (.aload 8, 2) := dk_25 8 (dk_at dksX0_move_5 19 rfl rfl)
theorem dX0_move_136 : decode cX0_move 136 = .ok (.iload_n 2, 1) := dk_28 (dk_at dksX0_move_5 21 rfl rfl)
theorem dX0_move_137 : decode cX0_move 137 = .ok (.iload 9, 2) := dk_21 9 (dk_at dksX0_move_5 22 rfl rfl)
theorem dX0_move_139 : decode cX0_move 139 = .ok (.iadd, 1) := dk_96 (dk_at dksX0_move_6 0 rfl rfl)
theorem dX0_move_140 : decode cX0_move 140 = .ok (.iaload, 1) := dk_46 (dk_at dksX0_move_6 1 rfl rfl)
theorem dX0_move_141 : decode cX0_move 141 = .ok (.invokevirtual 356, 3) := dk_182 1 100 (dk_at dksX0_move_6 2 rfl rfl)
theorem dX0_move_144 : decode cX0_move 144 = .ok (.iinc 9 1, 3) := dk_132 9 1 (dk_at dksX0_move_6 5 rfl rfl)
theorem dX0_move_147 : decode cX0_move 147 = .ok (.goto (-27), 3) := dk_167 255 229 (dk_at dksX0_move_6 8 rfl rfl)
theorem dX0_move_150 : decode cX0_move 150 = .ok (.iload 5, 2) := dk_21 5 (dk_at dksX0_move_6 11 rfl rfl)
theorem dX0_move_152 : decode cX0_move 152 = .ok (.ireturn, 1) := dk_172 (dk_at dksX0_move_6 13 rfl rfl)
theorem dX0_move_153 : decode cX0_move 153 = .ok (.astore 6, 2) := dk_58 6 (dk_at dksX0_move_6 14 rfl rfl)
theorem dX0_move_155 : decode cX0_move 155 = .ok (.aload_n 0, 1) := dk_42 (dk_at dksX0_move_6 16 rfl rfl)
theorem dX0_move_156 : decode cX0_move 156 = .ok (.aload 6, 2) := dk_25 6 (dk_at dksX0_move_6 17 rfl rfl)
theorem dX0_move_158 : decode cX0_move 158 = .ok (.invokevirtual 109, 3) := dk_182 0 109 (dk_at dksX0_move_6 19 rfl rfl)
theorem dX0_move_161 : decode cX0_move 161 = .ok (.ireturn, 1) := dk_172 (dk_at dksX0_move_6 22 rfl rfl)
abbrev cX0_image : ByteArray := prog_1_method_60_code
def yX0_image : MethodName := ⟨RX0, "image", "()I"⟩
def dkwX0_image_1 : List UInt8 := [180, 1, 114, 172]
abbrev dktX0_image_1 : List UInt8 := dkwX0_image_1 ++ []
def dkwX0_image_0 : List UInt8 := [42, 180, 0, 50, 42, 180, 0, 46, 182, 1, 110, 76, 42, 89, 180, 1, 114, 4, 96, 181, 1, 114, 42]
abbrev dktX0_image_0 : List UInt8 := dkwX0_image_0 ++ dktX0_image_1
theorem dksX0_image_0 : cX0_image.data.toList.drop 0 = dktX0_image_0 := by decide +kernel
theorem dksX0_image_1 : cX0_image.data.toList.drop 23 = dktX0_image_1 := dk_seg dksX0_image_0 23 rfl rfl
theorem dX0_image_0 : decode cX0_image 0 = .ok (.aload_n 0, 1) := dk_42 (dk_at dksX0_image_0 0 rfl rfl)
theorem dX0_image_1 : decode cX0_image 1 = .ok (.getfield 50, 3) := dk_180 0 50 (dk_at dksX0_image_0 1 rfl rfl)
theorem dX0_image_4 : decode cX0_image 4 = .ok (.aload_n 0, 1) := dk_42 (dk_at dksX0_image_0 4 rfl rfl)
theorem dX0_image_5 : decode cX0_image 5 = .ok (.getfield 46, 3) := dk_180 0 46 (dk_at dksX0_image_0 5 rfl rfl)
theorem dX0_image_8 : decode cX0_image 8 = .ok (.invokevirtual 366, 3) := dk_182 1 110 (dk_at dksX0_image_0 8 rfl rfl)
theorem dX0_image_11 : decode cX0_image 11 = .ok (.astore_n 1, 1) := dk_76 (dk_at dksX0_image_0 11 rfl rfl)
theorem dX0_image_12 : decode cX0_image 12 = .ok (.aload_n 0, 1) := dk_42 (dk_at dksX0_image_0 12 rfl rfl)
theorem dX0_image_13 : decode cX0_image 13 = .ok (.dup, 1) := dk_89 (dk_at dksX0_image_0 13 rfl rfl)
theorem dX0_image_14 : decode cX0_image 14 = .ok (.getfield 370, 3) := dk_180 1 114 (dk_at dksX0_image_0 14 rfl rfl)
theorem dX0_image_17 : decode cX0_image 17 = .ok (.iconst 1, 1) := dk_4 (dk_at dksX0_image_0 17 rfl rfl)
theorem dX0_image_18 : decode cX0_image 18 = .ok (.iadd, 1) := dk_96 (dk_at dksX0_image_0 18 rfl rfl)
theorem dX0_image_19 : decode cX0_image 19 = .ok (.putfield 370, 3) := dk_181 1 114 (dk_at dksX0_image_0 19 rfl rfl)
theorem dX0_image_22 : decode cX0_image 22 = .ok (.aload_n 0, 1) := dk_42 (dk_at dksX0_image_0 22 rfl rfl)
theorem dX0_image_23 : decode cX0_image 23 = .ok (.getfield 370, 3) := dk_180 1 114 (dk_at dksX0_image_1 0 rfl rfl)
theorem dX0_image_26 : decode cX0_image 26 = .ok (.ireturn, 1) := dk_172 (dk_at dksX0_image_1 3 rfl rfl)
abbrev cX0_restore : ByteArray := prog_1_method_61_code
def yX0_restore : MethodName := ⟨RX0, "restore", "()I"⟩
def dkwX0_restore_1 : List UInt8 := [180, 0, 50, 182, 1, 110, 180, 0, 224, 172, 76, 42, 43, 182, 0, 109, 172]
abbrev dktX0_restore_1 : List UInt8 := dkwX0_restore_1 ++ []
def dkwX0_restore_0 : List UInt8 := [42, 42, 180, 1, 114, 158, 0, 7, 4, 167, 0, 4, 3, 5, 182, 0, 100, 42, 180, 0, 46, 42]
abbrev dktX0_restore_0 : List UInt8 := dkwX0_restore_0 ++ dktX0_restore_1
theorem dksX0_restore_0 : cX0_restore.data.toList.drop 0 = dktX0_restore_0 := by decide +kernel
theorem dksX0_restore_1 : cX0_restore.data.toList.drop 22 = dktX0_restore_1 := dk_seg dksX0_restore_0 22 rfl rfl
theorem dX0_restore_0 : decode cX0_restore 0 = .ok (.aload_n 0, 1) := dk_42 (dk_at dksX0_restore_0 0 rfl rfl)
theorem dX0_restore_1 : decode cX0_restore 1 = .ok (.aload_n 0, 1) := dk_42 (dk_at dksX0_restore_0 1 rfl rfl)
theorem dX0_restore_2 : decode cX0_restore 2 = .ok (.getfield 370, 3) := dk_180 1 114 (dk_at dksX0_restore_0 2 rfl rfl)
theorem dX0_restore_5 : decode cX0_restore 5 = .ok (.ifCond .le 7, 3) := dk_158 0 7 (dk_at dksX0_restore_0 5 rfl rfl)
theorem dX0_restore_8 : decode cX0_restore 8 = .ok (.iconst 1, 1) := dk_4 (dk_at dksX0_restore_0 8 rfl rfl)
theorem dX0_restore_9 : decode cX0_restore 9 = .ok (.goto 4, 3) := dk_167 0 4 (dk_at dksX0_restore_0 9 rfl rfl)
theorem dX0_restore_12 : decode cX0_restore 12 = .ok (.iconst 0, 1) := dk_3 (dk_at dksX0_restore_0 12 rfl rfl)
theorem dX0_restore_13 : decode cX0_restore 13 = .ok (.iconst 2, 1) := dk_5 (dk_at dksX0_restore_0 13 rfl rfl)
theorem dX0_restore_14 : decode cX0_restore 14 = .ok (.invokevirtual 100, 3) := dk_182 0 100 (dk_at dksX0_restore_0 14 rfl rfl)
theorem dX0_restore_17 : decode cX0_restore 17 = .ok (.aload_n 0, 1) := dk_42 (dk_at dksX0_restore_0 17 rfl rfl)
theorem dX0_restore_18 : decode cX0_restore 18 = .ok (.getfield 46, 3) := dk_180 0 46 (dk_at dksX0_restore_0 18 rfl rfl)
theorem dX0_restore_21 : decode cX0_restore 21 = .ok (.aload_n 0, 1) := dk_42 (dk_at dksX0_restore_0 21 rfl rfl)
theorem dX0_restore_22 : decode cX0_restore 22 = .ok (.getfield 50, 3) := dk_180 0 50 (dk_at dksX0_restore_1 0 rfl rfl)
theorem dX0_restore_25 : decode cX0_restore 25 = .ok (.invokevirtual 366, 3) := dk_182 1 110 (dk_at dksX0_restore_1 3 rfl rfl)
theorem dX0_restore_28 : decode cX0_restore 28 = .ok (.getfield 224, 3) := dk_180 0 224 (dk_at dksX0_restore_1 6 rfl rfl)
theorem dX0_restore_31 : decode cX0_restore 31 = .ok (.ireturn, 1) := dk_172 (dk_at dksX0_restore_1 9 rfl rfl)
theorem dX0_restore_32 : decode cX0_restore 32 = .ok (.astore_n 1, 1) := dk_76 (dk_at dksX0_restore_1 10 rfl rfl)
theorem dX0_restore_33 : decode cX0_restore 33 = .ok (.aload_n 0, 1) := dk_42 (dk_at dksX0_restore_1 11 rfl rfl)
theorem dX0_restore_34 : decode cX0_restore 34 = .ok (.aload_n 1, 1) := dk_43 (dk_at dksX0_restore_1 12 rfl rfl)
theorem dX0_restore_35 : decode cX0_restore 35 = .ok (.invokevirtual 109, 3) := dk_182 0 109 (dk_at dksX0_restore_1 13 rfl rfl)
theorem dX0_restore_38 : decode cX0_restore 38 = .ok (.ireturn, 1) := dk_172 (dk_at dksX0_restore_1 16 rfl rfl)
abbrev cX0_tell : ByteArray := prog_1_method_62_code
def yX0_tell : MethodName := ⟨RX0, "tell", "(I)I"⟩
def dkwX0_tell_2 : List UInt8 := [96, 181, 1, 117, 42, 180, 0, 46, 180, 1, 117, 172, 77, 42, 44, 182, 0, 109, 172]
abbrev dktX0_tell_2 : List UInt8 := dkwX0_tell_2 ++ []
def dkwX0_tell_1 : List UInt8 := [180, 0, 46, 180, 1, 120, 42, 180, 0, 46, 180, 1, 117, 27, 79, 42, 180, 0, 46, 89, 180, 1, 117, 4]
abbrev dktX0_tell_1 : List UInt8 := dkwX0_tell_1 ++ dktX0_tell_2
def dkwX0_tell_0 : List UInt8 := [42, 42, 180, 0, 46, 180, 1, 117, 16, 20, 162, 0, 7, 4, 167, 0, 4, 3, 7, 182, 0, 100, 42]
abbrev dktX0_tell_0 : List UInt8 := dkwX0_tell_0 ++ dktX0_tell_1
theorem dksX0_tell_0 : cX0_tell.data.toList.drop 0 = dktX0_tell_0 := by decide +kernel
theorem dksX0_tell_1 : cX0_tell.data.toList.drop 23 = dktX0_tell_1 := dk_seg dksX0_tell_0 23 rfl rfl
theorem dksX0_tell_2 : cX0_tell.data.toList.drop 47 = dktX0_tell_2 := dk_seg dksX0_tell_1 24 rfl rfl
theorem dX0_tell_0 : decode cX0_tell 0 = .ok (.aload_n 0, 1) := dk_42 (dk_at dksX0_tell_0 0 rfl rfl)
theorem dX0_tell_1 : decode cX0_tell 1 = .ok (.aload_n 0, 1) := dk_42 (dk_at dksX0_tell_0 1 rfl rfl)
theorem dX0_tell_2 : decode cX0_tell 2 = .ok (.getfield 46, 3) := dk_180 0 46 (dk_at dksX0_tell_0 2 rfl rfl)
theorem dX0_tell_5 : decode cX0_tell 5 = .ok (.getfield 373, 3) := dk_180 1 117 (dk_at dksX0_tell_0 5 rfl rfl)
theorem dX0_tell_8 : decode cX0_tell 8 = .ok (.bipush 20, 2) := dk_16 20 (dk_at dksX0_tell_0 8 rfl rfl)
theorem dX0_tell_10 : decode cX0_tell 10 = .ok (.if_icmp .ge 7, 3) := dk_162 0 7 (dk_at dksX0_tell_0 10 rfl rfl)
theorem dX0_tell_13 : decode cX0_tell 13 = .ok (.iconst 1, 1) := dk_4 (dk_at dksX0_tell_0 13 rfl rfl)
theorem dX0_tell_14 : decode cX0_tell 14 = .ok (.goto 4, 3) := dk_167 0 4 (dk_at dksX0_tell_0 14 rfl rfl)
theorem dX0_tell_17 : decode cX0_tell 17 = .ok (.iconst 0, 1) := dk_3 (dk_at dksX0_tell_0 17 rfl rfl)
theorem dX0_tell_18 : decode cX0_tell 18 = .ok (.iconst 4, 1) := dk_7 (dk_at dksX0_tell_0 18 rfl rfl)
theorem dX0_tell_19 : decode cX0_tell 19 = .ok (.invokevirtual 100, 3) := dk_182 0 100 (dk_at dksX0_tell_0 19 rfl rfl)
theorem dX0_tell_22 : decode cX0_tell 22 = .ok (.aload_n 0, 1) := dk_42 (dk_at dksX0_tell_0 22 rfl rfl)
theorem dX0_tell_23 : decode cX0_tell 23 = .ok (.getfield 46, 3) := dk_180 0 46 (dk_at dksX0_tell_1 0 rfl rfl)
theorem dX0_tell_26 : decode cX0_tell 26 = .ok (.getfield 376, 3) := dk_180 1 120 (dk_at dksX0_tell_1 3 rfl rfl)
theorem dX0_tell_29 : decode cX0_tell 29 = .ok (.aload_n 0, 1) := dk_42 (dk_at dksX0_tell_1 6 rfl rfl)
theorem dX0_tell_30 : decode cX0_tell 30 = .ok (.getfield 46, 3) := dk_180 0 46 (dk_at dksX0_tell_1 7 rfl rfl)
theorem dX0_tell_33 : decode cX0_tell 33 = .ok (.getfield 373, 3) := dk_180 1 117 (dk_at dksX0_tell_1 10 rfl rfl)
theorem dX0_tell_36 : decode cX0_tell 36 = .ok (.iload_n 1, 1) := dk_27 (dk_at dksX0_tell_1 13 rfl rfl)
theorem dX0_tell_37 : decode cX0_tell 37 = .ok (.iastore, 1) := dk_79 (dk_at dksX0_tell_1 14 rfl rfl)
theorem dX0_tell_38 : decode cX0_tell 38 = .ok (.aload_n 0, 1) := dk_42 (dk_at dksX0_tell_1 15 rfl rfl)
theorem dX0_tell_39 : decode cX0_tell 39 = .ok (.getfield 46, 3) := dk_180 0 46 (dk_at dksX0_tell_1 16 rfl rfl)
theorem dX0_tell_42 : decode cX0_tell 42 = .ok (.dup, 1) := dk_89 (dk_at dksX0_tell_1 19 rfl rfl)
theorem dX0_tell_43 : decode cX0_tell 43 = .ok (.getfield 373, 3) := dk_180 1 117 (dk_at dksX0_tell_1 20 rfl rfl)
theorem dX0_tell_46 : decode cX0_tell 46 = .ok (.iconst 1, 1) := dk_4 (dk_at dksX0_tell_1 23 rfl rfl)
theorem dX0_tell_47 : decode cX0_tell 47 = .ok (.iadd, 1) := dk_96 (dk_at dksX0_tell_2 0 rfl rfl)
theorem dX0_tell_48 : decode cX0_tell 48 = .ok (.putfield 373, 3) := dk_181 1 117 (dk_at dksX0_tell_2 1 rfl rfl)
theorem dX0_tell_51 : decode cX0_tell 51 = .ok (.aload_n 0, 1) := dk_42 (dk_at dksX0_tell_2 4 rfl rfl)
theorem dX0_tell_52 : decode cX0_tell 52 = .ok (.getfield 46, 3) := dk_180 0 46 (dk_at dksX0_tell_2 5 rfl rfl)
theorem dX0_tell_55 : decode cX0_tell 55 = .ok (.getfield 373, 3) := dk_180 1 117 (dk_at dksX0_tell_2 8 rfl rfl)
theorem dX0_tell_58 : decode cX0_tell 58 = .ok (.ireturn, 1) := dk_172 (dk_at dksX0_tell_2 11 rfl rfl)
theorem dX0_tell_59 : decode cX0_tell 59 = .ok (.astore_n 2, 1) := dk_77 (dk_at dksX0_tell_2 12 rfl rfl)
theorem dX0_tell_60 : decode cX0_tell 60 = .ok (.aload_n 0, 1) := dk_42 (dk_at dksX0_tell_2 13 rfl rfl)
theorem dX0_tell_61 : decode cX0_tell 61 = .ok (.aload_n 2, 1) := dk_44 (dk_at dksX0_tell_2 14 rfl rfl)
theorem dX0_tell_62 : decode cX0_tell 62 = .ok (.invokevirtual 109, 3) := dk_182 0 109 (dk_at dksX0_tell_2 15 rfl rfl)
theorem dX0_tell_65 : decode cX0_tell 65 = .ok (.ireturn, 1) := dk_172 (dk_at dksX0_tell_2 18 rfl rfl)
abbrev cX0_check : ByteArray := prog_1_method_63_code
def yX0_check : MethodName := ⟨RX0, "check", "()I"⟩
def dkwX0_check_4 : List UInt8 := [4, 28, 96, 172]
abbrev dktX0_check_4 : List UInt8 := dkwX0_check_4 ++ []
def dkwX0_check_3 : List UInt8 := [62, 28, 29, 153, 0, 7, 4, 167, 0, 4, 3, 96, 61, 167, 255, 203, 29, 153, 0, 7, 3, 167, 0, 6]
abbrev dktX0_check_3 : List UInt8 := dkwX0_check_3 ++ dktX0_check_4
def dkwX0_check_2 : List UInt8 := [42, 180, 0, 46, 180, 1, 120, 28, 46, 42, 180, 0, 53, 182, 0, 241, 160, 0, 7, 4, 167, 0, 4, 3]
abbrev dktX0_check_2 : List UInt8 := dkwX0_check_2 ++ dktX0_check_3
def dkwX0_check_1 : List UInt8 := [182, 1, 110, 87, 3, 61, 4, 62, 28, 27, 162, 0, 54, 29, 153, 0, 50, 42, 180, 0, 53, 182, 0, 238]
abbrev dktX0_check_1 : List UInt8 := dkwX0_check_1 ++ dktX0_check_2
def dkwX0_check_0 : List UInt8 := [42, 180, 0, 46, 180, 1, 117, 60, 42, 180, 0, 46, 3, 181, 1, 117, 42, 180, 0, 53, 42, 180, 0, 46]
abbrev dktX0_check_0 : List UInt8 := dkwX0_check_0 ++ dktX0_check_1
theorem dksX0_check_0 : cX0_check.data.toList.drop 0 = dktX0_check_0 := by decide +kernel
theorem dksX0_check_1 : cX0_check.data.toList.drop 24 = dktX0_check_1 := dk_seg dksX0_check_0 24 rfl rfl
theorem dksX0_check_2 : cX0_check.data.toList.drop 48 = dktX0_check_2 := dk_seg dksX0_check_1 24 rfl rfl
theorem dksX0_check_3 : cX0_check.data.toList.drop 72 = dktX0_check_3 := dk_seg dksX0_check_2 24 rfl rfl
theorem dksX0_check_4 : cX0_check.data.toList.drop 96 = dktX0_check_4 := dk_seg dksX0_check_3 24 rfl rfl
theorem dX0_check_0 : decode cX0_check 0 = .ok (.aload_n 0, 1) := dk_42 (dk_at dksX0_check_0 0 rfl rfl)
theorem dX0_check_1 : decode cX0_check 1 = .ok (.getfield 46, 3) := dk_180 0 46 (dk_at dksX0_check_0 1 rfl rfl)
theorem dX0_check_4 : decode cX0_check 4 = .ok (.getfield 373, 3) := dk_180 1 117 (dk_at dksX0_check_0 4 rfl rfl)
theorem dX0_check_7 : decode cX0_check 7 = .ok (.istore_n 1, 1) := dk_60 (dk_at dksX0_check_0 7 rfl rfl)
theorem dX0_check_8 : decode cX0_check 8 = .ok (.aload_n 0, 1) := dk_42 (dk_at dksX0_check_0 8 rfl rfl)
theorem dX0_check_9 : decode cX0_check 9 = .ok (.getfield 46, 3) := dk_180 0 46 (dk_at dksX0_check_0 9 rfl rfl)
theorem dX0_check_12 : decode cX0_check 12 = .ok (.iconst 0, 1) := dk_3 (dk_at dksX0_check_0 12 rfl rfl)
theorem dX0_check_13 : decode cX0_check 13 = .ok (.putfield 373, 3) := dk_181 1 117 (dk_at dksX0_check_0 13 rfl rfl)
theorem dX0_check_16 : decode cX0_check 16 = .ok (.aload_n 0, 1) := dk_42 (dk_at dksX0_check_0 16 rfl rfl)
theorem dX0_check_17 : decode cX0_check 17 = .ok (.getfield 53, 3) := dk_180 0 53 (dk_at dksX0_check_0 17 rfl rfl)
theorem dX0_check_20 : decode cX0_check 20 = .ok (.aload_n 0, 1) := dk_42 (dk_at dksX0_check_0 20 rfl rfl)
theorem dX0_check_21 : decode cX0_check 21 = .ok (.getfield 46, 3) := dk_180 0 46 (dk_at dksX0_check_0 21 rfl rfl)
theorem dX0_check_24 : decode cX0_check 24 = .ok (.invokevirtual 366, 3) := dk_182 1 110 (dk_at dksX0_check_1 0 rfl rfl)
theorem dX0_check_27 : decode cX0_check 27 = .ok (.pop, 1) := dk_87 (dk_at dksX0_check_1 3 rfl rfl)
theorem dX0_check_28 : decode cX0_check 28 = .ok (.iconst 0, 1) := dk_3 (dk_at dksX0_check_1 4 rfl rfl)
theorem dX0_check_29 : decode cX0_check 29 = .ok (.istore_n 2, 1) := dk_61 (dk_at dksX0_check_1 5 rfl rfl)
theorem dX0_check_30 : decode cX0_check 30 = .ok (.iconst 1, 1) := dk_4 (dk_at dksX0_check_1 6 rfl rfl)
theorem dX0_check_31 : decode cX0_check 31 = .ok (.istore_n 3, 1) := dk_62 (dk_at dksX0_check_1 7 rfl rfl)
theorem dX0_check_32 : decode cX0_check 32 = .ok (.iload_n 2, 1) := dk_28 (dk_at dksX0_check_1 8 rfl rfl)
theorem dX0_check_33 : decode cX0_check 33 = .ok (.iload_n 1, 1) := dk_27 (dk_at dksX0_check_1 9 rfl rfl)
theorem dX0_check_34 : decode cX0_check 34 = .ok (.if_icmp .ge 54, 3) := dk_162 0 54 (dk_at dksX0_check_1 10 rfl rfl)
theorem dX0_check_37 : decode cX0_check 37 = .ok (.iload_n 3, 1) := dk_29 (dk_at dksX0_check_1 13 rfl rfl)
theorem dX0_check_38 : decode cX0_check 38 = .ok (.ifCond .eq 50, 3) := dk_153 0 50 (dk_at dksX0_check_1 14 rfl rfl)
theorem dX0_check_41 : decode cX0_check 41 = .ok (.aload_n 0, 1) := dk_42 (dk_at dksX0_check_1 17 rfl rfl)
theorem dX0_check_42 : decode cX0_check 42 = .ok (.getfield 53, 3) := dk_180 0 53 (dk_at dksX0_check_1 18 rfl rfl)
theorem dX0_check_45 : decode cX0_check 45 = .ok (.invokevirtual 238, 3) := dk_182 0 238 (dk_at dksX0_check_1 21 rfl rfl)
theorem dX0_check_48 : decode cX0_check 48 = .ok (.aload_n 0, 1) := dk_42 (dk_at dksX0_check_2 0 rfl rfl)
theorem dX0_check_49 : decode cX0_check 49 = .ok (.getfield 46, 3) := dk_180 0 46 (dk_at dksX0_check_2 1 rfl rfl)
theorem dX0_check_52 : decode cX0_check 52 = .ok (.getfield 376, 3) := dk_180 1 120 (dk_at dksX0_check_2 4 rfl rfl)
theorem dX0_check_55 : decode cX0_check 55 = .ok (.iload_n 2, 1) := dk_28 (dk_at dksX0_check_2 7 rfl rfl)
theorem dX0_check_56 : decode cX0_check 56 = .ok (.iaload, 1) := dk_46 (dk_at dksX0_check_2 8 rfl rfl)
theorem dX0_check_57 : decode cX0_check 57 = .ok (.aload_n 0, 1) := dk_42 (dk_at dksX0_check_2 9 rfl rfl)
theorem dX0_check_58 : decode cX0_check 58 = .ok (.getfield 53, 3) := dk_180 0 53 (dk_at dksX0_check_2 10 rfl rfl)
theorem dX0_check_61 : decode cX0_check 61 = .ok (.invokevirtual 241, 3) := dk_182 0 241 (dk_at dksX0_check_2 13 rfl rfl)
theorem dX0_check_64 : decode cX0_check 64 = .ok (.if_icmp .ne 7, 3) := dk_160 0 7 (dk_at dksX0_check_2 16 rfl rfl)
theorem dX0_check_67 : decode cX0_check 67 = .ok (.iconst 1, 1) := dk_4 (dk_at dksX0_check_2 19 rfl rfl)
theorem dX0_check_68 : decode cX0_check 68 = .ok (.goto 4, 3) := dk_167 0 4 (dk_at dksX0_check_2 20 rfl rfl)
theorem dX0_check_71 : decode cX0_check 71 = .ok (.iconst 0, 1) := dk_3 (dk_at dksX0_check_2 23 rfl rfl)
theorem dX0_check_72 : decode cX0_check 72 = .ok (.istore_n 3, 1) := dk_62 (dk_at dksX0_check_3 0 rfl rfl)
theorem dX0_check_73 : decode cX0_check 73 = .ok (.iload_n 2, 1) := dk_28 (dk_at dksX0_check_3 1 rfl rfl)
theorem dX0_check_74 : decode cX0_check 74 = .ok (.iload_n 3, 1) := dk_29 (dk_at dksX0_check_3 2 rfl rfl)
theorem dX0_check_75 : decode cX0_check 75 = .ok (.ifCond .eq 7, 3) := dk_153 0 7 (dk_at dksX0_check_3 3 rfl rfl)
theorem dX0_check_78 : decode cX0_check 78 = .ok (.iconst 1, 1) := dk_4 (dk_at dksX0_check_3 6 rfl rfl)
theorem dX0_check_79 : decode cX0_check 79 = .ok (.goto 4, 3) := dk_167 0 4 (dk_at dksX0_check_3 7 rfl rfl)
theorem dX0_check_82 : decode cX0_check 82 = .ok (.iconst 0, 1) := dk_3 (dk_at dksX0_check_3 10 rfl rfl)
theorem dX0_check_83 : decode cX0_check 83 = .ok (.iadd, 1) := dk_96 (dk_at dksX0_check_3 11 rfl rfl)
theorem dX0_check_84 : decode cX0_check 84 = .ok (.istore_n 2, 1) := dk_61 (dk_at dksX0_check_3 12 rfl rfl)
theorem dX0_check_85 : decode cX0_check 85 = .ok (.goto (-53), 3) := dk_167 255 203 (dk_at dksX0_check_3 13 rfl rfl)
theorem dX0_check_88 : decode cX0_check 88 = .ok (.iload_n 3, 1) := dk_29 (dk_at dksX0_check_3 16 rfl rfl)
theorem dX0_check_89 : decode cX0_check 89 = .ok (.ifCond .eq 7, 3) := dk_153 0 7 (dk_at dksX0_check_3 17 rfl rfl)
theorem dX0_check_92 : decode cX0_check 92 = .ok (.iconst 0, 1) := dk_3 (dk_at dksX0_check_3 20 rfl rfl)
theorem dX0_check_93 : decode cX0_check 93 = .ok (.goto 6, 3) := dk_167 0 6 (dk_at dksX0_check_3 21 rfl rfl)
theorem dX0_check_96 : decode cX0_check 96 = .ok (.iconst 1, 1) := dk_4 (dk_at dksX0_check_4 0 rfl rfl)
theorem dX0_check_97 : decode cX0_check 97 = .ok (.iload_n 2, 1) := dk_28 (dk_at dksX0_check_4 1 rfl rfl)
theorem dX0_check_98 : decode cX0_check 98 = .ok (.iadd, 1) := dk_96 (dk_at dksX0_check_4 2 rfl rfl)
theorem dX0_check_99 : decode cX0_check 99 = .ok (.ireturn, 1) := dk_172 (dk_at dksX0_check_4 3 rfl rfl)
abbrev cX0_count : ByteArray := prog_1_method_64_code
def yX0_count : MethodName := ⟨RX0, "count", "(I)I"⟩
def dkwX0_count_7 : List UInt8 := [180, 1, 59, 172, 77, 42, 44, 182, 0, 109, 172]
abbrev dktX0_count_7 : List UInt8 := dkwX0_count_7 ++ []
def dkwX0_count_6 : List UInt8 := [180, 0, 181, 172, 42, 180, 0, 46, 180, 1, 117, 172, 42, 180, 0, 59, 180, 1, 62, 172, 42, 180, 0, 46]
abbrev dktX0_count_6 : List UInt8 := dkwX0_count_6 ++ dktX0_count_7
def dkwX0_count_5 : List UInt8 := [42, 180, 0, 46, 182, 0, 241, 172, 28, 172, 42, 180, 0, 46, 180, 0, 141, 172, 29, 172, 42, 180, 0, 46]
abbrev dktX0_count_5 : List UInt8 := dkwX0_count_5 ++ dktX0_count_6
def dkwX0_count_4 : List UInt8 := [42, 180, 0, 46, 180, 0, 93, 172, 42, 180, 0, 46, 180, 0, 224, 172, 42, 180, 0, 46, 180, 0, 232, 172]
abbrev dktX0_count_4 : List UInt8 := dkwX0_count_4 ++ dktX0_count_5
def dkwX0_count_3 : List UInt8 := [170, 0, 0, 0, 0, 122, 0, 0, 0, 0, 0, 0, 0, 9, 0, 0, 0, 54, 0, 0, 0, 62, 0, 0, 0, 70, 0, 0, 0, 78, 0, 0, 0, 86, 0, 0, 0, 88, 0, 0, 0, 96, 0, 0, 0, 98, 0, 0, 0, 106, 0, 0, 0, 114]
abbrev dktX0_count_3 : List UInt8 := dkwX0_count_3 ++ dktX0_count_4
def dkwX0_count_2 : List UInt8 := [182, 0, 137, 96, 62, 132, 4, 1, 167, 255, 221, 27]
abbrev dktX0_count_2 : List UInt8 := dkwX0_count_2 ++ dktX0_count_3
def dkwX0_count_1 : List UInt8 := [162, 0, 34, 28, 42, 180, 0, 46, 180, 0, 106, 21, 4, 46, 96, 61, 29, 42, 180, 0, 46, 21, 4]
abbrev dktX0_count_1 : List UInt8 := dkwX0_count_1 ++ dktX0_count_2
def dkwX0_count_0 : List UInt8 := [42, 27, 3, 16, 10, 184, 0, 85, 4, 182, 0, 100, 3, 61, 3, 62, 3, 54, 4, 21, 4, 16, 8]
abbrev dktX0_count_0 : List UInt8 := dkwX0_count_0 ++ dktX0_count_1
theorem dksX0_count_0 : cX0_count.data.toList.drop 0 = dktX0_count_0 := by decide +kernel
theorem dksX0_count_1 : cX0_count.data.toList.drop 23 = dktX0_count_1 := dk_seg dksX0_count_0 23 rfl rfl
theorem dksX0_count_2 : cX0_count.data.toList.drop 46 = dktX0_count_2 := dk_seg dksX0_count_1 23 rfl rfl
theorem dksX0_count_3 : cX0_count.data.toList.drop 58 = dktX0_count_3 := dk_seg dksX0_count_2 12 rfl rfl
theorem dksX0_count_4 : cX0_count.data.toList.drop 112 = dktX0_count_4 := dk_seg dksX0_count_3 54 rfl rfl
theorem dksX0_count_5 : cX0_count.data.toList.drop 136 = dktX0_count_5 := dk_seg dksX0_count_4 24 rfl rfl
theorem dksX0_count_6 : cX0_count.data.toList.drop 160 = dktX0_count_6 := dk_seg dksX0_count_5 24 rfl rfl
theorem dksX0_count_7 : cX0_count.data.toList.drop 184 = dktX0_count_7 := dk_seg dksX0_count_6 24 rfl rfl
theorem dX0_count_0 : decode cX0_count 0 = .ok (.aload_n 0, 1) := dk_42 (dk_at dksX0_count_0 0 rfl rfl)
theorem dX0_count_1 : decode cX0_count 1 = .ok (.iload_n 1, 1) := dk_27 (dk_at dksX0_count_0 1 rfl rfl)
theorem dX0_count_2 : decode cX0_count 2 = .ok (.iconst 0, 1) := dk_3 (dk_at dksX0_count_0 2 rfl rfl)
theorem dX0_count_3 : decode cX0_count 3 = .ok (.bipush 10, 2) := dk_16 10 (dk_at dksX0_count_0 3 rfl rfl)
theorem dX0_count_5 : decode cX0_count 5 = .ok (.invokestatic 85, 3) := dk_184 0 85 (dk_at dksX0_count_0 5 rfl rfl)
theorem dX0_count_8 : decode cX0_count 8 = .ok (.iconst 1, 1) := dk_4 (dk_at dksX0_count_0 8 rfl rfl)
theorem dX0_count_9 : decode cX0_count 9 = .ok (.invokevirtual 100, 3) := dk_182 0 100 (dk_at dksX0_count_0 9 rfl rfl)
theorem dX0_count_12 : decode cX0_count 12 = .ok (.iconst 0, 1) := dk_3 (dk_at dksX0_count_0 12 rfl rfl)
theorem dX0_count_13 : decode cX0_count 13 = .ok (.istore_n 2, 1) := dk_61 (dk_at dksX0_count_0 13 rfl rfl)
theorem dX0_count_14 : decode cX0_count 14 = .ok (.iconst 0, 1) := dk_3 (dk_at dksX0_count_0 14 rfl rfl)
theorem dX0_count_15 : decode cX0_count 15 = .ok (.istore_n 3, 1) := dk_62 (dk_at dksX0_count_0 15 rfl rfl)
theorem dX0_count_16 : decode cX0_count 16 = .ok (.iconst 0, 1) := dk_3 (dk_at dksX0_count_0 16 rfl rfl)
theorem dX0_count_17 : decode cX0_count 17 = .ok (.istore 4, 2) := dk_54 4 (dk_at dksX0_count_0 17 rfl rfl)
theorem dX0_count_19 : decode cX0_count 19 = .ok (.iload 4, 2) := dk_21 4 (dk_at dksX0_count_0 19 rfl rfl)
theorem dX0_count_21 : decode cX0_count 21 = .ok (.bipush 8, 2) := dk_16 8 (dk_at dksX0_count_0 21 rfl rfl)
theorem dX0_count_23 : decode cX0_count 23 = .ok (.if_icmp .ge 34, 3) := dk_162 0 34 (dk_at dksX0_count_1 0 rfl rfl)
theorem dX0_count_26 : decode cX0_count 26 = .ok (.iload_n 2, 1) := dk_28 (dk_at dksX0_count_1 3 rfl rfl)
theorem dX0_count_27 : decode cX0_count 27 = .ok (.aload_n 0, 1) := dk_42 (dk_at dksX0_count_1 4 rfl rfl)
theorem dX0_count_28 : decode cX0_count 28 = .ok (.getfield 46, 3) := dk_180 0 46 (dk_at dksX0_count_1 5 rfl rfl)
theorem dX0_count_31 : decode cX0_count 31 = .ok (.getfield 106, 3) := dk_180 0 106 (dk_at dksX0_count_1 8 rfl rfl)
theorem dX0_count_34 : decode cX0_count 34 = .ok (.iload 4, 2) := dk_21 4 (dk_at dksX0_count_1 11 rfl rfl)
theorem dX0_count_36 : decode cX0_count 36 = .ok (.iaload, 1) := dk_46 (dk_at dksX0_count_1 13 rfl rfl)
theorem dX0_count_37 : decode cX0_count 37 = .ok (.iadd, 1) := dk_96 (dk_at dksX0_count_1 14 rfl rfl)
theorem dX0_count_38 : decode cX0_count 38 = .ok (.istore_n 2, 1) := dk_61 (dk_at dksX0_count_1 15 rfl rfl)
theorem dX0_count_39 : decode cX0_count 39 = .ok (.iload_n 3, 1) := dk_29 (dk_at dksX0_count_1 16 rfl rfl)
theorem dX0_count_40 : decode cX0_count 40 = .ok (.aload_n 0, 1) := dk_42 (dk_at dksX0_count_1 17 rfl rfl)
theorem dX0_count_41 : decode cX0_count 41 = .ok (.getfield 46, 3) := dk_180 0 46 (dk_at dksX0_count_1 18 rfl rfl)
theorem dX0_count_44 : decode cX0_count 44 = .ok (.iload 4, 2) := dk_21 4 (dk_at dksX0_count_1 21 rfl rfl)
theorem dX0_count_46 : decode cX0_count 46 = .ok (.invokevirtual 137, 3) := dk_182 0 137 (dk_at dksX0_count_2 0 rfl rfl)
theorem dX0_count_49 : decode cX0_count 49 = .ok (.iadd, 1) := dk_96 (dk_at dksX0_count_2 3 rfl rfl)
theorem dX0_count_50 : decode cX0_count 50 = .ok (.istore_n 3, 1) := dk_62 (dk_at dksX0_count_2 4 rfl rfl)
theorem dX0_count_51 : decode cX0_count 51 = .ok (.iinc 4 1, 3) := dk_132 4 1 (dk_at dksX0_count_2 5 rfl rfl)
theorem dX0_count_54 : decode cX0_count 54 = .ok (.goto (-35), 3) := dk_167 255 221 (dk_at dksX0_count_2 8 rfl rfl)
theorem dX0_count_57 : decode cX0_count 57 = .ok (.iload_n 1, 1) := dk_27 (dk_at dksX0_count_2 11 rfl rfl)
theorem dX0_count_58 : decode cX0_count 58 = .ok (.tableswitch 122 0 9 #[54, 62, 70, 78, 86, 88, 96, 98, 106, 114], 54) := by decide +kernel
theorem dX0_count_112 : decode cX0_count 112 = .ok (.aload_n 0, 1) := dk_42 (dk_at dksX0_count_4 0 rfl rfl)
theorem dX0_count_113 : decode cX0_count 113 = .ok (.getfield 46, 3) := dk_180 0 46 (dk_at dksX0_count_4 1 rfl rfl)
theorem dX0_count_116 : decode cX0_count 116 = .ok (.getfield 93, 3) := dk_180 0 93 (dk_at dksX0_count_4 4 rfl rfl)
theorem dX0_count_119 : decode cX0_count 119 = .ok (.ireturn, 1) := dk_172 (dk_at dksX0_count_4 7 rfl rfl)
theorem dX0_count_120 : decode cX0_count 120 = .ok (.aload_n 0, 1) := dk_42 (dk_at dksX0_count_4 8 rfl rfl)
theorem dX0_count_121 : decode cX0_count 121 = .ok (.getfield 46, 3) := dk_180 0 46 (dk_at dksX0_count_4 9 rfl rfl)
theorem dX0_count_124 : decode cX0_count 124 = .ok (.getfield 224, 3) := dk_180 0 224 (dk_at dksX0_count_4 12 rfl rfl)
theorem dX0_count_127 : decode cX0_count 127 = .ok (.ireturn, 1) := dk_172 (dk_at dksX0_count_4 15 rfl rfl)
theorem dX0_count_128 : decode cX0_count 128 = .ok (.aload_n 0, 1) := dk_42 (dk_at dksX0_count_4 16 rfl rfl)
theorem dX0_count_129 : decode cX0_count 129 = .ok (.getfield 46, 3) := dk_180 0 46 (dk_at dksX0_count_4 17 rfl rfl)
theorem dX0_count_132 : decode cX0_count 132 = .ok (.getfield 232, 3) := dk_180 0 232 (dk_at dksX0_count_4 20 rfl rfl)
theorem dX0_count_135 : decode cX0_count 135 = .ok (.ireturn, 1) := dk_172 (dk_at dksX0_count_4 23 rfl rfl)
theorem dX0_count_136 : decode cX0_count 136 = .ok (.aload_n 0, 1) := dk_42 (dk_at dksX0_count_5 0 rfl rfl)
theorem dX0_count_137 : decode cX0_count 137 = .ok (.getfield 46, 3) := dk_180 0 46 (dk_at dksX0_count_5 1 rfl rfl)
theorem dX0_count_140 : decode cX0_count 140 = .ok (.invokevirtual 241, 3) := dk_182 0 241 (dk_at dksX0_count_5 4 rfl rfl)
theorem dX0_count_143 : decode cX0_count 143 = .ok (.ireturn, 1) := dk_172 (dk_at dksX0_count_5 7 rfl rfl)
theorem dX0_count_144 : decode cX0_count 144 = .ok (.iload_n 2, 1) := dk_28 (dk_at dksX0_count_5 8 rfl rfl)
theorem dX0_count_145 : decode cX0_count 145 = .ok (.ireturn, 1) := dk_172 (dk_at dksX0_count_5 9 rfl rfl)
theorem dX0_count_146 : decode cX0_count 146 = .ok (.aload_n 0, 1) := dk_42 (dk_at dksX0_count_5 10 rfl rfl)
theorem dX0_count_147 : decode cX0_count 147 = .ok (.getfield 46, 3) := dk_180 0 46 (dk_at dksX0_count_5 11 rfl rfl)
theorem dX0_count_150 : decode cX0_count 150 = .ok (.getfield 141, 3) := dk_180 0 141 (dk_at dksX0_count_5 14 rfl rfl)
theorem dX0_count_153 : decode cX0_count 153 = .ok (.ireturn, 1) := dk_172 (dk_at dksX0_count_5 17 rfl rfl)
theorem dX0_count_154 : decode cX0_count 154 = .ok (.iload_n 3, 1) := dk_29 (dk_at dksX0_count_5 18 rfl rfl)
theorem dX0_count_155 : decode cX0_count 155 = .ok (.ireturn, 1) := dk_172 (dk_at dksX0_count_5 19 rfl rfl)
theorem dX0_count_156 : decode cX0_count 156 = .ok (.aload_n 0, 1) := dk_42 (dk_at dksX0_count_5 20 rfl rfl)
theorem dX0_count_157 : decode cX0_count 157 = .ok (.getfield 46, 3) := dk_180 0 46 (dk_at dksX0_count_5 21 rfl rfl)
theorem dX0_count_160 : decode cX0_count 160 = .ok (.getfield 181, 3) := dk_180 0 181 (dk_at dksX0_count_6 0 rfl rfl)
theorem dX0_count_163 : decode cX0_count 163 = .ok (.ireturn, 1) := dk_172 (dk_at dksX0_count_6 3 rfl rfl)
theorem dX0_count_164 : decode cX0_count 164 = .ok (.aload_n 0, 1) := dk_42 (dk_at dksX0_count_6 4 rfl rfl)
theorem dX0_count_165 : decode cX0_count 165 = .ok (.getfield 46, 3) := dk_180 0 46 (dk_at dksX0_count_6 5 rfl rfl)
theorem dX0_count_168 : decode cX0_count 168 = .ok (.getfield 373, 3) := dk_180 1 117 (dk_at dksX0_count_6 8 rfl rfl)
theorem dX0_count_171 : decode cX0_count 171 = .ok (.ireturn, 1) := dk_172 (dk_at dksX0_count_6 11 rfl rfl)
theorem dX0_count_172 : decode cX0_count 172 = .ok (.aload_n 0, 1) := dk_42 (dk_at dksX0_count_6 12 rfl rfl)
theorem dX0_count_173 : decode cX0_count 173 = .ok (.getfield 59, 3) := dk_180 0 59 (dk_at dksX0_count_6 13 rfl rfl)
theorem dX0_count_176 : decode cX0_count 176 = .ok (.getfield 318, 3) := dk_180 1 62 (dk_at dksX0_count_6 16 rfl rfl)
theorem dX0_count_179 : decode cX0_count 179 = .ok (.ireturn, 1) := dk_172 (dk_at dksX0_count_6 19 rfl rfl)
theorem dX0_count_180 : decode cX0_count 180 = .ok (.aload_n 0, 1) := dk_42 (dk_at dksX0_count_6 20 rfl rfl)
theorem dX0_count_181 : decode cX0_count 181 = .ok (.getfield 46, 3) := dk_180 0 46 (dk_at dksX0_count_6 21 rfl rfl)
theorem dX0_count_184 : decode cX0_count 184 = .ok (.getfield 315, 3) := dk_180 1 59 (dk_at dksX0_count_7 0 rfl rfl)
theorem dX0_count_187 : decode cX0_count 187 = .ok (.ireturn, 1) := dk_172 (dk_at dksX0_count_7 3 rfl rfl)
theorem dX0_count_188 : decode cX0_count 188 = .ok (.astore_n 2, 1) := dk_77 (dk_at dksX0_count_7 4 rfl rfl)
theorem dX0_count_189 : decode cX0_count 189 = .ok (.aload_n 0, 1) := dk_42 (dk_at dksX0_count_7 5 rfl rfl)
theorem dX0_count_190 : decode cX0_count 190 = .ok (.aload_n 2, 1) := dk_44 (dk_at dksX0_count_7 6 rfl rfl)
theorem dX0_count_191 : decode cX0_count 191 = .ok (.invokevirtual 109, 3) := dk_182 0 109 (dk_at dksX0_count_7 7 rfl rfl)
theorem dX0_count_194 : decode cX0_count 194 = .ok (.ireturn, 1) := dk_172 (dk_at dksX0_count_7 10 rfl rfl)
abbrev cX0_told : ByteArray := prog_1_method_65_code
def yX0_told : MethodName := ⟨RX0, "told", "(I)I"⟩
def dkwX0_told_1 : List UInt8 := [172]
abbrev dktX0_told_1 : List UInt8 := dkwX0_told_1 ++ []
def dkwX0_told_0 : List UInt8 := [42, 27, 4, 8, 184, 0, 85, 4, 182, 0, 100, 42, 180, 0, 63, 27, 46, 172, 77, 42, 44, 182, 0, 109]
abbrev dktX0_told_0 : List UInt8 := dkwX0_told_0 ++ dktX0_told_1
theorem dksX0_told_0 : cX0_told.data.toList.drop 0 = dktX0_told_0 := by decide +kernel
theorem dksX0_told_1 : cX0_told.data.toList.drop 24 = dktX0_told_1 := dk_seg dksX0_told_0 24 rfl rfl
theorem dX0_told_0 : decode cX0_told 0 = .ok (.aload_n 0, 1) := dk_42 (dk_at dksX0_told_0 0 rfl rfl)
theorem dX0_told_1 : decode cX0_told 1 = .ok (.iload_n 1, 1) := dk_27 (dk_at dksX0_told_0 1 rfl rfl)
theorem dX0_told_2 : decode cX0_told 2 = .ok (.iconst 1, 1) := dk_4 (dk_at dksX0_told_0 2 rfl rfl)
theorem dX0_told_3 : decode cX0_told 3 = .ok (.iconst 5, 1) := dk_8 (dk_at dksX0_told_0 3 rfl rfl)
theorem dX0_told_4 : decode cX0_told 4 = .ok (.invokestatic 85, 3) := dk_184 0 85 (dk_at dksX0_told_0 4 rfl rfl)
theorem dX0_told_7 : decode cX0_told 7 = .ok (.iconst 1, 1) := dk_4 (dk_at dksX0_told_0 7 rfl rfl)
theorem dX0_told_8 : decode cX0_told 8 = .ok (.invokevirtual 100, 3) := dk_182 0 100 (dk_at dksX0_told_0 8 rfl rfl)
theorem dX0_told_11 : decode cX0_told 11 = .ok (.aload_n 0, 1) := dk_42 (dk_at dksX0_told_0 11 rfl rfl)
theorem dX0_told_12 : decode cX0_told 12 = .ok (.getfield 63, 3) := dk_180 0 63 (dk_at dksX0_told_0 12 rfl rfl)
theorem dX0_told_15 : decode cX0_told 15 = .ok (.iload_n 1, 1) := dk_27 (dk_at dksX0_told_0 15 rfl rfl)
theorem dX0_told_16 : decode cX0_told 16 = .ok (.iaload, 1) := dk_46 (dk_at dksX0_told_0 16 rfl rfl)
theorem dX0_told_17 : decode cX0_told 17 = .ok (.ireturn, 1) := dk_172 (dk_at dksX0_told_0 17 rfl rfl)
theorem dX0_told_18 : decode cX0_told 18 = .ok (.astore_n 2, 1) := dk_77 (dk_at dksX0_told_0 18 rfl rfl)
theorem dX0_told_19 : decode cX0_told 19 = .ok (.aload_n 0, 1) := dk_42 (dk_at dksX0_told_0 19 rfl rfl)
theorem dX0_told_20 : decode cX0_told 20 = .ok (.aload_n 2, 1) := dk_44 (dk_at dksX0_told_0 20 rfl rfl)
theorem dX0_told_21 : decode cX0_told 21 = .ok (.invokevirtual 109, 3) := dk_182 0 109 (dk_at dksX0_told_0 21 rfl rfl)
theorem dX0_told_24 : decode cX0_told 24 = .ok (.ireturn, 1) := dk_172 (dk_at dksX0_told_1 0 rfl rfl)
theorem q80 : (Jvm.Cond.initialized "WellNames") ∈ lw_all := lw_g (lw_at lw_m1 1 rfl) rfl
theorem q117 : (Jvm.Cond.instantiable "WellNames" (12 : Nat)) ∈ lw_all := lw_g (lw_at lw_m1 38 rfl) rfl
theorem q119 : (Jvm.Cond.instanceMethod ({ cls := "WellNames", name := "<init>", desc := "()V" } : Jvm.MethodName)) ∈ lw_all := lw_g (lw_at lw_m1 40 rfl) rfl
theorem q120 : (Jvm.Cond.code ({ cls := "WellNames", name := "<init>", desc := "()V" } : Jvm.MethodName) prog_1_method_5_code (2 : Nat) (Option.none : Option Jvm.ClassFile.FieldType)) ∈ lw_all := lw_g (lw_at lw_m1 41 rfl) rfl
theorem q121 : (Jvm.Cond.methodLink "WellNames" (37 : Nat) ({ cls := "java/lang/Object", name := "<init>", desc := "()V" } : Jvm.MethodName)) ∈ lw_all := lw_g (lw_at lw_m1 42 rfl) rfl
theorem q124 : (Jvm.Cond.classLink "WellNames" (8 : Nat) "WellNames$Finding") ∈ lw_all := lw_g (lw_at lw_m1 45 rfl) rfl
theorem q164 : (Jvm.Cond.methodLink "WellNames" (42 : Nat) ({ cls := "WellNames$Finding", name := "<init>", desc := "()V" } : Jvm.MethodName)) ∈ lw_all := lw_g (lw_at lw_m1 85 rfl) rfl
theorem q177 : (Jvm.Cond.fieldLinkNest "WellNames" (80 : Nat) "WellNames$Finding" "code" "I" "WellNames") ∈ lw_tbl := lw_at lw_m1 98 rfl
theorem q193 : (Jvm.Cond.classLink "WellNames" (43 : Nat) "WellNames$Desert") ∈ lw_all := lw_g (lw_at lw_m1 114 rfl) rfl
theorem q195 : (Jvm.Cond.methodLink "WellNames" (45 : Nat) ({ cls := "WellNames$Desert", name := "<init>", desc := "()V" } : Jvm.MethodName)) ∈ lw_all := lw_g (lw_at lw_m1 116 rfl) rfl
theorem q218 : (Jvm.Cond.fieldLinkNest "WellNames" (106 : Nat) "WellNames$Desert" "water" "[I" "WellNames") ∈ lw_tbl := lw_at lw_m1 139 rfl
theorem q220 : (Jvm.Cond.fieldLinkNest "WellNames" (121 : Nat) "WellNames$Desert" "road" "[I" "WellNames") ∈ lw_tbl := lw_at lw_m1 141 rfl
theorem q222 : (Jvm.Cond.fieldLinkNest "WellNames" (124 : Nat) "WellNames$Desert" "owed" "[I" "WellNames") ∈ lw_tbl := lw_at lw_m1 143 rfl
theorem q224 : (Jvm.Cond.fieldLinkNest "WellNames" (141 : Nat) "WellNames$Desert" "rain" "I" "WellNames") ∈ lw_tbl := lw_at lw_m1 145 rfl
theorem q226 : (Jvm.Cond.fieldLinkNest "WellNames" (224 : Nat) "WellNames$Desert" "hour" "I" "WellNames") ∈ lw_tbl := lw_at lw_m1 147 rfl
theorem q229 : (Jvm.Cond.fieldLinkNest "WellNames" (232 : Nat) "WellNames$Desert" "day" "I" "WellNames") ∈ lw_tbl := lw_at lw_m1 150 rfl
theorem q231 : (Jvm.Cond.fieldLinkNest "WellNames" (93 : Nat) "WellNames$Desert" "people" "I" "WellNames") ∈ lw_tbl := lw_at lw_m1 152 rfl
theorem q233 : (Jvm.Cond.fieldLinkNest "WellNames" (147 : Nat) "WellNames$Desert" "person" "[LWellNames$Drinker;" "WellNames") ∈ lw_tbl := lw_at lw_m1 154 rfl
theorem q235 : (Jvm.Cond.fieldLinkNest "WellNames" (134 : Nat) "WellNames$Desert" "at" "[I" "WellNames") ∈ lw_tbl := lw_at lw_m1 156 rfl
theorem q237 : (Jvm.Cond.fieldLinkNest "WellNames" (131 : Nat) "WellNames$Desert" "name" "[I" "WellNames") ∈ lw_tbl := lw_at lw_m1 158 rfl
theorem q239 : (Jvm.Cond.fieldLinkNest "WellNames" (155 : Nat) "WellNames$Desert" "thirst" "[I" "WellNames") ∈ lw_tbl := lw_at lw_m1 160 rfl
theorem q241 : (Jvm.Cond.fieldLinkNest "WellNames" (127 : Nat) "WellNames$Desert" "isDead" "[Z" "WellNames") ∈ lw_tbl := lw_at lw_m1 162 rfl
theorem q243 : (Jvm.Cond.fieldLinkNest "WellNames" (188 : Nat) "WellNames$Desert" "text" "[LWellNames$Term;" "WellNames") ∈ lw_tbl := lw_at lw_m1 164 rfl
theorem q245 : (Jvm.Cond.fieldLinkNest "WellNames" (315 : Nat) "WellNames$Desert" "z" "I" "WellNames") ∈ lw_tbl := lw_at lw_m1 166 rfl
theorem q247 : (Jvm.Cond.fieldLinkNest "WellNames" (184 : Nat) "WellNames$Desert" "tape" "[B" "WellNames") ∈ lw_tbl := lw_at lw_m1 168 rfl
theorem q249 : (Jvm.Cond.fieldLinkNest "WellNames" (181 : Nat) "WellNames$Desert" "taped" "I" "WellNames") ∈ lw_tbl := lw_at lw_m1 170 rfl
theorem q251 : (Jvm.Cond.fieldLinkNest "WellNames" (376 : Nat) "WellNames$Desert" "waiting" "[I" "WellNames") ∈ lw_tbl := lw_at lw_m1 172 rfl
theorem q253 : (Jvm.Cond.fieldLinkNest "WellNames" (373 : Nat) "WellNames$Desert" "waits" "I" "WellNames") ∈ lw_tbl := lw_at lw_m1 174 rfl
theorem q294 : (Jvm.Cond.classLink "WellNames" (56 : Nat) "WellNames$Trace") ∈ lw_all := lw_g (lw_at lw_m1 215 rfl) rfl
theorem q296 : (Jvm.Cond.methodLinkNest "WellNames" (58 : Nat) ({ cls := "WellNames$Trace", name := "<init>", desc := "()V" } : Jvm.MethodName) "WellNames") ∈ lw_tbl := lw_at lw_m1 217 rfl
theorem q301 : (Jvm.Cond.fieldLinkNest "WellNames" (340 : Nat) "WellNames$Trace" "ran" "[I" "WellNames") ∈ lw_tbl := lw_at lw_m1 222 rfl
theorem q303 : (Jvm.Cond.fieldLinkNest "WellNames" (318 : Nat) "WellNames$Trace" "many" "I" "WellNames") ∈ lw_tbl := lw_at lw_m1 224 rfl
theorem q309 : (Jvm.Cond.classLink "WellNames" (67 : Nat) "WellNames$Shelf") ∈ lw_all := lw_g (lw_at lw_m1 230 rfl) rfl
theorem q312 : (Jvm.Cond.methodLinkNest "WellNames" (79 : Nat) ({ cls := "WellNames$Shelf", name := "<init>", desc := "()V" } : Jvm.MethodName) "WellNames") ∈ lw_tbl := lw_at lw_m1 233 rfl
theorem q316 : (Jvm.Cond.fieldLinkNest "WellNames" (96 : Nat) "WellNames$Shelf" "held" "Ljava/lang/Object;" "WellNames") ∈ lw_tbl := lw_at lw_m1 237 rfl
theorem q320 : (Jvm.Cond.fieldLink "WellNames" (1 : Nat) "WellNames" "finding" "LWellNames$Finding;") ∈ lw_all := lw_g (lw_at lw_m2 1 rfl) rfl
theorem q321 : (Jvm.Cond.fieldLink "WellNames" (46 : Nat) "WellNames" "desert" "LWellNames$Desert;") ∈ lw_all := lw_g (lw_at lw_m2 2 rfl) rfl
theorem q322 : (Jvm.Cond.fieldLink "WellNames" (50 : Nat) "WellNames" "image" "LWellNames$Desert;") ∈ lw_all := lw_g (lw_at lw_m2 3 rfl) rfl
theorem q323 : (Jvm.Cond.fieldLink "WellNames" (53 : Nat) "WellNames" "tried" "LWellNames$Desert;") ∈ lw_all := lw_g (lw_at lw_m2 4 rfl) rfl
theorem q324 : (Jvm.Cond.fieldLink "WellNames" (370 : Nat) "WellNames" "images" "I") ∈ lw_all := lw_g (lw_at lw_m2 5 rfl) rfl
theorem q325 : (Jvm.Cond.fieldLink "WellNames" (59 : Nat) "WellNames" "trace" "LWellNames$Trace;") ∈ lw_all := lw_g (lw_at lw_m2 6 rfl) rfl
theorem q326 : (Jvm.Cond.fieldLink "WellNames" (63 : Nat) "WellNames" "errors" "[I") ∈ lw_all := lw_g (lw_at lw_m2 7 rfl) rfl
theorem q327 : (Jvm.Cond.fieldLink "WellNames" (69 : Nat) "WellNames" "sheets" "[LWellNames$Shelf;") ∈ lw_all := lw_g (lw_at lw_m2 8 rfl) rfl
theorem q328 : (Jvm.Cond.fieldLink "WellNames" (73 : Nat) "WellNames" "least" "[I") ∈ lw_all := lw_g (lw_at lw_m2 9 rfl) rfl
theorem q329 : (Jvm.Cond.fieldLink "WellNames" (261 : Nat) "WellNames" "isByDrinks" "Z") ∈ lw_all := lw_g (lw_at lw_m2 10 rfl) rfl
theorem q330 : (Jvm.Cond.fieldLink "WellNames" (268 : Nat) "WellNames" "limit" "I") ∈ lw_all := lw_g (lw_at lw_m2 11 rfl) rfl
theorem q331 : (Jvm.Cond.fieldLink "WellNames" (76 : Nat) "WellNames" "far" "[I") ∈ lw_all := lw_g (lw_at lw_m2 12 rfl) rfl
theorem q332 : (Jvm.Cond.laysFinal "WellNames" "WellNames" "finding" "LWellNames$Finding;") ∈ lw_all := lw_g (lw_at lw_m2 13 rfl) rfl
theorem q333 : (Jvm.Cond.soleField "WellNames" "finding") ∈ lw_all := lw_g (lw_at lw_m2 14 rfl) rfl
theorem q334 : (Jvm.Cond.laysFinal "WellNames" "WellNames" "desert" "LWellNames$Desert;") ∈ lw_all := lw_g (lw_at lw_m2 15 rfl) rfl
theorem q335 : (Jvm.Cond.soleField "WellNames" "desert") ∈ lw_all := lw_g (lw_at lw_m2 16 rfl) rfl
theorem q336 : (Jvm.Cond.laysFinal "WellNames" "WellNames" "image" "LWellNames$Desert;") ∈ lw_all := lw_g (lw_at lw_m2 17 rfl) rfl
theorem q337 : (Jvm.Cond.soleField "WellNames" "image") ∈ lw_all := lw_g (lw_at lw_m2 18 rfl) rfl
theorem q338 : (Jvm.Cond.laysFinal "WellNames" "WellNames" "tried" "LWellNames$Desert;") ∈ lw_all := lw_g (lw_at lw_m2 19 rfl) rfl
theorem q339 : (Jvm.Cond.soleField "WellNames" "tried") ∈ lw_all := lw_g (lw_at lw_m2 20 rfl) rfl
theorem q340 : (Jvm.Cond.lays "WellNames" "WellNames" "images" "I") ∈ lw_all := lw_g (lw_at lw_m2 21 rfl) rfl
theorem q341 : (Jvm.Cond.soleField "WellNames" "images") ∈ lw_all := lw_g (lw_at lw_m2 22 rfl) rfl
theorem q342 : (Jvm.Cond.laysFinal "WellNames" "WellNames" "trace" "LWellNames$Trace;") ∈ lw_all := lw_g (lw_at lw_m2 23 rfl) rfl
theorem q343 : (Jvm.Cond.soleField "WellNames" "trace") ∈ lw_all := lw_g (lw_at lw_m2 24 rfl) rfl
theorem q344 : (Jvm.Cond.laysFinal "WellNames" "WellNames" "errors" "[I") ∈ lw_all := lw_g (lw_at lw_m2 25 rfl) rfl
theorem q345 : (Jvm.Cond.soleField "WellNames" "errors") ∈ lw_all := lw_g (lw_at lw_m2 26 rfl) rfl
theorem q346 : (Jvm.Cond.laysFinal "WellNames" "WellNames" "sheets" "[LWellNames$Shelf;") ∈ lw_all := lw_g (lw_at lw_m2 27 rfl) rfl
theorem q347 : (Jvm.Cond.soleField "WellNames" "sheets") ∈ lw_all := lw_g (lw_at lw_m2 28 rfl) rfl
theorem q348 : (Jvm.Cond.laysFinal "WellNames" "WellNames" "least" "[I") ∈ lw_all := lw_g (lw_at lw_m2 29 rfl) rfl
theorem q349 : (Jvm.Cond.soleField "WellNames" "least") ∈ lw_all := lw_g (lw_at lw_m2 30 rfl) rfl
theorem q350 : (Jvm.Cond.lays "WellNames" "WellNames" "isByDrinks" "Z") ∈ lw_all := lw_g (lw_at lw_m2 31 rfl) rfl
theorem q351 : (Jvm.Cond.soleField "WellNames" "isByDrinks") ∈ lw_all := lw_g (lw_at lw_m2 32 rfl) rfl
theorem q352 : (Jvm.Cond.lays "WellNames" "WellNames" "limit" "I") ∈ lw_all := lw_g (lw_at lw_m2 33 rfl) rfl
theorem q353 : (Jvm.Cond.soleField "WellNames" "limit") ∈ lw_all := lw_g (lw_at lw_m2 34 rfl) rfl
theorem q354 : (Jvm.Cond.laysFinal "WellNames" "WellNames" "far" "[I") ∈ lw_all := lw_g (lw_at lw_m2 35 rfl) rfl
theorem q355 : (Jvm.Cond.soleField "WellNames" "far") ∈ lw_all := lw_g (lw_at lw_m2 36 rfl) rfl
theorem q356 : (Jvm.Cond.superclass "WellNames" "java/lang/Object") ∈ lw_all := lw_g (lw_at lw_m2 37 rfl) rfl
theorem q358 : (Jvm.Cond.instanceMethod ({ cls := "WellNames", name := "water", desc := "(II)I" } : Jvm.MethodName)) ∈ lw_all := lw_g (lw_at lw_m2 39 rfl) rfl
theorem q359 : (Jvm.Cond.selects "WellNames" ({ cls := "WellNames", name := "water", desc := "(II)I" } : Jvm.MethodName) ({ cls := "WellNames", name := "water", desc := "(II)I" } : Jvm.MethodName)) ∈ lw_all := lw_g (lw_at lw_m2 40 rfl) rfl
theorem q360 : (Jvm.Cond.codeWith ({ cls := "WellNames", name := "water", desc := "(II)I" } : Jvm.MethodName) prog_1_method_15_code (4 : Nat) (Option.some Jvm.ClassFile.FieldType.int) [((0 : Nat), (48 : Nat), (49 : Nat), (8 : Nat))]) ∈ lw_all := lw_g (lw_at lw_m2 41 rfl) rfl
theorem q361 : (Jvm.Cond.methodLink "WellNames" (89 : Nat) ({ cls := "WellNames", name := "isWell", desc := "(I)Z" } : Jvm.MethodName)) ∈ lw_all := lw_g (lw_at lw_m2 42 rfl) rfl
theorem q362 : (Jvm.Cond.static ({ cls := "WellNames", name := "isWell", desc := "(I)Z" } : Jvm.MethodName)) ∈ lw_all := lw_g (lw_at lw_m2 43 rfl) rfl
theorem q363 : (Jvm.Cond.code ({ cls := "WellNames", name := "isWell", desc := "(I)Z" } : Jvm.MethodName) prog_1_method_7_code (1 : Nat) (Option.some Jvm.ClassFile.FieldType.boolean)) ∈ lw_all := lw_g (lw_at lw_m2 44 rfl) rfl
theorem q364 : (Jvm.Cond.methodLink "WellNames" (85 : Nat) ({ cls := "WellNames", name := "in", desc := "(III)Z" } : Jvm.MethodName)) ∈ lw_all := lw_g (lw_at lw_m2 45 rfl) rfl
theorem q365 : (Jvm.Cond.static ({ cls := "WellNames", name := "in", desc := "(III)Z" } : Jvm.MethodName)) ∈ lw_all := lw_g (lw_at lw_m2 46 rfl) rfl
theorem q366 : (Jvm.Cond.code ({ cls := "WellNames", name := "in", desc := "(III)Z" } : Jvm.MethodName) prog_1_method_1_code (3 : Nat) (Option.some Jvm.ClassFile.FieldType.boolean)) ∈ lw_all := lw_g (lw_at lw_m2 47 rfl) rfl
theorem q367 : (Jvm.Cond.methodLink "WellNames" (100 : Nat) ({ cls := "WellNames", name := "need", desc := "(ZI)V" } : Jvm.MethodName)) ∈ lw_all := lw_g (lw_at lw_m2 48 rfl) rfl
theorem q368 : (Jvm.Cond.privateMethod ({ cls := "WellNames", name := "need", desc := "(ZI)V" } : Jvm.MethodName)) ∈ lw_tbl := lw_at lw_m2 49 rfl
theorem q369 : (Jvm.Cond.instanceMethod ({ cls := "WellNames", name := "need", desc := "(ZI)V" } : Jvm.MethodName)) ∈ lw_all := lw_g (lw_at lw_m2 50 rfl) rfl
theorem q370 : (Jvm.Cond.code ({ cls := "WellNames", name := "need", desc := "(ZI)V" } : Jvm.MethodName) prog_1_method_3_code (3 : Nat) (Option.none : Option Jvm.ClassFile.FieldType)) ∈ lw_all := lw_g (lw_at lw_m2 51 rfl) rfl
theorem q371 : (Jvm.Cond.methodLink "WellNames" (7 : Nat) ({ cls := "WellNames$Finding", name := "of", desc := "(I)LWellNames$Finding;" } : Jvm.MethodName)) ∈ lw_all := lw_g (lw_at lw_m2 52 rfl) rfl
theorem q375 : (Jvm.Cond.methodLink "WellNames" (109 : Nat) ({ cls := "WellNames", name := "finds", desc := "(LWellNames$Finding;)I" } : Jvm.MethodName)) ∈ lw_all := lw_g (lw_at lw_m2 56 rfl) rfl
theorem q376 : (Jvm.Cond.privateMethod ({ cls := "WellNames", name := "finds", desc := "(LWellNames$Finding;)I" } : Jvm.MethodName)) ∈ lw_tbl := lw_at lw_m2 57 rfl
theorem q377 : (Jvm.Cond.instanceMethod ({ cls := "WellNames", name := "finds", desc := "(LWellNames$Finding;)I" } : Jvm.MethodName)) ∈ lw_all := lw_g (lw_at lw_m2 58 rfl) rfl
theorem q378 : (Jvm.Cond.code ({ cls := "WellNames", name := "finds", desc := "(LWellNames$Finding;)I" } : Jvm.MethodName) prog_1_method_6_code (2 : Nat) (Option.some Jvm.ClassFile.FieldType.int)) ∈ lw_all := lw_g (lw_at lw_m2 59 rfl) rfl
theorem q379 : (Jvm.Cond.constant "WellNames" (84 : Nat) (-1000000000 : Int32)) ∈ lw_all := lw_g (lw_at lw_m2 60 rfl) rfl
theorem q381 : (Jvm.Cond.instanceMethod ({ cls := "WellNames", name := "road", desc := "(III)I" } : Jvm.MethodName)) ∈ lw_all := lw_g (lw_at lw_m2 62 rfl) rfl
theorem q382 : (Jvm.Cond.selects "WellNames" ({ cls := "WellNames", name := "road", desc := "(III)I" } : Jvm.MethodName) ({ cls := "WellNames", name := "road", desc := "(III)I" } : Jvm.MethodName)) ∈ lw_all := lw_g (lw_at lw_m2 63 rfl) rfl
theorem q383 : (Jvm.Cond.codeWith ({ cls := "WellNames", name := "road", desc := "(III)I" } : Jvm.MethodName) prog_1_method_16_code (5 : Nat) (Option.some Jvm.ClassFile.FieldType.int) [((0 : Nat), (71 : Nat), (72 : Nat), (8 : Nat))]) ∈ lw_all := lw_g (lw_at lw_m2 64 rfl) rfl
theorem q384 : (Jvm.Cond.methodLink "WellNames" (113 : Nat) ({ cls := "WellNames", name := "areTwo", desc := "(II)Z" } : Jvm.MethodName)) ∈ lw_all := lw_g (lw_at lw_m2 65 rfl) rfl
theorem q385 : (Jvm.Cond.static ({ cls := "WellNames", name := "areTwo", desc := "(II)Z" } : Jvm.MethodName)) ∈ lw_all := lw_g (lw_at lw_m2 66 rfl) rfl
theorem q386 : (Jvm.Cond.code ({ cls := "WellNames", name := "areTwo", desc := "(II)Z" } : Jvm.MethodName) prog_1_method_8_code (2 : Nat) (Option.some Jvm.ClassFile.FieldType.boolean)) ∈ lw_all := lw_g (lw_at lw_m2 67 rfl) rfl
theorem q387 : (Jvm.Cond.methodLink "WellNames" (117 : Nat) ({ cls := "WellNames$Desert", name := "roadOf", desc := "(II)I" } : Jvm.MethodName)) ∈ lw_all := lw_g (lw_at lw_m2 68 rfl) rfl
theorem q392 : (Jvm.Cond.instanceMethod ({ cls := "WellNames", name := "owe", desc := "(III)I" } : Jvm.MethodName)) ∈ lw_all := lw_g (lw_at lw_m2 73 rfl) rfl
theorem q393 : (Jvm.Cond.selects "WellNames" ({ cls := "WellNames", name := "owe", desc := "(III)I" } : Jvm.MethodName) ({ cls := "WellNames", name := "owe", desc := "(III)I" } : Jvm.MethodName)) ∈ lw_all := lw_g (lw_at lw_m2 74 rfl) rfl
theorem q394 : (Jvm.Cond.codeWith ({ cls := "WellNames", name := "owe", desc := "(III)I" } : Jvm.MethodName) prog_1_method_17_code (5 : Nat) (Option.some Jvm.ClassFile.FieldType.int) [((0 : Nat), (62 : Nat), (63 : Nat), (8 : Nat))]) ∈ lw_all := lw_g (lw_at lw_m2 75 rfl) rfl
theorem q396 : (Jvm.Cond.instanceMethod ({ cls := "WellNames", name := "ofWell", desc := "(II)I" } : Jvm.MethodName)) ∈ lw_all := lw_g (lw_at lw_m2 77 rfl) rfl
theorem q397 : (Jvm.Cond.selects "WellNames" ({ cls := "WellNames", name := "ofWell", desc := "(II)I" } : Jvm.MethodName) ({ cls := "WellNames", name := "ofWell", desc := "(II)I" } : Jvm.MethodName)) ∈ lw_all := lw_g (lw_at lw_m2 78 rfl) rfl
theorem q398 : (Jvm.Cond.codeWith ({ cls := "WellNames", name := "ofWell", desc := "(II)I" } : Jvm.MethodName) prog_1_method_18_code (8 : Nat) (Option.some Jvm.ClassFile.FieldType.int) [((0 : Nat), (217 : Nat), (235 : Nat), (8 : Nat)), ((218 : Nat), (219 : Nat), (235 : Nat), (8 : Nat)), ((220 : Nat), (222 : Nat), (235 : Nat), (8 : Nat)), ((223 : Nat), (225 : Nat), (235 : Nat), (8 : Nat)), ((226 : Nat), (234 : Nat), (235 : Nat), (8 : Nat))]) ∈ lw_all := lw_g (lw_at lw_m2 79 rfl) rfl
theorem q399 : (Jvm.Cond.methodLink "WellNames" (137 : Nat) ({ cls := "WellNames$Desert", name := "owesOf", desc := "(I)I" } : Jvm.MethodName)) ∈ lw_all := lw_g (lw_at lw_m2 80 rfl) rfl
theorem q404 : (Jvm.Cond.instanceMethod ({ cls := "WellNames", name := "rain", desc := "(I)I" } : Jvm.MethodName)) ∈ lw_all := lw_g (lw_at lw_m2 85 rfl) rfl
theorem q405 : (Jvm.Cond.selects "WellNames" ({ cls := "WellNames", name := "rain", desc := "(I)I" } : Jvm.MethodName) ({ cls := "WellNames", name := "rain", desc := "(I)I" } : Jvm.MethodName)) ∈ lw_all := lw_g (lw_at lw_m2 86 rfl) rfl
theorem q406 : (Jvm.Cond.codeWith ({ cls := "WellNames", name := "rain", desc := "(I)I" } : Jvm.MethodName) prog_1_method_19_code (3 : Nat) (Option.some Jvm.ClassFile.FieldType.int) [((0 : Nat), (29 : Nat), (30 : Nat), (8 : Nat))]) ∈ lw_all := lw_g (lw_at lw_m2 87 rfl) rfl
theorem q408 : (Jvm.Cond.instanceMethod ({ cls := "WellNames", name := "person", desc := "(II)I" } : Jvm.MethodName)) ∈ lw_all := lw_g (lw_at lw_m2 89 rfl) rfl
theorem q409 : (Jvm.Cond.selects "WellNames" ({ cls := "WellNames", name := "person", desc := "(II)I" } : Jvm.MethodName) ({ cls := "WellNames", name := "person", desc := "(II)I" } : Jvm.MethodName)) ∈ lw_all := lw_g (lw_at lw_m2 90 rfl) rfl
theorem q410 : (Jvm.Cond.codeWith ({ cls := "WellNames", name := "person", desc := "(II)I" } : Jvm.MethodName) prog_1_method_20_code (4 : Nat) (Option.some Jvm.ClassFile.FieldType.int) [((0 : Nat), (133 : Nat), (134 : Nat), (8 : Nat))]) ∈ lw_all := lw_g (lw_at lw_m2 91 rfl) rfl
theorem q411 : (Jvm.Cond.methodLink "WellNames" (144 : Nat) ({ cls := "WellNames", name := "isKind", desc := "(I)Z" } : Jvm.MethodName)) ∈ lw_all := lw_g (lw_at lw_m2 92 rfl) rfl
theorem q412 : (Jvm.Cond.static ({ cls := "WellNames", name := "isKind", desc := "(I)Z" } : Jvm.MethodName)) ∈ lw_all := lw_g (lw_at lw_m2 93 rfl) rfl
theorem q413 : (Jvm.Cond.code ({ cls := "WellNames", name := "isKind", desc := "(I)Z" } : Jvm.MethodName) prog_1_method_11_code (1 : Nat) (Option.some Jvm.ClassFile.FieldType.boolean)) ∈ lw_all := lw_g (lw_at lw_m2 94 rfl) rfl
theorem q414 : (Jvm.Cond.methodLink "WellNames" (151 : Nat) ({ cls := "WellNames", name := "personOf", desc := "(ILWellNames$Trace;II)LWellNames$Drinker;" } : Jvm.MethodName)) ∈ lw_all := lw_g (lw_at lw_m2 95 rfl) rfl
theorem q415 : (Jvm.Cond.static ({ cls := "WellNames", name := "personOf", desc := "(ILWellNames$Trace;II)LWellNames$Drinker;" } : Jvm.MethodName)) ∈ lw_all := lw_g (lw_at lw_m2 96 rfl) rfl
theorem q416 : (Jvm.Cond.code ({ cls := "WellNames", name := "personOf", desc := "(ILWellNames$Trace;II)LWellNames$Drinker;" } : Jvm.MethodName) prog_1_method_4_code (4 : Nat) (Option.some (Jvm.ClassFile.FieldType.object "WellNames$Drinker"))) ∈ lw_all := lw_g (lw_at lw_m2 97 rfl) rfl
theorem q417 : (Jvm.Cond.classLink "WellNames" (13 : Nat) "WellNames$Flask") ∈ lw_all := lw_g (lw_at lw_m2 98 rfl) rfl
theorem q419 : (Jvm.Cond.methodLink "WellNames" (15 : Nat) ({ cls := "WellNames$Flask", name := "<init>", desc := "(LWellNames$Trace;II)V" } : Jvm.MethodName)) ∈ lw_all := lw_g (lw_at lw_m2 100 rfl) rfl
theorem q452 : (Jvm.Cond.fieldLink "WellNames" (169 : Nat) "WellNames$Drinker" "m" "I") ∈ lw_all := lw_g (lw_at lw_m2 133 rfl) rfl
theorem q460 : (Jvm.Cond.classLink "WellNames" (19 : Nat) "WellNames$Child") ∈ lw_all := lw_g (lw_at lw_m2 141 rfl) rfl
theorem q462 : (Jvm.Cond.methodLink "WellNames" (21 : Nat) ({ cls := "WellNames$Child", name := "<init>", desc := "(LWellNames$Trace;II)V" } : Jvm.MethodName)) ∈ lw_all := lw_g (lw_at lw_m2 143 rfl) rfl
theorem q470 : (Jvm.Cond.classLink "WellNames" (22 : Nat) "WellNames$Camel") ∈ lw_all := lw_g (lw_at lw_m2 151 rfl) rfl
theorem q472 : (Jvm.Cond.methodLink "WellNames" (24 : Nat) ({ cls := "WellNames$Camel", name := "<init>", desc := "(LWellNames$Trace;II)V" } : Jvm.MethodName)) ∈ lw_all := lw_g (lw_at lw_m2 153 rfl) rfl
theorem q480 : (Jvm.Cond.classLink "WellNames" (25 : Nat) "WellNames$Judge") ∈ lw_all := lw_g (lw_at lw_m2 161 rfl) rfl
theorem q482 : (Jvm.Cond.methodLink "WellNames" (27 : Nat) ({ cls := "WellNames$Judge", name := "<init>", desc := "(LWellNames$Trace;II)V" } : Jvm.MethodName)) ∈ lw_all := lw_g (lw_at lw_m2 163 rfl) rfl
theorem q490 : (Jvm.Cond.classLink "WellNames" (28 : Nat) "WellNames$Foundling") ∈ lw_all := lw_g (lw_at lw_m2 171 rfl) rfl
theorem q492 : (Jvm.Cond.methodLink "WellNames" (30 : Nat) ({ cls := "WellNames$Foundling", name := "<init>", desc := "(LWellNames$Trace;II)V" } : Jvm.MethodName)) ∈ lw_all := lw_g (lw_at lw_m2 173 rfl) rfl
theorem q500 : (Jvm.Cond.classLink "WellNames" (31 : Nat) "WellNames$Beast") ∈ lw_all := lw_g (lw_at lw_m2 181 rfl) rfl
theorem q502 : (Jvm.Cond.methodLink "WellNames" (33 : Nat) ({ cls := "WellNames$Beast", name := "<init>", desc := "(LWellNames$Trace;II)V" } : Jvm.MethodName)) ∈ lw_all := lw_g (lw_at lw_m2 183 rfl) rfl
theorem q510 : (Jvm.Cond.classLink "WellNames" (34 : Nat) "WellNames$Drinker") ∈ lw_all := lw_g (lw_at lw_m2 191 rfl) rfl
theorem q512 : (Jvm.Cond.methodLink "WellNames" (36 : Nat) ({ cls := "WellNames$Drinker", name := "<init>", desc := "(LWellNames$Trace;II)V" } : Jvm.MethodName)) ∈ lw_all := lw_g (lw_at lw_m2 193 rfl) rfl
theorem q518 : (Jvm.Cond.instanceMethod ({ cls := "WellNames", name := "ofPerson", desc := "(II)I" } : Jvm.MethodName)) ∈ lw_all := lw_g (lw_at lw_m2 199 rfl) rfl
theorem q519 : (Jvm.Cond.selects "WellNames" ({ cls := "WellNames", name := "ofPerson", desc := "(II)I" } : Jvm.MethodName) ({ cls := "WellNames", name := "ofPerson", desc := "(II)I" } : Jvm.MethodName)) ∈ lw_all := lw_g (lw_at lw_m2 200 rfl) rfl
theorem q520 : (Jvm.Cond.codeWith ({ cls := "WellNames", name := "ofPerson", desc := "(II)I" } : Jvm.MethodName) prog_1_method_22_code (4 : Nat) (Option.some Jvm.ClassFile.FieldType.int) [((0 : Nat), (64 : Nat), (149 : Nat), (8 : Nat)), ((65 : Nat), (69 : Nat), (149 : Nat), (8 : Nat)), ((70 : Nat), (79 : Nat), (149 : Nat), (8 : Nat)), ((80 : Nat), (89 : Nat), (149 : Nat), (8 : Nat)), ((90 : Nat), (99 : Nat), (149 : Nat), (8 : Nat)), ((100 : Nat), (117 : Nat), (149 : Nat), (8 : Nat)), ((118 : Nat), (122 : Nat), (149 : Nat), (8 : Nat)), ((123 : Nat), (131 : Nat), (149 : Nat), (8 : Nat)), ((132 : Nat), (148 : Nat), (149 : Nat), (8 : Nat))]) ∈ lw_all := lw_g (lw_at lw_m2 201 rfl) rfl
theorem q521 : (Jvm.Cond.methodLink "WellNames" (161 : Nat) ({ cls := "WellNames", name := "personAt", desc := "(IZ)LWellNames$Drinker;" } : Jvm.MethodName)) ∈ lw_all := lw_g (lw_at lw_m2 202 rfl) rfl
theorem q522 : (Jvm.Cond.privateMethod ({ cls := "WellNames", name := "personAt", desc := "(IZ)LWellNames$Drinker;" } : Jvm.MethodName)) ∈ lw_tbl := lw_at lw_m2 203 rfl
theorem q523 : (Jvm.Cond.instanceMethod ({ cls := "WellNames", name := "personAt", desc := "(IZ)LWellNames$Drinker;" } : Jvm.MethodName)) ∈ lw_all := lw_g (lw_at lw_m2 204 rfl) rfl
theorem q524 : (Jvm.Cond.code ({ cls := "WellNames", name := "personAt", desc := "(IZ)LWellNames$Drinker;" } : Jvm.MethodName) prog_1_method_21_code (3 : Nat) (Option.some (Jvm.ClassFile.FieldType.object "WellNames$Drinker"))) ∈ lw_all := lw_g (lw_at lw_m2 205 rfl) rfl
theorem q525 : (Jvm.Cond.methodLink "WellNames" (158 : Nat) ({ cls := "WellNames", name := "isPerson", desc := "(I)Z" } : Jvm.MethodName)) ∈ lw_all := lw_g (lw_at lw_m2 206 rfl) rfl
theorem q526 : (Jvm.Cond.privateMethod ({ cls := "WellNames", name := "isPerson", desc := "(I)Z" } : Jvm.MethodName)) ∈ lw_tbl := lw_at lw_m2 207 rfl
theorem q527 : (Jvm.Cond.instanceMethod ({ cls := "WellNames", name := "isPerson", desc := "(I)Z" } : Jvm.MethodName)) ∈ lw_all := lw_g (lw_at lw_m2 208 rfl) rfl
theorem q528 : (Jvm.Cond.code ({ cls := "WellNames", name := "isPerson", desc := "(I)Z" } : Jvm.MethodName) prog_1_method_10_code (2 : Nat) (Option.some Jvm.ClassFile.FieldType.boolean)) ∈ lw_all := lw_g (lw_at lw_m2 209 rfl) rfl
theorem q529 : (Jvm.Cond.methodLink "WellNames" (165 : Nat) ({ cls := "WellNames$Drinker", name := "kind", desc := "()I" } : Jvm.MethodName)) ∈ lw_all := lw_g (lw_at lw_m2 210 rfl) rfl
theorem q552 : (Jvm.Cond.methodLink "WellNames" (172 : Nat) ({ cls := "WellNames$Drinker", name := "limit", desc := "()I" } : Jvm.MethodName)) ∈ lw_all := lw_g (lw_at lw_m2 233 rfl) rfl
theorem q574 : (Jvm.Cond.methodLink "WellNames" (175 : Nat) ({ cls := "WellNames$Desert", name := "needs", desc := "(I)I" } : Jvm.MethodName)) ∈ lw_all := lw_g (lw_at lw_m3 15 rfl) rfl
theorem q632 : (Jvm.Cond.instanceMethod ({ cls := "WellNames", name := "become", desc := "(II)I" } : Jvm.MethodName)) ∈ lw_all := lw_g (lw_at lw_m3 73 rfl) rfl
theorem q633 : (Jvm.Cond.selects "WellNames" ({ cls := "WellNames", name := "become", desc := "(II)I" } : Jvm.MethodName) ({ cls := "WellNames", name := "become", desc := "(II)I" } : Jvm.MethodName)) ∈ lw_all := lw_g (lw_at lw_m3 74 rfl) rfl
theorem q634 : (Jvm.Cond.codeWith ({ cls := "WellNames", name := "become", desc := "(II)I" } : Jvm.MethodName) prog_1_method_23_code (4 : Nat) (Option.some Jvm.ClassFile.FieldType.int) [((0 : Nat), (39 : Nat), (40 : Nat), (8 : Nat))]) ∈ lw_all := lw_g (lw_at lw_m3 75 rfl) rfl
theorem q636 : (Jvm.Cond.instanceMethod ({ cls := "WellNames", name := "as", desc := "(II)I" } : Jvm.MethodName)) ∈ lw_all := lw_g (lw_at lw_m3 77 rfl) rfl
theorem q637 : (Jvm.Cond.selects "WellNames" ({ cls := "WellNames", name := "as", desc := "(II)I" } : Jvm.MethodName) ({ cls := "WellNames", name := "as", desc := "(II)I" } : Jvm.MethodName)) ∈ lw_all := lw_g (lw_at lw_m3 78 rfl) rfl
theorem q638 : (Jvm.Cond.codeWith ({ cls := "WellNames", name := "as", desc := "(II)I" } : Jvm.MethodName) prog_1_method_24_code (4 : Nat) (Option.some Jvm.ClassFile.FieldType.int) [((0 : Nat), (27 : Nat), (28 : Nat), (8 : Nat))]) ∈ lw_all := lw_g (lw_at lw_m3 79 rfl) rfl
theorem q639 : (Jvm.Cond.methodLink "WellNames" (178 : Nat) ({ cls := "WellNames$Drinker", name := "isOf", desc := "(I)Z" } : Jvm.MethodName)) ∈ lw_all := lw_g (lw_at lw_m3 80 rfl) rfl
theorem q669 : (Jvm.Cond.instanceMethod ({ cls := "WellNames", name := "feed", desc := "(JI)I" } : Jvm.MethodName)) ∈ lw_all := lw_g (lw_at lw_m3 110 rfl) rfl
theorem q670 : (Jvm.Cond.selects "WellNames" ({ cls := "WellNames", name := "feed", desc := "(JI)I" } : Jvm.MethodName) ({ cls := "WellNames", name := "feed", desc := "(JI)I" } : Jvm.MethodName)) ∈ lw_all := lw_g (lw_at lw_m3 111 rfl) rfl
theorem q671 : (Jvm.Cond.codeWith ({ cls := "WellNames", name := "feed", desc := "(JI)I" } : Jvm.MethodName) prog_1_method_25_code (5 : Nat) (Option.some Jvm.ClassFile.FieldType.int) [((0 : Nat), (95 : Nat), (96 : Nat), (8 : Nat))]) ∈ lw_all := lw_g (lw_at lw_m3 112 rfl) rfl
theorem q673 : (Jvm.Cond.instanceMethod ({ cls := "WellNames", name := "text", desc := "(I)I" } : Jvm.MethodName)) ∈ lw_all := lw_g (lw_at lw_m3 114 rfl) rfl
theorem q674 : (Jvm.Cond.selects "WellNames" ({ cls := "WellNames", name := "text", desc := "(I)I" } : Jvm.MethodName) ({ cls := "WellNames", name := "text", desc := "(I)I" } : Jvm.MethodName)) ∈ lw_all := lw_g (lw_at lw_m3 115 rfl) rfl
theorem q675 : (Jvm.Cond.codeWith ({ cls := "WellNames", name := "text", desc := "(I)I" } : Jvm.MethodName) prog_1_method_26_code (3 : Nat) (Option.some Jvm.ClassFile.FieldType.int) [((0 : Nat), (66 : Nat), (67 : Nat), (205 : Nat)), ((0 : Nat), (66 : Nat), (76 : Nat), (8 : Nat))]) ∈ lw_all := lw_g (lw_at lw_m3 116 rfl) rfl
theorem q676 : (Jvm.Cond.classLink "WellNames" (205 : Nat) "WellNames$Fault") ∈ lw_all := lw_g (lw_at lw_m3 117 rfl) rfl
theorem q677 : (Jvm.Cond.classLink "WellNames" (192 : Nat) "WellNames$Reader") ∈ lw_all := lw_g (lw_at lw_m3 118 rfl) rfl
theorem q679 : (Jvm.Cond.stringRef "WellNames" (194 : Nat) "mtd") ∈ lw_tbl := lw_at lw_m3 120 rfl
theorem q680 : (Jvm.Cond.stringRef "WellNames" (196 : Nat) "lmd") ∈ lw_tbl := lw_at lw_m3 121 rfl
theorem q681 : (Jvm.Cond.methodLink "WellNames" (198 : Nat) ({ cls := "WellNames$Reader", name := "<init>", desc := "(Ljava/lang/String;[BI)V" } : Jvm.MethodName)) ∈ lw_all := lw_g (lw_at lw_m3 122 rfl) rfl
theorem q701 : (Jvm.Cond.methodLink "WellNames" (201 : Nat) ({ cls := "WellNames$Reader", name := "read", desc := "()LWellNames$Term;" } : Jvm.MethodName)) ∈ lw_all := lw_g (lw_at lw_m3 142 rfl) rfl
theorem q855 : (Jvm.Cond.fieldLinkNest "WellNames" (207 : Nat) "WellNames$Fault" "place" "I" "WellNames") ∈ lw_tbl := lw_at lw_m4 56 rfl
theorem q904 : (Jvm.Cond.instanceMethod ({ cls := "WellNames", name := "law", desc := "(IIII)I" } : Jvm.MethodName)) ∈ lw_all := lw_g (lw_at lw_m4 105 rfl) rfl
theorem q905 : (Jvm.Cond.selects "WellNames" ({ cls := "WellNames", name := "law", desc := "(IIII)I" } : Jvm.MethodName) ({ cls := "WellNames", name := "law", desc := "(IIII)I" } : Jvm.MethodName)) ∈ lw_all := lw_g (lw_at lw_m4 106 rfl) rfl
theorem q906 : (Jvm.Cond.codeWith ({ cls := "WellNames", name := "law", desc := "(IIII)I" } : Jvm.MethodName) prog_1_method_27_code (6 : Nat) (Option.some Jvm.ClassFile.FieldType.int) [((0 : Nat), (40 : Nat), (41 : Nat), (8 : Nat))]) ∈ lw_all := lw_g (lw_at lw_m4 107 rfl) rfl
theorem q907 : (Jvm.Cond.methodLink "WellNames" (210 : Nat) ({ cls := "WellNames$Desert", name := "needsBy", desc := "(III)I" } : Jvm.MethodName)) ∈ lw_all := lw_g (lw_at lw_m4 108 rfl) rfl
theorem q908 : (Jvm.Cond.methodLink "WellNames" (214 : Nat) ({ cls := "WellNames$Desert", name := "parchedBy", desc := "(III)I" } : Jvm.MethodName)) ∈ lw_all := lw_g (lw_at lw_m4 109 rfl) rfl
theorem q913 : (Jvm.Cond.instanceMethod ({ cls := "WellNames", name := "drink", desc := "(I)I" } : Jvm.MethodName)) ∈ lw_all := lw_g (lw_at lw_m4 114 rfl) rfl
theorem q914 : (Jvm.Cond.selects "WellNames" ({ cls := "WellNames", name := "drink", desc := "(I)I" } : Jvm.MethodName) ({ cls := "WellNames", name := "drink", desc := "(I)I" } : Jvm.MethodName)) ∈ lw_all := lw_g (lw_at lw_m4 115 rfl) rfl
theorem q915 : (Jvm.Cond.codeWith ({ cls := "WellNames", name := "drink", desc := "(I)I" } : Jvm.MethodName) prog_1_method_28_code (3 : Nat) (Option.some Jvm.ClassFile.FieldType.int) [((0 : Nat), (40 : Nat), (41 : Nat), (8 : Nat))]) ∈ lw_all := lw_g (lw_at lw_m4 116 rfl) rfl
theorem q916 : (Jvm.Cond.methodLink "WellNames" (217 : Nat) ({ cls := "WellNames$Desert", name := "canDrink", desc := "(I)Z" } : Jvm.MethodName)) ∈ lw_all := lw_g (lw_at lw_m4 117 rfl) rfl
theorem q921 : (Jvm.Cond.methodLink "WellNames" (220 : Nat) ({ cls := "WellNames$Desert", name := "drinks", desc := "(I)V" } : Jvm.MethodName)) ∈ lw_all := lw_g (lw_at lw_m4 122 rfl) rfl
theorem q949 : (Jvm.Cond.instanceMethod ({ cls := "WellNames", name := "go", desc := "(II)I" } : Jvm.MethodName)) ∈ lw_all := lw_g (lw_at lw_m4 150 rfl) rfl
theorem q950 : (Jvm.Cond.selects "WellNames" ({ cls := "WellNames", name := "go", desc := "(II)I" } : Jvm.MethodName) ({ cls := "WellNames", name := "go", desc := "(II)I" } : Jvm.MethodName)) ∈ lw_all := lw_g (lw_at lw_m4 151 rfl) rfl
theorem q951 : (Jvm.Cond.codeWith ({ cls := "WellNames", name := "go", desc := "(II)I" } : Jvm.MethodName) prog_1_method_29_code (4 : Nat) (Option.some Jvm.ClassFile.FieldType.int) [((0 : Nat), (110 : Nat), (111 : Nat), (8 : Nat))]) ∈ lw_all := lw_g (lw_at lw_m4 152 rfl) rfl
theorem q952 : (Jvm.Cond.constant "WellNames" (227 : Nat) (99999 : Int32)) ∈ lw_all := lw_g (lw_at lw_m4 153 rfl) rfl
theorem q953 : (Jvm.Cond.methodLink "WellNames" (228 : Nat) ({ cls := "WellNames$Desert", name := "goes", desc := "(II)V" } : Jvm.MethodName)) ∈ lw_all := lw_g (lw_at lw_m4 154 rfl) rfl
theorem q969 : (Jvm.Cond.instanceMethod ({ cls := "WellNames", name := "pay", desc := "(III)I" } : Jvm.MethodName)) ∈ lw_all := lw_g (lw_at lw_m4 170 rfl) rfl
theorem q970 : (Jvm.Cond.selects "WellNames" ({ cls := "WellNames", name := "pay", desc := "(III)I" } : Jvm.MethodName) ({ cls := "WellNames", name := "pay", desc := "(III)I" } : Jvm.MethodName)) ∈ lw_all := lw_g (lw_at lw_m4 171 rfl) rfl
theorem q971 : (Jvm.Cond.codeWith ({ cls := "WellNames", name := "pay", desc := "(III)I" } : Jvm.MethodName) prog_1_method_30_code (5 : Nat) (Option.some Jvm.ClassFile.FieldType.int) [((0 : Nat), (151 : Nat), (152 : Nat), (8 : Nat))]) ∈ lw_all := lw_g (lw_at lw_m4 172 rfl) rfl
theorem q973 : (Jvm.Cond.instanceMethod ({ cls := "WellNames", name := "days", desc := "(I)I" } : Jvm.MethodName)) ∈ lw_all := lw_g (lw_at lw_m4 174 rfl) rfl
theorem q974 : (Jvm.Cond.selects "WellNames" ({ cls := "WellNames", name := "days", desc := "(I)I" } : Jvm.MethodName) ({ cls := "WellNames", name := "days", desc := "(I)I" } : Jvm.MethodName)) ∈ lw_all := lw_g (lw_at lw_m4 175 rfl) rfl
theorem q975 : (Jvm.Cond.codeWith ({ cls := "WellNames", name := "days", desc := "(I)I" } : Jvm.MethodName) prog_1_method_32_code (3 : Nat) (Option.some Jvm.ClassFile.FieldType.int) [((0 : Nat), (34 : Nat), (35 : Nat), (8 : Nat))]) ∈ lw_all := lw_g (lw_at lw_m4 176 rfl) rfl
theorem q976 : (Jvm.Cond.methodLink "WellNames" (235 : Nat) ({ cls := "WellNames", name := "mustGo", desc := "(II)V" } : Jvm.MethodName)) ∈ lw_all := lw_g (lw_at lw_m4 177 rfl) rfl
theorem q977 : (Jvm.Cond.privateMethod ({ cls := "WellNames", name := "mustGo", desc := "(II)V" } : Jvm.MethodName)) ∈ lw_tbl := lw_at lw_m4 178 rfl
theorem q978 : (Jvm.Cond.instanceMethod ({ cls := "WellNames", name := "mustGo", desc := "(II)V" } : Jvm.MethodName)) ∈ lw_all := lw_g (lw_at lw_m4 179 rfl) rfl
theorem q979 : (Jvm.Cond.code ({ cls := "WellNames", name := "mustGo", desc := "(II)V" } : Jvm.MethodName) prog_1_method_31_code (3 : Nat) (Option.none : Option Jvm.ClassFile.FieldType)) ∈ lw_all := lw_g (lw_at lw_m4 180 rfl) rfl
theorem q980 : (Jvm.Cond.methodLink "WellNames" (238 : Nat) ({ cls := "WellNames$Desert", name := "passes", desc := "()V" } : Jvm.MethodName)) ∈ lw_all := lw_g (lw_at lw_m4 181 rfl) rfl
theorem q984 : (Jvm.Cond.methodLink "WellNames" (241 : Nat) ({ cls := "WellNames$Desert", name := "dead", desc := "()I" } : Jvm.MethodName)) ∈ lw_all := lw_g (lw_at lw_m4 185 rfl) rfl
theorem q989 : (Jvm.Cond.instanceMethod ({ cls := "WellNames", name := "loose", desc := "(I)I" } : Jvm.MethodName)) ∈ lw_all := lw_g (lw_at lw_m4 190 rfl) rfl
theorem q990 : (Jvm.Cond.selects "WellNames" ({ cls := "WellNames", name := "loose", desc := "(I)I" } : Jvm.MethodName) ({ cls := "WellNames", name := "loose", desc := "(I)I" } : Jvm.MethodName)) ∈ lw_all := lw_g (lw_at lw_m4 191 rfl) rfl
theorem q991 : (Jvm.Cond.codeWith ({ cls := "WellNames", name := "loose", desc := "(I)I" } : Jvm.MethodName) prog_1_method_33_code (3 : Nat) (Option.some Jvm.ClassFile.FieldType.int) [((0 : Nat), (34 : Nat), (35 : Nat), (8 : Nat))]) ∈ lw_all := lw_g (lw_at lw_m4 192 rfl) rfl
theorem q992 : (Jvm.Cond.methodLink "WellNames" (244 : Nat) ({ cls := "WellNames$Desert", name := "goesLoose", desc := "()V" } : Jvm.MethodName)) ∈ lw_all := lw_g (lw_at lw_m4 193 rfl) rfl
theorem q1003 : (Jvm.Cond.instanceMethod ({ cls := "WellNames", name := "same", desc := "()I" } : Jvm.MethodName)) ∈ lw_all := lw_g (lw_at lw_m4 204 rfl) rfl
theorem q1004 : (Jvm.Cond.selects "WellNames" ({ cls := "WellNames", name := "same", desc := "()I" } : Jvm.MethodName) ({ cls := "WellNames", name := "same", desc := "()I" } : Jvm.MethodName)) ∈ lw_all := lw_g (lw_at lw_m4 205 rfl) rfl
theorem q1005 : (Jvm.Cond.code ({ cls := "WellNames", name := "same", desc := "()I" } : Jvm.MethodName) prog_1_method_34_code (5 : Nat) (Option.some Jvm.ClassFile.FieldType.int)) ∈ lw_all := lw_g (lw_at lw_m4 206 rfl) rfl
theorem q1007 : (Jvm.Cond.instanceMethod ({ cls := "WellNames", name := "soonest", desc := "(III)I" } : Jvm.MethodName)) ∈ lw_all := lw_g (lw_at lw_m4 208 rfl) rfl
theorem q1008 : (Jvm.Cond.selects "WellNames" ({ cls := "WellNames", name := "soonest", desc := "(III)I" } : Jvm.MethodName) ({ cls := "WellNames", name := "soonest", desc := "(III)I" } : Jvm.MethodName)) ∈ lw_all := lw_g (lw_at lw_m4 209 rfl) rfl
theorem q1009 : (Jvm.Cond.codeWith ({ cls := "WellNames", name := "soonest", desc := "(III)I" } : Jvm.MethodName) prog_1_method_42_code (5 : Nat) (Option.some Jvm.ClassFile.FieldType.int) [((0 : Nat), (8 : Nat), (9 : Nat), (8 : Nat))]) ∈ lw_all := lw_g (lw_at lw_m4 210 rfl) rfl
theorem q1010 : (Jvm.Cond.methodLink "WellNames" (287 : Nat) ({ cls := "WellNames", name := "waysTo", desc := "(IIIZ)I" } : Jvm.MethodName)) ∈ lw_all := lw_g (lw_at lw_m4 211 rfl) rfl
theorem q1011 : (Jvm.Cond.privateMethod ({ cls := "WellNames", name := "waysTo", desc := "(IIIZ)I" } : Jvm.MethodName)) ∈ lw_tbl := lw_at lw_m4 212 rfl
theorem q1012 : (Jvm.Cond.instanceMethod ({ cls := "WellNames", name := "waysTo", desc := "(IIIZ)I" } : Jvm.MethodName)) ∈ lw_all := lw_g (lw_at lw_m4 213 rfl) rfl
theorem q1013 : (Jvm.Cond.code ({ cls := "WellNames", name := "waysTo", desc := "(IIIZ)I" } : Jvm.MethodName) prog_1_method_41_code (6 : Nat) (Option.some Jvm.ClassFile.FieldType.int)) ∈ lw_all := lw_g (lw_at lw_m4 214 rfl) rfl
theorem q1014 : (Jvm.Cond.methodLink "WellNames" (281 : Nat) ({ cls := "WellNames", name := "isSet", desc := "(I)Z" } : Jvm.MethodName)) ∈ lw_all := lw_g (lw_at lw_m4 215 rfl) rfl
theorem q1015 : (Jvm.Cond.static ({ cls := "WellNames", name := "isSet", desc := "(I)Z" } : Jvm.MethodName)) ∈ lw_all := lw_g (lw_at lw_m4 216 rfl) rfl
theorem q1016 : (Jvm.Cond.code ({ cls := "WellNames", name := "isSet", desc := "(I)Z" } : Jvm.MethodName) prog_1_method_9_code (1 : Nat) (Option.some Jvm.ClassFile.FieldType.boolean)) ∈ lw_all := lw_g (lw_at lw_m4 217 rfl) rfl
theorem q1017 : (Jvm.Cond.methodLink "WellNames" (284 : Nat) ({ cls := "WellNames", name := "findsWays", desc := "(II)V" } : Jvm.MethodName)) ∈ lw_all := lw_g (lw_at lw_m4 218 rfl) rfl
theorem q1018 : (Jvm.Cond.privateMethod ({ cls := "WellNames", name := "findsWays", desc := "(II)V" } : Jvm.MethodName)) ∈ lw_tbl := lw_at lw_m4 219 rfl
theorem q1019 : (Jvm.Cond.instanceMethod ({ cls := "WellNames", name := "findsWays", desc := "(II)V" } : Jvm.MethodName)) ∈ lw_all := lw_g (lw_at lw_m4 220 rfl) rfl
theorem q1020 : (Jvm.Cond.code ({ cls := "WellNames", name := "findsWays", desc := "(II)V" } : Jvm.MethodName) prog_1_method_38_code (6 : Nat) (Option.none : Option Jvm.ClassFile.FieldType)) ∈ lw_all := lw_g (lw_at lw_m4 221 rfl) rfl
theorem q1021 : (Jvm.Cond.constant "WellNames" (273 : Nat) (1000000 : Int32)) ∈ lw_all := lw_g (lw_at lw_m4 222 rfl) rfl
theorem q1022 : (Jvm.Cond.methodLink "WellNames" (253 : Nat) ({ cls := "java/lang/Math", name := "min", desc := "(II)I" } : Jvm.MethodName)) ∈ lw_all := lw_g (lw_at lw_m4 223 rfl) rfl
theorem q1023 : (Jvm.Cond.methodLink "WellNames" (274 : Nat) ({ cls := "WellNames", name := "goesOn", desc := "(IIII)Z" } : Jvm.MethodName)) ∈ lw_all := lw_g (lw_at lw_m4 224 rfl) rfl
theorem q1024 : (Jvm.Cond.privateMethod ({ cls := "WellNames", name := "goesOn", desc := "(IIII)Z" } : Jvm.MethodName)) ∈ lw_tbl := lw_at lw_m4 225 rfl
theorem q1025 : (Jvm.Cond.instanceMethod ({ cls := "WellNames", name := "goesOn", desc := "(IIII)Z" } : Jvm.MethodName)) ∈ lw_all := lw_g (lw_at lw_m4 226 rfl) rfl
theorem q1026 : (Jvm.Cond.code ({ cls := "WellNames", name := "goesOn", desc := "(IIII)Z" } : Jvm.MethodName) prog_1_method_37_code (10 : Nat) (Option.some Jvm.ClassFile.FieldType.boolean)) ∈ lw_all := lw_g (lw_at lw_m4 227 rfl) rfl
theorem q1027 : (Jvm.Cond.methodLink "WellNames" (258 : Nat) ({ cls := "WellNames", name := "mayDrink", desc := "(III)Z" } : Jvm.MethodName)) ∈ lw_all := lw_g (lw_at lw_m4 228 rfl) rfl
theorem q1028 : (Jvm.Cond.privateMethod ({ cls := "WellNames", name := "mayDrink", desc := "(III)Z" } : Jvm.MethodName)) ∈ lw_tbl := lw_at lw_m4 229 rfl
theorem q1029 : (Jvm.Cond.instanceMethod ({ cls := "WellNames", name := "mayDrink", desc := "(III)Z" } : Jvm.MethodName)) ∈ lw_all := lw_g (lw_at lw_m4 230 rfl) rfl
theorem q1030 : (Jvm.Cond.code ({ cls := "WellNames", name := "mayDrink", desc := "(III)Z" } : Jvm.MethodName) prog_1_method_35_code (4 : Nat) (Option.some Jvm.ClassFile.FieldType.boolean)) ∈ lw_all := lw_g (lw_at lw_m4 231 rfl) rfl
theorem q1031 : (Jvm.Cond.methodLink "WellNames" (247 : Nat) ({ cls := "WellNames", name := "hasBit", desc := "(II)Z" } : Jvm.MethodName)) ∈ lw_all := lw_g (lw_at lw_m4 232 rfl) rfl
theorem q1032 : (Jvm.Cond.static ({ cls := "WellNames", name := "hasBit", desc := "(II)Z" } : Jvm.MethodName)) ∈ lw_all := lw_g (lw_at lw_m4 233 rfl) rfl
theorem q1033 : (Jvm.Cond.code ({ cls := "WellNames", name := "hasBit", desc := "(II)Z" } : Jvm.MethodName) prog_1_method_2_code (2 : Nat) (Option.some Jvm.ClassFile.FieldType.boolean)) ∈ lw_all := lw_g (lw_at lw_m4 234 rfl) rfl
theorem q1034 : (Jvm.Cond.methodLink "WellNames" (250 : Nat) ({ cls := "WellNames$Drinker", name := "needs", desc := "(LWellNames$Desert;I)I" } : Jvm.MethodName)) ∈ lw_all := lw_g (lw_at lw_m4 235 rfl) rfl
theorem q1035 : (Jvm.Cond.methodLink "WellNames" (265 : Nat) ({ cls := "WellNames", name := "comes", desc := "(III)Z" } : Jvm.MethodName)) ∈ lw_all := lw_g (lw_at lw_m4 236 rfl) rfl
theorem q1036 : (Jvm.Cond.privateMethod ({ cls := "WellNames", name := "comes", desc := "(III)Z" } : Jvm.MethodName)) ∈ lw_tbl := lw_at lw_m4 237 rfl
theorem q1037 : (Jvm.Cond.instanceMethod ({ cls := "WellNames", name := "comes", desc := "(III)Z" } : Jvm.MethodName)) ∈ lw_all := lw_g (lw_at lw_m4 238 rfl) rfl
theorem q1038 : (Jvm.Cond.code ({ cls := "WellNames", name := "comes", desc := "(III)Z" } : Jvm.MethodName) prog_1_method_36_code (5 : Nat) (Option.some Jvm.ClassFile.FieldType.boolean)) ∈ lw_all := lw_g (lw_at lw_m4 239 rfl) rfl
theorem q1039 : (Jvm.Cond.methodLink "WellNames" (270 : Nat) ({ cls := "WellNames$Desert", name := "parched", desc := "(II)I" } : Jvm.MethodName)) ∈ lw_all := lw_g (lw_at lw_m5 0 rfl) rfl
theorem q1040 : (Jvm.Cond.methodLink "WellNames" (278 : Nat) ({ cls := "WellNames", name := "leastAt", desc := "(I)I" } : Jvm.MethodName)) ∈ lw_all := lw_g (lw_at lw_m5 1 rfl) rfl
theorem q1041 : (Jvm.Cond.privateMethod ({ cls := "WellNames", name := "leastAt", desc := "(I)I" } : Jvm.MethodName)) ∈ lw_tbl := lw_at lw_m5 2 rfl
theorem q1042 : (Jvm.Cond.instanceMethod ({ cls := "WellNames", name := "leastAt", desc := "(I)I" } : Jvm.MethodName)) ∈ lw_all := lw_g (lw_at lw_m5 3 rfl) rfl
theorem q1043 : (Jvm.Cond.code ({ cls := "WellNames", name := "leastAt", desc := "(I)I" } : Jvm.MethodName) prog_1_method_39_code (4 : Nat) (Option.some Jvm.ClassFile.FieldType.int)) ∈ lw_all := lw_g (lw_at lw_m5 4 rfl) rfl
theorem q1045 : (Jvm.Cond.instanceMethod ({ cls := "WellNames", name := "drinks", desc := "(III)I" } : Jvm.MethodName)) ∈ lw_all := lw_g (lw_at lw_m5 6 rfl) rfl
theorem q1046 : (Jvm.Cond.selects "WellNames" ({ cls := "WellNames", name := "drinks", desc := "(III)I" } : Jvm.MethodName) ({ cls := "WellNames", name := "drinks", desc := "(III)I" } : Jvm.MethodName)) ∈ lw_all := lw_g (lw_at lw_m5 7 rfl) rfl
theorem q1047 : (Jvm.Cond.codeWith ({ cls := "WellNames", name := "drinks", desc := "(III)I" } : Jvm.MethodName) prog_1_method_43_code (5 : Nat) (Option.some Jvm.ClassFile.FieldType.int) [((0 : Nat), (8 : Nat), (9 : Nat), (8 : Nat))]) ∈ lw_all := lw_g (lw_at lw_m5 8 rfl) rfl
theorem q1049 : (Jvm.Cond.instanceMethod ({ cls := "WellNames", name := "reach", desc := "(III)I" } : Jvm.MethodName)) ∈ lw_all := lw_g (lw_at lw_m5 10 rfl) rfl
theorem q1050 : (Jvm.Cond.selects "WellNames" ({ cls := "WellNames", name := "reach", desc := "(III)I" } : Jvm.MethodName) ({ cls := "WellNames", name := "reach", desc := "(III)I" } : Jvm.MethodName)) ∈ lw_all := lw_g (lw_at lw_m5 11 rfl) rfl
theorem q1051 : (Jvm.Cond.codeWith ({ cls := "WellNames", name := "reach", desc := "(III)I" } : Jvm.MethodName) prog_1_method_44_code (6 : Nat) (Option.some Jvm.ClassFile.FieldType.int) [((0 : Nat), (100 : Nat), (101 : Nat), (8 : Nat))]) ∈ lw_all := lw_g (lw_at lw_m5 12 rfl) rfl
theorem q1052 : (Jvm.Cond.methodLink "WellNames" (291 : Nat) ({ cls := "WellNames", name := "reached", desc := "()I" } : Jvm.MethodName)) ∈ lw_all := lw_g (lw_at lw_m5 13 rfl) rfl
theorem q1053 : (Jvm.Cond.privateMethod ({ cls := "WellNames", name := "reached", desc := "()I" } : Jvm.MethodName)) ∈ lw_tbl := lw_at lw_m5 14 rfl
theorem q1054 : (Jvm.Cond.instanceMethod ({ cls := "WellNames", name := "reached", desc := "()I" } : Jvm.MethodName)) ∈ lw_all := lw_g (lw_at lw_m5 15 rfl) rfl
theorem q1055 : (Jvm.Cond.code ({ cls := "WellNames", name := "reached", desc := "()I" } : Jvm.MethodName) prog_1_method_40_code (3 : Nat) (Option.some Jvm.ClassFile.FieldType.int)) ∈ lw_all := lw_g (lw_at lw_m5 16 rfl) rfl
theorem q1057 : (Jvm.Cond.instanceMethod ({ cls := "WellNames", name := "dry", desc := "(II)I" } : Jvm.MethodName)) ∈ lw_all := lw_g (lw_at lw_m5 18 rfl) rfl
theorem q1058 : (Jvm.Cond.selects "WellNames" ({ cls := "WellNames", name := "dry", desc := "(II)I" } : Jvm.MethodName) ({ cls := "WellNames", name := "dry", desc := "(II)I" } : Jvm.MethodName)) ∈ lw_all := lw_g (lw_at lw_m5 19 rfl) rfl
theorem q1059 : (Jvm.Cond.codeWith ({ cls := "WellNames", name := "dry", desc := "(II)I" } : Jvm.MethodName) prog_1_method_45_code (8 : Nat) (Option.some Jvm.ClassFile.FieldType.int) [((0 : Nat), (133 : Nat), (134 : Nat), (8 : Nat))]) ∈ lw_all := lw_g (lw_at lw_m5 20 rfl) rfl
theorem q1060 : (Jvm.Cond.methodLink "WellNames" (294 : Nat) ({ cls := "java/lang/Integer", name := "bitCount", desc := "(I)I" } : Jvm.MethodName)) ∈ lw_all := lw_g (lw_at lw_m5 21 rfl) rfl
theorem q1067 : (Jvm.Cond.instanceMethod ({ cls := "WellNames", name := "net", desc := "()I" } : Jvm.MethodName)) ∈ lw_all := lw_g (lw_at lw_m5 28 rfl) rfl
theorem q1068 : (Jvm.Cond.selects "WellNames" ({ cls := "WellNames", name := "net", desc := "()I" } : Jvm.MethodName) ({ cls := "WellNames", name := "net", desc := "()I" } : Jvm.MethodName)) ∈ lw_all := lw_g (lw_at lw_m5 29 rfl) rfl
theorem q1069 : (Jvm.Cond.codeWith ({ cls := "WellNames", name := "net", desc := "()I" } : Jvm.MethodName) prog_1_method_46_code (10 : Nat) (Option.some Jvm.ClassFile.FieldType.int) [((0 : Nat), (165 : Nat), (166 : Nat), (8 : Nat))]) ∈ lw_all := lw_g (lw_at lw_m5 30 rfl) rfl
theorem q1071 : (Jvm.Cond.instanceMethod ({ cls := "WellNames", name := "shortest", desc := "(II)I" } : Jvm.MethodName)) ∈ lw_all := lw_g (lw_at lw_m5 32 rfl) rfl
theorem q1072 : (Jvm.Cond.selects "WellNames" ({ cls := "WellNames", name := "shortest", desc := "(II)I" } : Jvm.MethodName) ({ cls := "WellNames", name := "shortest", desc := "(II)I" } : Jvm.MethodName)) ∈ lw_all := lw_g (lw_at lw_m5 33 rfl) rfl
theorem q1073 : (Jvm.Cond.codeWith ({ cls := "WellNames", name := "shortest", desc := "(II)I" } : Jvm.MethodName) prog_1_method_47_code (7 : Nat) (Option.some Jvm.ClassFile.FieldType.int) [((0 : Nat), (185 : Nat), (186 : Nat), (8 : Nat))]) ∈ lw_all := lw_g (lw_at lw_m5 34 rfl) rfl
theorem q1075 : (Jvm.Cond.instanceMethod ({ cls := "WellNames", name := "walked", desc := "(I)I" } : Jvm.MethodName)) ∈ lw_all := lw_g (lw_at lw_m5 36 rfl) rfl
theorem q1076 : (Jvm.Cond.selects "WellNames" ({ cls := "WellNames", name := "walked", desc := "(I)I" } : Jvm.MethodName) ({ cls := "WellNames", name := "walked", desc := "(I)I" } : Jvm.MethodName)) ∈ lw_all := lw_g (lw_at lw_m5 37 rfl) rfl
theorem q1077 : (Jvm.Cond.codeWith ({ cls := "WellNames", name := "walked", desc := "(I)I" } : Jvm.MethodName) prog_1_method_49_code (5 : Nat) (Option.some Jvm.ClassFile.FieldType.int) [((0 : Nat), (60 : Nat), (61 : Nat), (8 : Nat))]) ∈ lw_all := lw_g (lw_at lw_m5 38 rfl) rfl
theorem q1078 : (Jvm.Cond.methodLink "WellNames" (309 : Nat) ({ cls := "WellNames", name := "isSheet", desc := "(I)Z" } : Jvm.MethodName)) ∈ lw_all := lw_g (lw_at lw_m5 39 rfl) rfl
theorem q1079 : (Jvm.Cond.static ({ cls := "WellNames", name := "isSheet", desc := "(I)Z" } : Jvm.MethodName)) ∈ lw_all := lw_g (lw_at lw_m5 40 rfl) rfl
theorem q1080 : (Jvm.Cond.code ({ cls := "WellNames", name := "isSheet", desc := "(I)Z" } : Jvm.MethodName) prog_1_method_12_code (1 : Nat) (Option.some Jvm.ClassFile.FieldType.boolean)) ∈ lw_all := lw_g (lw_at lw_m5 41 rfl) rfl
theorem q1081 : (Jvm.Cond.methodLink "WellNames" (312 : Nat) ({ cls := "WellNames", name := "walkOf", desc := "(I)LWellNames$Sheet;" } : Jvm.MethodName)) ∈ lw_all := lw_g (lw_at lw_m5 42 rfl) rfl
theorem q1082 : (Jvm.Cond.privateMethod ({ cls := "WellNames", name := "walkOf", desc := "(I)LWellNames$Sheet;" } : Jvm.MethodName)) ∈ lw_tbl := lw_at lw_m5 43 rfl
theorem q1083 : (Jvm.Cond.instanceMethod ({ cls := "WellNames", name := "walkOf", desc := "(I)LWellNames$Sheet;" } : Jvm.MethodName)) ∈ lw_all := lw_g (lw_at lw_m5 44 rfl) rfl
theorem q1084 : (Jvm.Cond.code ({ cls := "WellNames", name := "walkOf", desc := "(I)LWellNames$Sheet;" } : Jvm.MethodName) prog_1_method_48_code (5 : Nat) (Option.some (Jvm.ClassFile.FieldType.object "WellNames$Sheet"))) ∈ lw_all := lw_g (lw_at lw_m5 45 rfl) rfl
theorem q1085 : (Jvm.Cond.methodLink "WellNames" (299 : Nat) ({ cls := "WellNames", name := "sheetAt", desc := "(I)LWellNames$Sheet;" } : Jvm.MethodName)) ∈ lw_all := lw_g (lw_at lw_m5 46 rfl) rfl
theorem q1086 : (Jvm.Cond.privateMethod ({ cls := "WellNames", name := "sheetAt", desc := "(I)LWellNames$Sheet;" } : Jvm.MethodName)) ∈ lw_tbl := lw_at lw_m5 47 rfl
theorem q1087 : (Jvm.Cond.instanceMethod ({ cls := "WellNames", name := "sheetAt", desc := "(I)LWellNames$Sheet;" } : Jvm.MethodName)) ∈ lw_all := lw_g (lw_at lw_m5 48 rfl) rfl
theorem q1088 : (Jvm.Cond.code ({ cls := "WellNames", name := "sheetAt", desc := "(I)LWellNames$Sheet;" } : Jvm.MethodName) prog_1_method_14_code (2 : Nat) (Option.some (Jvm.ClassFile.FieldType.object "WellNames$Sheet"))) ∈ lw_all := lw_g (lw_at lw_m5 49 rfl) rfl
theorem q1089 : (Jvm.Cond.classLink "WellNames" (104 : Nat) "WellNames$Sheet") ∈ lw_all := lw_g (lw_at lw_m5 50 rfl) rfl
theorem q1090 : (Jvm.Cond.methodLink "WellNames" (303 : Nat) ({ cls := "WellNames$Sheet", name := "size", desc := "()I" } : Jvm.MethodName)) ∈ lw_all := lw_g (lw_at lw_m5 51 rfl) rfl
theorem q1102 : (Jvm.Cond.methodLink "WellNames" (306 : Nat) ({ cls := "WellNames$Sheet", name := "get", desc := "(I)I" } : Jvm.MethodName)) ∈ lw_all := lw_g (lw_at lw_m5 63 rfl) rfl
theorem q1115 : (Jvm.Cond.instanceMethod ({ cls := "WellNames", name := "alive", desc := "(III)I" } : Jvm.MethodName)) ∈ lw_all := lw_g (lw_at lw_m5 76 rfl) rfl
theorem q1116 : (Jvm.Cond.selects "WellNames" ({ cls := "WellNames", name := "alive", desc := "(III)I" } : Jvm.MethodName) ({ cls := "WellNames", name := "alive", desc := "(III)I" } : Jvm.MethodName)) ∈ lw_all := lw_g (lw_at lw_m5 77 rfl) rfl
theorem q1117 : (Jvm.Cond.codeWith ({ cls := "WellNames", name := "alive", desc := "(III)I" } : Jvm.MethodName) prog_1_method_50_code (10 : Nat) (Option.some Jvm.ClassFile.FieldType.int) [((0 : Nat), (159 : Nat), (160 : Nat), (8 : Nat))]) ∈ lw_all := lw_g (lw_at lw_m5 78 rfl) rfl
theorem q1119 : (Jvm.Cond.instanceMethod ({ cls := "WellNames", name := "grown", desc := "(III)I" } : Jvm.MethodName)) ∈ lw_all := lw_g (lw_at lw_m5 80 rfl) rfl
theorem q1120 : (Jvm.Cond.selects "WellNames" ({ cls := "WellNames", name := "grown", desc := "(III)I" } : Jvm.MethodName) ({ cls := "WellNames", name := "grown", desc := "(III)I" } : Jvm.MethodName)) ∈ lw_all := lw_g (lw_at lw_m5 81 rfl) rfl
theorem q1121 : (Jvm.Cond.codeWith ({ cls := "WellNames", name := "grown", desc := "(III)I" } : Jvm.MethodName) prog_1_method_51_code (8 : Nat) (Option.some Jvm.ClassFile.FieldType.int) [((0 : Nat), (115 : Nat), (116 : Nat), (8 : Nat))]) ∈ lw_all := lw_g (lw_at lw_m5 82 rfl) rfl
theorem q1123 : (Jvm.Cond.instanceMethod ({ cls := "WellNames", name := "seed", desc := "(I)I" } : Jvm.MethodName)) ∈ lw_all := lw_g (lw_at lw_m5 84 rfl) rfl
theorem q1124 : (Jvm.Cond.selects "WellNames" ({ cls := "WellNames", name := "seed", desc := "(I)I" } : Jvm.MethodName) ({ cls := "WellNames", name := "seed", desc := "(I)I" } : Jvm.MethodName)) ∈ lw_all := lw_g (lw_at lw_m5 85 rfl) rfl
theorem q1125 : (Jvm.Cond.code ({ cls := "WellNames", name := "seed", desc := "(I)I" } : Jvm.MethodName) prog_1_method_52_code (3 : Nat) (Option.some Jvm.ClassFile.FieldType.int)) ∈ lw_all := lw_g (lw_at lw_m5 86 rfl) rfl
theorem q1127 : (Jvm.Cond.instanceMethod ({ cls := "WellNames", name := "voice", desc := "(III)I" } : Jvm.MethodName)) ∈ lw_all := lw_g (lw_at lw_m5 88 rfl) rfl
theorem q1128 : (Jvm.Cond.selects "WellNames" ({ cls := "WellNames", name := "voice", desc := "(III)I" } : Jvm.MethodName) ({ cls := "WellNames", name := "voice", desc := "(III)I" } : Jvm.MethodName)) ∈ lw_all := lw_g (lw_at lw_m5 89 rfl) rfl
theorem q1129 : (Jvm.Cond.codeWith ({ cls := "WellNames", name := "voice", desc := "(III)I" } : Jvm.MethodName) prog_1_method_53_code (5 : Nat) (Option.some Jvm.ClassFile.FieldType.int) [((0 : Nat), (56 : Nat), (84 : Nat), (8 : Nat)), ((57 : Nat), (65 : Nat), (84 : Nat), (8 : Nat)), ((66 : Nat), (74 : Nat), (84 : Nat), (8 : Nat)), ((75 : Nat), (83 : Nat), (84 : Nat), (8 : Nat))]) ∈ lw_all := lw_g (lw_at lw_m5 90 rfl) rfl
theorem q1130 : (Jvm.Cond.interfaceEntry "WellNames" (321 : Nat)) ∈ lw_tbl := lw_at lw_m5 91 rfl
theorem q1131 : (Jvm.Cond.methodLink "WellNames" (321 : Nat) ({ cls := "WellNames$Drinks", name := "drinks", desc := "(I)I" } : Jvm.MethodName)) ∈ lw_all := lw_g (lw_at lw_m5 92 rfl) rfl
theorem q1167 : (Jvm.Cond.interfaceEntry "WellNames" (325 : Nat)) ∈ lw_tbl := lw_at lw_m5 128 rfl
theorem q1168 : (Jvm.Cond.methodLink "WellNames" (325 : Nat) ({ cls := "WellNames$Calls", name := "calls", desc := "(I)I" } : Jvm.MethodName)) ∈ lw_all := lw_g (lw_at lw_m5 129 rfl) rfl
theorem q1213 : (Jvm.Cond.interfaceEntry "WellNames" (330 : Nat)) ∈ lw_tbl := lw_at lw_m5 174 rfl
theorem q1214 : (Jvm.Cond.methodLink "WellNames" (330 : Nat) ({ cls := "WellNames$Owes", name := "owes", desc := "(I)I" } : Jvm.MethodName)) ∈ lw_all := lw_g (lw_at lw_m5 175 rfl) rfl
theorem q1249 : (Jvm.Cond.interfaceEntry "WellNames" (335 : Nat)) ∈ lw_tbl := lw_at lw_m5 210 rfl
theorem q1250 : (Jvm.Cond.methodLink "WellNames" (335 : Nat) ({ cls := "WellNames$Tells", name := "tells", desc := "(I)I" } : Jvm.MethodName)) ∈ lw_all := lw_g (lw_at lw_m5 211 rfl) rfl
theorem q1300 : (Jvm.Cond.instanceMethod ({ cls := "WellNames", name := "trace", desc := "(I)I" } : Jvm.MethodName)) ∈ lw_all := lw_g (lw_at lw_m6 21 rfl) rfl
theorem q1301 : (Jvm.Cond.selects "WellNames" ({ cls := "WellNames", name := "trace", desc := "(I)I" } : Jvm.MethodName) ({ cls := "WellNames", name := "trace", desc := "(I)I" } : Jvm.MethodName)) ∈ lw_all := lw_g (lw_at lw_m6 22 rfl) rfl
theorem q1302 : (Jvm.Cond.codeWith ({ cls := "WellNames", name := "trace", desc := "(I)I" } : Jvm.MethodName) prog_1_method_54_code (3 : Nat) (Option.some Jvm.ClassFile.FieldType.int) [((0 : Nat), (28 : Nat), (29 : Nat), (8 : Nat))]) ∈ lw_all := lw_g (lw_at lw_m6 23 rfl) rfl
theorem q1304 : (Jvm.Cond.instanceMethod ({ cls := "WellNames", name := "waters", desc := "(I)I" } : Jvm.MethodName)) ∈ lw_all := lw_g (lw_at lw_m6 25 rfl) rfl
theorem q1305 : (Jvm.Cond.selects "WellNames" ({ cls := "WellNames", name := "waters", desc := "(I)I" } : Jvm.MethodName) ({ cls := "WellNames", name := "waters", desc := "(I)I" } : Jvm.MethodName)) ∈ lw_all := lw_g (lw_at lw_m6 26 rfl) rfl
theorem q1306 : (Jvm.Cond.codeWith ({ cls := "WellNames", name := "waters", desc := "(I)I" } : Jvm.MethodName) prog_1_method_55_code (4 : Nat) (Option.some Jvm.ClassFile.FieldType.int) [((0 : Nat), (67 : Nat), (68 : Nat), (8 : Nat))]) ∈ lw_all := lw_g (lw_at lw_m6 27 rfl) rfl
theorem q1308 : (Jvm.Cond.instanceMethod ({ cls := "WellNames", name := "judge", desc := "(I)I" } : Jvm.MethodName)) ∈ lw_all := lw_g (lw_at lw_m6 29 rfl) rfl
theorem q1309 : (Jvm.Cond.selects "WellNames" ({ cls := "WellNames", name := "judge", desc := "(I)I" } : Jvm.MethodName) ({ cls := "WellNames", name := "judge", desc := "(I)I" } : Jvm.MethodName)) ∈ lw_all := lw_g (lw_at lw_m6 30 rfl) rfl
theorem q1310 : (Jvm.Cond.codeWith ({ cls := "WellNames", name := "judge", desc := "(I)I" } : Jvm.MethodName) prog_1_method_56_code (4 : Nat) (Option.some Jvm.ClassFile.FieldType.int) [((0 : Nat), (80 : Nat), (81 : Nat), (8 : Nat))]) ∈ lw_all := lw_g (lw_at lw_m6 31 rfl) rfl
theorem q1312 : (Jvm.Cond.instanceMethod ({ cls := "WellNames", name := "sheet", desc := "(III)I" } : Jvm.MethodName)) ∈ lw_all := lw_g (lw_at lw_m6 33 rfl) rfl
theorem q1313 : (Jvm.Cond.selects "WellNames" ({ cls := "WellNames", name := "sheet", desc := "(III)I" } : Jvm.MethodName) ({ cls := "WellNames", name := "sheet", desc := "(III)I" } : Jvm.MethodName)) ∈ lw_all := lw_g (lw_at lw_m6 34 rfl) rfl
theorem q1314 : (Jvm.Cond.codeWith ({ cls := "WellNames", name := "sheet", desc := "(III)I" } : Jvm.MethodName) prog_1_method_57_code (5 : Nat) (Option.some Jvm.ClassFile.FieldType.int) [((0 : Nat), (43 : Nat), (127 : Nat), (8 : Nat)), ((44 : Nat), (126 : Nat), (127 : Nat), (8 : Nat))]) ∈ lw_all := lw_g (lw_at lw_m6 35 rfl) rfl
theorem q1315 : (Jvm.Cond.methodLink "WellNames" (343 : Nat) ({ cls := "WellNames", name := "isWidth", desc := "(I)Z" } : Jvm.MethodName)) ∈ lw_all := lw_g (lw_at lw_m6 36 rfl) rfl
theorem q1316 : (Jvm.Cond.static ({ cls := "WellNames", name := "isWidth", desc := "(I)Z" } : Jvm.MethodName)) ∈ lw_all := lw_g (lw_at lw_m6 37 rfl) rfl
theorem q1317 : (Jvm.Cond.code ({ cls := "WellNames", name := "isWidth", desc := "(I)Z" } : Jvm.MethodName) prog_1_method_13_code (1 : Nat) (Option.some Jvm.ClassFile.FieldType.boolean)) ∈ lw_all := lw_g (lw_at lw_m6 38 rfl) rfl
theorem q1318 : (Jvm.Cond.classLink "WellNames" (346 : Nat) "WellNames$Bytes") ∈ lw_all := lw_g (lw_at lw_m6 39 rfl) rfl
theorem q1320 : (Jvm.Cond.methodLink "WellNames" (348 : Nat) ({ cls := "WellNames$Bytes", name := "<init>", desc := "(I)V" } : Jvm.MethodName)) ∈ lw_all := lw_g (lw_at lw_m6 41 rfl) rfl
theorem q1331 : (Jvm.Cond.classLink "WellNames" (350 : Nat) "WellNames$Shorts") ∈ lw_all := lw_g (lw_at lw_m6 52 rfl) rfl
theorem q1333 : (Jvm.Cond.methodLink "WellNames" (352 : Nat) ({ cls := "WellNames$Shorts", name := "<init>", desc := "(I)V" } : Jvm.MethodName)) ∈ lw_all := lw_g (lw_at lw_m6 54 rfl) rfl
theorem q1342 : (Jvm.Cond.classLink "WellNames" (353 : Nat) "WellNames$Ints") ∈ lw_all := lw_g (lw_at lw_m6 63 rfl) rfl
theorem q1344 : (Jvm.Cond.methodLink "WellNames" (355 : Nat) ({ cls := "WellNames$Ints", name := "<init>", desc := "(I)V" } : Jvm.MethodName)) ∈ lw_all := lw_g (lw_at lw_m6 65 rfl) rfl
theorem q1353 : (Jvm.Cond.instanceMethod ({ cls := "WellNames", name := "put", desc := "(III)I" } : Jvm.MethodName)) ∈ lw_all := lw_g (lw_at lw_m6 74 rfl) rfl
theorem q1354 : (Jvm.Cond.selects "WellNames" ({ cls := "WellNames", name := "put", desc := "(III)I" } : Jvm.MethodName) ({ cls := "WellNames", name := "put", desc := "(III)I" } : Jvm.MethodName)) ∈ lw_all := lw_g (lw_at lw_m6 75 rfl) rfl
theorem q1355 : (Jvm.Cond.codeWith ({ cls := "WellNames", name := "put", desc := "(III)I" } : Jvm.MethodName) prog_1_method_58_code (5 : Nat) (Option.some Jvm.ClassFile.FieldType.int) [((0 : Nat), (41 : Nat), (42 : Nat), (8 : Nat))]) ∈ lw_all := lw_g (lw_at lw_m6 76 rfl) rfl
theorem q1356 : (Jvm.Cond.methodLink "WellNames" (356 : Nat) ({ cls := "WellNames$Sheet", name := "put", desc := "(II)V" } : Jvm.MethodName)) ∈ lw_all := lw_g (lw_at lw_m6 77 rfl) rfl
theorem q1369 : (Jvm.Cond.instanceMethod ({ cls := "WellNames", name := "move", desc := "(IIIII)I" } : Jvm.MethodName)) ∈ lw_all := lw_g (lw_at lw_m6 90 rfl) rfl
theorem q1370 : (Jvm.Cond.selects "WellNames" ({ cls := "WellNames", name := "move", desc := "(IIIII)I" } : Jvm.MethodName) ({ cls := "WellNames", name := "move", desc := "(IIIII)I" } : Jvm.MethodName)) ∈ lw_all := lw_g (lw_at lw_m6 91 rfl) rfl
theorem q1371 : (Jvm.Cond.codeWith ({ cls := "WellNames", name := "move", desc := "(IIIII)I" } : Jvm.MethodName) prog_1_method_59_code (10 : Nat) (Option.some Jvm.ClassFile.FieldType.int) [((0 : Nat), (152 : Nat), (153 : Nat), (8 : Nat))]) ∈ lw_all := lw_g (lw_at lw_m6 92 rfl) rfl
theorem q1372 : (Jvm.Cond.methodLink "WellNames" (359 : Nat) ({ cls := "WellNames$Sheet", name := "width", desc := "()I" } : Jvm.MethodName)) ∈ lw_all := lw_g (lw_at lw_m6 93 rfl) rfl
theorem q1384 : (Jvm.Cond.methodLink "WellNames" (362 : Nat) ({ cls := "WellNames$Sheet", name := "row", desc := "()[I" } : Jvm.MethodName)) ∈ lw_all := lw_g (lw_at lw_m6 105 rfl) rfl
theorem q1394 : (Jvm.Cond.instanceMethod ({ cls := "WellNames", name := "image", desc := "()I" } : Jvm.MethodName)) ∈ lw_all := lw_g (lw_at lw_m6 115 rfl) rfl
theorem q1395 : (Jvm.Cond.selects "WellNames" ({ cls := "WellNames", name := "image", desc := "()I" } : Jvm.MethodName) ({ cls := "WellNames", name := "image", desc := "()I" } : Jvm.MethodName)) ∈ lw_all := lw_g (lw_at lw_m6 116 rfl) rfl
theorem q1396 : (Jvm.Cond.code ({ cls := "WellNames", name := "image", desc := "()I" } : Jvm.MethodName) prog_1_method_60_code (2 : Nat) (Option.some Jvm.ClassFile.FieldType.int)) ∈ lw_all := lw_g (lw_at lw_m6 117 rfl) rfl
theorem q1397 : (Jvm.Cond.methodLink "WellNames" (366 : Nat) ({ cls := "WellNames$Desert", name := "become", desc := "(LWellNames$Desert;)LWellNames$Desert;" } : Jvm.MethodName)) ∈ lw_all := lw_g (lw_at lw_m6 118 rfl) rfl
theorem q1405 : (Jvm.Cond.instanceMethod ({ cls := "WellNames", name := "restore", desc := "()I" } : Jvm.MethodName)) ∈ lw_all := lw_g (lw_at lw_m6 126 rfl) rfl
theorem q1406 : (Jvm.Cond.selects "WellNames" ({ cls := "WellNames", name := "restore", desc := "()I" } : Jvm.MethodName) ({ cls := "WellNames", name := "restore", desc := "()I" } : Jvm.MethodName)) ∈ lw_all := lw_g (lw_at lw_m6 127 rfl) rfl
theorem q1407 : (Jvm.Cond.codeWith ({ cls := "WellNames", name := "restore", desc := "()I" } : Jvm.MethodName) prog_1_method_61_code (2 : Nat) (Option.some Jvm.ClassFile.FieldType.int) [((0 : Nat), (31 : Nat), (32 : Nat), (8 : Nat))]) ∈ lw_all := lw_g (lw_at lw_m6 128 rfl) rfl
theorem q1409 : (Jvm.Cond.instanceMethod ({ cls := "WellNames", name := "tell", desc := "(I)I" } : Jvm.MethodName)) ∈ lw_all := lw_g (lw_at lw_m6 130 rfl) rfl
theorem q1410 : (Jvm.Cond.selects "WellNames" ({ cls := "WellNames", name := "tell", desc := "(I)I" } : Jvm.MethodName) ({ cls := "WellNames", name := "tell", desc := "(I)I" } : Jvm.MethodName)) ∈ lw_all := lw_g (lw_at lw_m6 131 rfl) rfl
theorem q1411 : (Jvm.Cond.codeWith ({ cls := "WellNames", name := "tell", desc := "(I)I" } : Jvm.MethodName) prog_1_method_62_code (3 : Nat) (Option.some Jvm.ClassFile.FieldType.int) [((0 : Nat), (58 : Nat), (59 : Nat), (8 : Nat))]) ∈ lw_all := lw_g (lw_at lw_m6 132 rfl) rfl
theorem q1413 : (Jvm.Cond.instanceMethod ({ cls := "WellNames", name := "check", desc := "()I" } : Jvm.MethodName)) ∈ lw_all := lw_g (lw_at lw_m6 134 rfl) rfl
theorem q1414 : (Jvm.Cond.selects "WellNames" ({ cls := "WellNames", name := "check", desc := "()I" } : Jvm.MethodName) ({ cls := "WellNames", name := "check", desc := "()I" } : Jvm.MethodName)) ∈ lw_all := lw_g (lw_at lw_m6 135 rfl) rfl
theorem q1415 : (Jvm.Cond.code ({ cls := "WellNames", name := "check", desc := "()I" } : Jvm.MethodName) prog_1_method_63_code (4 : Nat) (Option.some Jvm.ClassFile.FieldType.int)) ∈ lw_all := lw_g (lw_at lw_m6 136 rfl) rfl
theorem q1417 : (Jvm.Cond.instanceMethod ({ cls := "WellNames", name := "count", desc := "(I)I" } : Jvm.MethodName)) ∈ lw_all := lw_g (lw_at lw_m6 138 rfl) rfl
theorem q1418 : (Jvm.Cond.selects "WellNames" ({ cls := "WellNames", name := "count", desc := "(I)I" } : Jvm.MethodName) ({ cls := "WellNames", name := "count", desc := "(I)I" } : Jvm.MethodName)) ∈ lw_all := lw_g (lw_at lw_m6 139 rfl) rfl
theorem q1419 : (Jvm.Cond.codeWith ({ cls := "WellNames", name := "count", desc := "(I)I" } : Jvm.MethodName) prog_1_method_64_code (5 : Nat) (Option.some Jvm.ClassFile.FieldType.int) [((0 : Nat), (119 : Nat), (188 : Nat), (8 : Nat)), ((120 : Nat), (127 : Nat), (188 : Nat), (8 : Nat)), ((128 : Nat), (135 : Nat), (188 : Nat), (8 : Nat)), ((136 : Nat), (143 : Nat), (188 : Nat), (8 : Nat)), ((144 : Nat), (145 : Nat), (188 : Nat), (8 : Nat)), ((146 : Nat), (153 : Nat), (188 : Nat), (8 : Nat)), ((154 : Nat), (155 : Nat), (188 : Nat), (8 : Nat)), ((156 : Nat), (163 : Nat), (188 : Nat), (8 : Nat)), ((164 : Nat), (171 : Nat), (188 : Nat), (8 : Nat)), ((172 : Nat), (179 : Nat), (188 : Nat), (8 : Nat)), ((180 : Nat), (187 : Nat), (188 : Nat), (8 : Nat))]) ∈ lw_all := lw_g (lw_at lw_m6 140 rfl) rfl
theorem q1421 : (Jvm.Cond.instanceMethod ({ cls := "WellNames", name := "told", desc := "(I)I" } : Jvm.MethodName)) ∈ lw_all := lw_g (lw_at lw_m6 142 rfl) rfl
theorem q1422 : (Jvm.Cond.selects "WellNames" ({ cls := "WellNames", name := "told", desc := "(I)I" } : Jvm.MethodName) ({ cls := "WellNames", name := "told", desc := "(I)I" } : Jvm.MethodName)) ∈ lw_all := lw_g (lw_at lw_m6 143 rfl) rfl
theorem q1423 : (Jvm.Cond.codeWith ({ cls := "WellNames", name := "told", desc := "(I)I" } : Jvm.MethodName) prog_1_method_65_code (3 : Nat) (Option.some Jvm.ClassFile.FieldType.int) [((0 : Nat), (17 : Nat), (18 : Nat), (8 : Nat))]) ∈ lw_all := lw_g (lw_at lw_m6 144 rfl) rfl
theorem in_X0 : ∀ w ∈ wsX00, w ∈ lw_all := lw_in wsX00 [332, 334, 336, 338, 340, 342, 344, 346, 348, 350, 352, 354] (by decide +kernel) (by decide +kernel)
