/-! WellNamesModel -/
set_option maxRecDepth 100000
def RX6 : String := "WellNamesModel"
def TX6 : u_T := fun k => match k with
  | 0 => ("WellNamesModel", "s", "[I", true)
  | 1 => ("WellNamesModel", "kept", "[I", true)
  | 2 => ("WellNamesModel", "aside", "[I", true)
  | 3 => ("WellNamesModel", "errors", "[I", true)
  | 4 => ("WellNamesModel", "images", "I", false)
  | 5 => ("WellNamesModel", "first", "I", false)
  | 6 => ("WellNamesModel", "size", "I", false)
  | 7 => ("WellNamesModel", "at", "I", false)
  | 8 => ("WellNamesModel", "open", "I", false)
  | 9 => ("WellNamesModel", "use0", "I", false)
  | 10 => ("WellNamesModel", "one0", "I", false)
  | 11 => ("WellNamesModel", "two0", "I", false)
  | 12 => ("WellNamesModel", "three0", "I", false)
  | 13 => ("WellNamesModel", "isWrong", "Z", false)
  | 14 => ("WellNamesModel", "least", "[I", true)
  | 15 => ("WellNamesModel", "road", "[I", true)
  | 16 => ("WellNamesModel", "trace", "[I", true)
  | 17 => ("WellNamesModel", "bodies", "I", false)
  | 18 => ("WellNamesModel", "kind0", "I", false)
  | 19 => ("WellNamesModel", "number0", "I", false)
  | 20 => ("WellNamesModel", "m0", "I", false)
  | 21 => ("WellNamesModel", "bitsOf", "[I", true)
  | 22 => ("WellNamesModel", "sizeOf", "[I", true)
  | 23 => ("WellNamesModel", "numbers", "[I", true)
  | _ => ("WellNamesModel", "moved", "[I", true)
def tyX6 : Nat → FieldType := fun k => match k with
  | 0 => .array .int
  | 1 => .array .int
  | 2 => .array .int
  | 3 => .array .int
  | 4 => .int
  | 5 => .int
  | 6 => .int
  | 7 => .int
  | 8 => .int
  | 9 => .int
  | 10 => .int
  | 11 => .int
  | 12 => .int
  | 13 => .boolean
  | 14 => .array .int
  | 15 => .array .int
  | 16 => .array .int
  | 17 => .int
  | 18 => .int
  | 19 => .int
  | 20 => .int
  | 21 => .array .int
  | 22 => .array .int
  | 23 => .array .int
  | _ => .array .int
abbrev wsX60 : List Cond := u_ws RX6 TX6 25
set_option maxRecDepth 100000 in
theorem nmX6 : ∀ a, a < 25 → ∀ b, b < 25 → a ≠ b → (TX6 a).2.1 ≠ (TX6 b).2.1 := by decide +kernel
set_option maxRecDepth 100000 in
theorem tyX6_ok : ∀ k, k < 25 → parseFieldDescriptor (TX6 k).2.2.1 = some (tyX6 k) := by decide +kernel
abbrev cX6_init : ByteArray := prog_30_method_1_code
def yX6_init : MethodName := ⟨RX6, "<init>", "()V"⟩
def dkwX6_init_6 : List UInt8 := [180, 0, 7, 17, 0, 179, 2, 79, 42, 180, 0, 7, 17, 0, 180, 2, 79, 177]
abbrev dktX6_init_6 : List UInt8 := dkwX6_init_6 ++ []
def dkwX6_init_5 : List UInt8 := [167, 255, 237, 42, 180, 0, 7, 17, 0, 136, 4, 79, 42, 180, 0, 7, 17, 0, 176, 4, 79, 42]
abbrev dktX6_init_5 : List UInt8 := dkwX6_init_5 ++ dktX6_init_6
def dkwX6_init_4 : List UInt8 := [181, 0, 40, 3, 60, 27, 16, 8, 162, 0, 19, 42, 180, 0, 7, 3, 27, 96, 16, 9, 79, 132, 1, 1]
abbrev dktX6_init_4 : List UInt8 := dkwX6_init_4 ++ dktX6_init_5
def dkwX6_init_3 : List UInt8 := [181, 0, 31, 42, 7, 188, 10, 181, 0, 34, 42, 17, 0, 160, 188, 10, 181, 0, 37, 42, 16, 40, 188, 10]
abbrev dktX6_init_3 : List UInt8 := dkwX6_init_3 ++ dktX6_init_4
def dkwX6_init_2 : List UInt8 := [181, 0, 22, 42, 16, 64, 188, 10, 181, 0, 25, 42, 16, 40, 188, 10, 181, 0, 28, 42, 7, 188, 10]
abbrev dktX6_init_2 : List UInt8 := dkwX6_init_2 ++ dktX6_init_3
def dkwX6_init_1 : List UInt8 := [17, 0, 176, 188, 10, 181, 0, 16, 42, 16, 6, 188, 10, 181, 0, 19, 42, 17, 1, 40, 188, 10]
abbrev dktX6_init_1 : List UInt8 := dkwX6_init_1 ++ dktX6_init_2
def dkwX6_init_0 : List UInt8 := [42, 183, 0, 1, 42, 17, 1, 95, 188, 10, 181, 0, 7, 42, 17, 1, 95, 188, 10, 181, 0, 13, 42]
abbrev dktX6_init_0 : List UInt8 := dkwX6_init_0 ++ dktX6_init_1
theorem dksX6_init_0 : cX6_init.data.toList.drop 0 = dktX6_init_0 := by decide +kernel
theorem dksX6_init_1 : cX6_init.data.toList.drop 23 = dktX6_init_1 := dk_seg dksX6_init_0 23 rfl rfl
theorem dksX6_init_2 : cX6_init.data.toList.drop 45 = dktX6_init_2 := dk_seg dksX6_init_1 22 rfl rfl
theorem dksX6_init_3 : cX6_init.data.toList.drop 68 = dktX6_init_3 := dk_seg dksX6_init_2 23 rfl rfl
theorem dksX6_init_4 : cX6_init.data.toList.drop 92 = dktX6_init_4 := dk_seg dksX6_init_3 24 rfl rfl
theorem dksX6_init_5 : cX6_init.data.toList.drop 116 = dktX6_init_5 := dk_seg dksX6_init_4 24 rfl rfl
theorem dksX6_init_6 : cX6_init.data.toList.drop 138 = dktX6_init_6 := dk_seg dksX6_init_5 22 rfl rfl
theorem dX6_init_0 : decode cX6_init 0 = .ok (.aload_n 0, 1) := dk_42 (dk_at dksX6_init_0 0 rfl rfl)
theorem dX6_init_1 : decode cX6_init 1 = .ok (.invokespecial 1, 3) := dk_183 0 1 (dk_at dksX6_init_0 1 rfl rfl)
theorem dX6_init_4 : decode cX6_init 4 = .ok (.aload_n 0, 1) := dk_42 (dk_at dksX6_init_0 4 rfl rfl)
theorem dX6_init_5 : decode cX6_init 5 = .ok (.sipush 351, 3) := dk_17 1 95 (dk_at dksX6_init_0 5 rfl rfl)
theorem dX6_init_8 : decode cX6_init 8 = .ok (.newarray .int, 2) := dk_188_10 (dk_at dksX6_init_0 8 rfl rfl)
theorem dX6_init_10 : decode cX6_init 10 = .ok (.putfield 7, 3) := dk_181 0 7 (dk_at dksX6_init_0 10 rfl rfl)
theorem dX6_init_13 : decode cX6_init 13 = .ok (.aload_n 0, 1) := dk_42 (dk_at dksX6_init_0 13 rfl rfl)
theorem dX6_init_14 : decode cX6_init 14 = .ok (.sipush 351, 3) := dk_17 1 95 (dk_at dksX6_init_0 14 rfl rfl)
theorem dX6_init_17 : decode cX6_init 17 = .ok (.newarray .int, 2) := dk_188_10 (dk_at dksX6_init_0 17 rfl rfl)
theorem dX6_init_19 : decode cX6_init 19 = .ok (.putfield 13, 3) := dk_181 0 13 (dk_at dksX6_init_0 19 rfl rfl)
theorem dX6_init_22 : decode cX6_init 22 = .ok (.aload_n 0, 1) := dk_42 (dk_at dksX6_init_0 22 rfl rfl)
theorem dX6_init_23 : decode cX6_init 23 = .ok (.sipush 176, 3) := dk_17 0 176 (dk_at dksX6_init_1 0 rfl rfl)
theorem dX6_init_26 : decode cX6_init 26 = .ok (.newarray .int, 2) := dk_188_10 (dk_at dksX6_init_1 3 rfl rfl)
theorem dX6_init_28 : decode cX6_init 28 = .ok (.putfield 16, 3) := dk_181 0 16 (dk_at dksX6_init_1 5 rfl rfl)
theorem dX6_init_31 : decode cX6_init 31 = .ok (.aload_n 0, 1) := dk_42 (dk_at dksX6_init_1 8 rfl rfl)
theorem dX6_init_32 : decode cX6_init 32 = .ok (.bipush 6, 2) := dk_16 6 (dk_at dksX6_init_1 9 rfl rfl)
theorem dX6_init_34 : decode cX6_init 34 = .ok (.newarray .int, 2) := dk_188_10 (dk_at dksX6_init_1 11 rfl rfl)
theorem dX6_init_36 : decode cX6_init 36 = .ok (.putfield 19, 3) := dk_181 0 19 (dk_at dksX6_init_1 13 rfl rfl)
theorem dX6_init_39 : decode cX6_init 39 = .ok (.aload_n 0, 1) := dk_42 (dk_at dksX6_init_1 16 rfl rfl)
theorem dX6_init_40 : decode cX6_init 40 = .ok (.sipush 296, 3) := dk_17 1 40 (dk_at dksX6_init_1 17 rfl rfl)
theorem dX6_init_43 : decode cX6_init 43 = .ok (.newarray .int, 2) := dk_188_10 (dk_at dksX6_init_1 20 rfl rfl)
theorem dX6_init_45 : decode cX6_init 45 = .ok (.putfield 22, 3) := dk_181 0 22 (dk_at dksX6_init_2 0 rfl rfl)
theorem dX6_init_48 : decode cX6_init 48 = .ok (.aload_n 0, 1) := dk_42 (dk_at dksX6_init_2 3 rfl rfl)
theorem dX6_init_49 : decode cX6_init 49 = .ok (.bipush 64, 2) := dk_16 64 (dk_at dksX6_init_2 4 rfl rfl)
theorem dX6_init_51 : decode cX6_init 51 = .ok (.newarray .int, 2) := dk_188_10 (dk_at dksX6_init_2 6 rfl rfl)
theorem dX6_init_53 : decode cX6_init 53 = .ok (.putfield 25, 3) := dk_181 0 25 (dk_at dksX6_init_2 8 rfl rfl)
theorem dX6_init_56 : decode cX6_init 56 = .ok (.aload_n 0, 1) := dk_42 (dk_at dksX6_init_2 11 rfl rfl)
theorem dX6_init_57 : decode cX6_init 57 = .ok (.bipush 40, 2) := dk_16 40 (dk_at dksX6_init_2 12 rfl rfl)
theorem dX6_init_59 : decode cX6_init 59 = .ok (.newarray .int, 2) := dk_188_10 (dk_at dksX6_init_2 14 rfl rfl)
theorem dX6_init_61 : decode cX6_init 61 = .ok (.putfield 28, 3) := dk_181 0 28 (dk_at dksX6_init_2 16 rfl rfl)
theorem dX6_init_64 : decode cX6_init 64 = .ok (.aload_n 0, 1) := dk_42 (dk_at dksX6_init_2 19 rfl rfl)
theorem dX6_init_65 : decode cX6_init 65 = .ok (.iconst 4, 1) := dk_7 (dk_at dksX6_init_2 20 rfl rfl)
theorem dX6_init_66 : decode cX6_init 66 = .ok (.newarray .int, 2) := dk_188_10 (dk_at dksX6_init_2 21 rfl rfl)
theorem dX6_init_68 : decode cX6_init 68 = .ok (.putfield 31, 3) := dk_181 0 31 (dk_at dksX6_init_3 0 rfl rfl)
theorem dX6_init_71 : decode cX6_init 71 = .ok (.aload_n 0, 1) := dk_42 (dk_at dksX6_init_3 3 rfl rfl)
theorem dX6_init_72 : decode cX6_init 72 = .ok (.iconst 4, 1) := dk_7 (dk_at dksX6_init_3 4 rfl rfl)
theorem dX6_init_73 : decode cX6_init 73 = .ok (.newarray .int, 2) := dk_188_10 (dk_at dksX6_init_3 5 rfl rfl)
theorem dX6_init_75 : decode cX6_init 75 = .ok (.putfield 34, 3) := dk_181 0 34 (dk_at dksX6_init_3 7 rfl rfl)
theorem dX6_init_78 : decode cX6_init 78 = .ok (.aload_n 0, 1) := dk_42 (dk_at dksX6_init_3 10 rfl rfl)
theorem dX6_init_79 : decode cX6_init 79 = .ok (.sipush 160, 3) := dk_17 0 160 (dk_at dksX6_init_3 11 rfl rfl)
theorem dX6_init_82 : decode cX6_init 82 = .ok (.newarray .int, 2) := dk_188_10 (dk_at dksX6_init_3 14 rfl rfl)
theorem dX6_init_84 : decode cX6_init 84 = .ok (.putfield 37, 3) := dk_181 0 37 (dk_at dksX6_init_3 16 rfl rfl)
theorem dX6_init_87 : decode cX6_init 87 = .ok (.aload_n 0, 1) := dk_42 (dk_at dksX6_init_3 19 rfl rfl)
theorem dX6_init_88 : decode cX6_init 88 = .ok (.bipush 40, 2) := dk_16 40 (dk_at dksX6_init_3 20 rfl rfl)
theorem dX6_init_90 : decode cX6_init 90 = .ok (.newarray .int, 2) := dk_188_10 (dk_at dksX6_init_3 22 rfl rfl)
theorem dX6_init_92 : decode cX6_init 92 = .ok (.putfield 40, 3) := dk_181 0 40 (dk_at dksX6_init_4 0 rfl rfl)
theorem dX6_init_95 : decode cX6_init 95 = .ok (.iconst 0, 1) := dk_3 (dk_at dksX6_init_4 3 rfl rfl)
theorem dX6_init_96 : decode cX6_init 96 = .ok (.istore_n 1, 1) := dk_60 (dk_at dksX6_init_4 4 rfl rfl)
theorem dX6_init_97 : decode cX6_init 97 = .ok (.iload_n 1, 1) := dk_27 (dk_at dksX6_init_4 5 rfl rfl)
theorem dX6_init_98 : decode cX6_init 98 = .ok (.bipush 8, 2) := dk_16 8 (dk_at dksX6_init_4 6 rfl rfl)
theorem dX6_init_100 : decode cX6_init 100 = .ok (.if_icmp .ge 19, 3) := dk_162 0 19 (dk_at dksX6_init_4 8 rfl rfl)
theorem dX6_init_103 : decode cX6_init 103 = .ok (.aload_n 0, 1) := dk_42 (dk_at dksX6_init_4 11 rfl rfl)
theorem dX6_init_104 : decode cX6_init 104 = .ok (.getfield 7, 3) := dk_180 0 7 (dk_at dksX6_init_4 12 rfl rfl)
theorem dX6_init_107 : decode cX6_init 107 = .ok (.iconst 0, 1) := dk_3 (dk_at dksX6_init_4 15 rfl rfl)
theorem dX6_init_108 : decode cX6_init 108 = .ok (.iload_n 1, 1) := dk_27 (dk_at dksX6_init_4 16 rfl rfl)
theorem dX6_init_109 : decode cX6_init 109 = .ok (.iadd, 1) := dk_96 (dk_at dksX6_init_4 17 rfl rfl)
theorem dX6_init_110 : decode cX6_init 110 = .ok (.bipush 9, 2) := dk_16 9 (dk_at dksX6_init_4 18 rfl rfl)
theorem dX6_init_112 : decode cX6_init 112 = .ok (.iastore, 1) := dk_79 (dk_at dksX6_init_4 20 rfl rfl)
theorem dX6_init_113 : decode cX6_init 113 = .ok (.iinc 1 1, 3) := dk_132 1 1 (dk_at dksX6_init_4 21 rfl rfl)
theorem dX6_init_116 : decode cX6_init 116 = .ok (.goto (-19), 3) := dk_167 255 237 (dk_at dksX6_init_5 0 rfl rfl)
theorem dX6_init_119 : decode cX6_init 119 = .ok (.aload_n 0, 1) := dk_42 (dk_at dksX6_init_5 3 rfl rfl)
theorem dX6_init_120 : decode cX6_init 120 = .ok (.getfield 7, 3) := dk_180 0 7 (dk_at dksX6_init_5 4 rfl rfl)
theorem dX6_init_123 : decode cX6_init 123 = .ok (.sipush 136, 3) := dk_17 0 136 (dk_at dksX6_init_5 7 rfl rfl)
theorem dX6_init_126 : decode cX6_init 126 = .ok (.iconst 1, 1) := dk_4 (dk_at dksX6_init_5 10 rfl rfl)
theorem dX6_init_127 : decode cX6_init 127 = .ok (.iastore, 1) := dk_79 (dk_at dksX6_init_5 11 rfl rfl)
theorem dX6_init_128 : decode cX6_init 128 = .ok (.aload_n 0, 1) := dk_42 (dk_at dksX6_init_5 12 rfl rfl)
theorem dX6_init_129 : decode cX6_init 129 = .ok (.getfield 7, 3) := dk_180 0 7 (dk_at dksX6_init_5 13 rfl rfl)
theorem dX6_init_132 : decode cX6_init 132 = .ok (.sipush 176, 3) := dk_17 0 176 (dk_at dksX6_init_5 16 rfl rfl)
theorem dX6_init_135 : decode cX6_init 135 = .ok (.iconst 1, 1) := dk_4 (dk_at dksX6_init_5 19 rfl rfl)
theorem dX6_init_136 : decode cX6_init 136 = .ok (.iastore, 1) := dk_79 (dk_at dksX6_init_5 20 rfl rfl)
theorem dX6_init_137 : decode cX6_init 137 = .ok (.aload_n 0, 1) := dk_42 (dk_at dksX6_init_5 21 rfl rfl)
theorem dX6_init_138 : decode cX6_init 138 = .ok (.getfield 7, 3) := dk_180 0 7 (dk_at dksX6_init_6 0 rfl rfl)
theorem dX6_init_141 : decode cX6_init 141 = .ok (.sipush 179, 3) := dk_17 0 179 (dk_at dksX6_init_6 3 rfl rfl)
theorem dX6_init_144 : decode cX6_init 144 = .ok (.iconst (-1), 1) := dk_2 (dk_at dksX6_init_6 6 rfl rfl)
theorem dX6_init_145 : decode cX6_init 145 = .ok (.iastore, 1) := dk_79 (dk_at dksX6_init_6 7 rfl rfl)
theorem dX6_init_146 : decode cX6_init 146 = .ok (.aload_n 0, 1) := dk_42 (dk_at dksX6_init_6 8 rfl rfl)
theorem dX6_init_147 : decode cX6_init 147 = .ok (.getfield 7, 3) := dk_180 0 7 (dk_at dksX6_init_6 9 rfl rfl)
theorem dX6_init_150 : decode cX6_init 150 = .ok (.sipush 180, 3) := dk_17 0 180 (dk_at dksX6_init_6 12 rfl rfl)
theorem dX6_init_153 : decode cX6_init 153 = .ok (.iconst (-1), 1) := dk_2 (dk_at dksX6_init_6 15 rfl rfl)
theorem dX6_init_154 : decode cX6_init 154 = .ok (.iastore, 1) := dk_79 (dk_at dksX6_init_6 16 rfl rfl)
theorem dX6_init_155 : decode cX6_init 155 = .ok (.return_, 1) := dk_177 (dk_at dksX6_init_6 17 rfl rfl)
abbrev cX6_water : ByteArray := prog_30_method_15_code
def yX6_water : MethodName := ⟨RX6, "water", "(II)I"⟩
def dkwX6_water_1 : List UInt8 := [182, 0, 64, 167, 0, 9, 42, 18, 67, 182, 0, 68, 172]
abbrev dktX6_water_1 : List UInt8 := dkwX6_water_1 ++ []
def dkwX6_water_0 : List UInt8 := [27, 184, 0, 58, 153, 0, 26, 28, 133, 9, 20, 0, 62, 184, 0, 46, 153, 0, 14, 42, 3, 27, 96, 28]
abbrev dktX6_water_0 : List UInt8 := dkwX6_water_0 ++ dktX6_water_1
theorem dksX6_water_0 : cX6_water.data.toList.drop 0 = dktX6_water_0 := by decide +kernel
theorem dksX6_water_1 : cX6_water.data.toList.drop 24 = dktX6_water_1 := dk_seg dksX6_water_0 24 rfl rfl
theorem dX6_water_0 : decode cX6_water 0 = .ok (.iload_n 1, 1) := dk_27 (dk_at dksX6_water_0 0 rfl rfl)
theorem dX6_water_1 : decode cX6_water 1 = .ok (.invokestatic 58, 3) := dk_184 0 58 (dk_at dksX6_water_0 1 rfl rfl)
theorem dX6_water_4 : decode cX6_water 4 = .ok (.ifCond .eq 26, 3) := dk_153 0 26 (dk_at dksX6_water_0 4 rfl rfl)
theorem dX6_water_7 : decode cX6_water 7 = .ok (.iload_n 2, 1) := dk_28 (dk_at dksX6_water_0 7 rfl rfl)
theorem dX6_water_8 : decode cX6_water 8 = .ok (.i2l, 1) := dk_133 (dk_at dksX6_water_0 8 rfl rfl)
theorem dX6_water_9 : decode cX6_water 9 = .ok (.lconst 0, 1) := dk_9 (dk_at dksX6_water_0 9 rfl rfl)
theorem dX6_water_10 : decode cX6_water 10 = .ok (.ldc2_w 62, 3) := dk_20 0 62 (dk_at dksX6_water_0 10 rfl rfl)
theorem dX6_water_13 : decode cX6_water 13 = .ok (.invokestatic 46, 3) := dk_184 0 46 (dk_at dksX6_water_0 13 rfl rfl)
theorem dX6_water_16 : decode cX6_water 16 = .ok (.ifCond .eq 14, 3) := dk_153 0 14 (dk_at dksX6_water_0 16 rfl rfl)
theorem dX6_water_19 : decode cX6_water 19 = .ok (.aload_n 0, 1) := dk_42 (dk_at dksX6_water_0 19 rfl rfl)
theorem dX6_water_20 : decode cX6_water 20 = .ok (.iconst 0, 1) := dk_3 (dk_at dksX6_water_0 20 rfl rfl)
theorem dX6_water_21 : decode cX6_water 21 = .ok (.iload_n 1, 1) := dk_27 (dk_at dksX6_water_0 21 rfl rfl)
theorem dX6_water_22 : decode cX6_water 22 = .ok (.iadd, 1) := dk_96 (dk_at dksX6_water_0 22 rfl rfl)
theorem dX6_water_23 : decode cX6_water 23 = .ok (.iload_n 2, 1) := dk_28 (dk_at dksX6_water_0 23 rfl rfl)
theorem dX6_water_24 : decode cX6_water 24 = .ok (.invokevirtual 64, 3) := dk_182 0 64 (dk_at dksX6_water_1 0 rfl rfl)
theorem dX6_water_27 : decode cX6_water 27 = .ok (.goto 9, 3) := dk_167 0 9 (dk_at dksX6_water_1 3 rfl rfl)
theorem dX6_water_30 : decode cX6_water 30 = .ok (.aload_n 0, 1) := dk_42 (dk_at dksX6_water_1 6 rfl rfl)
theorem dX6_water_31 : decode cX6_water 31 = .ok (.ldc 67, 2) := dk_18 67 (dk_at dksX6_water_1 7 rfl rfl)
theorem dX6_water_33 : decode cX6_water 33 = .ok (.invokevirtual 68, 3) := dk_182 0 68 (dk_at dksX6_water_1 9 rfl rfl)
theorem dX6_water_36 : decode cX6_water 36 = .ok (.ireturn, 1) := dk_172 (dk_at dksX6_water_1 12 rfl rfl)
abbrev cX6_isWell : ByteArray := prog_30_method_7_code
def yX6_isWell : MethodName := ⟨RX6, "isWell", "(I)Z"⟩
def dkwX6_isWell_0 : List UInt8 := [26, 133, 9, 20, 0, 44, 184, 0, 46, 172]
abbrev dktX6_isWell_0 : List UInt8 := dkwX6_isWell_0 ++ []
theorem dksX6_isWell_0 : cX6_isWell.data.toList.drop 0 = dktX6_isWell_0 := by decide +kernel
theorem dX6_isWell_0 : decode cX6_isWell 0 = .ok (.iload_n 0, 1) := dk_26 (dk_at dksX6_isWell_0 0 rfl rfl)
theorem dX6_isWell_1 : decode cX6_isWell 1 = .ok (.i2l, 1) := dk_133 (dk_at dksX6_isWell_0 1 rfl rfl)
theorem dX6_isWell_2 : decode cX6_isWell 2 = .ok (.lconst 0, 1) := dk_9 (dk_at dksX6_isWell_0 2 rfl rfl)
theorem dX6_isWell_3 : decode cX6_isWell 3 = .ok (.ldc2_w 44, 3) := dk_20 0 44 (dk_at dksX6_isWell_0 3 rfl rfl)
theorem dX6_isWell_6 : decode cX6_isWell 6 = .ok (.invokestatic 46, 3) := dk_184 0 46 (dk_at dksX6_isWell_0 6 rfl rfl)
theorem dX6_isWell_9 : decode cX6_isWell 9 = .ok (.ireturn, 1) := dk_172 (dk_at dksX6_isWell_0 9 rfl rfl)
abbrev cX6_in : ByteArray := prog_30_method_2_code
def yX6_in : MethodName := ⟨RX6, "in", "(JJJ)Z"⟩
def dkwX6_in_0 : List UInt8 := [30, 32, 148, 155, 0, 14, 30, 22, 4, 148, 157, 0, 7, 4, 167, 0, 4, 3, 172]
abbrev dktX6_in_0 : List UInt8 := dkwX6_in_0 ++ []
theorem dksX6_in_0 : cX6_in.data.toList.drop 0 = dktX6_in_0 := by decide +kernel
theorem dX6_in_0 : decode cX6_in 0 = .ok (.lload_n 0, 1) := dk_30 (dk_at dksX6_in_0 0 rfl rfl)
theorem dX6_in_1 : decode cX6_in 1 = .ok (.lload_n 2, 1) := dk_32 (dk_at dksX6_in_0 1 rfl rfl)
theorem dX6_in_2 : decode cX6_in 2 = .ok (.lcmp, 1) := dk_148 (dk_at dksX6_in_0 2 rfl rfl)
theorem dX6_in_3 : decode cX6_in 3 = .ok (.ifCond .lt 14, 3) := dk_155 0 14 (dk_at dksX6_in_0 3 rfl rfl)
theorem dX6_in_6 : decode cX6_in 6 = .ok (.lload_n 0, 1) := dk_30 (dk_at dksX6_in_0 6 rfl rfl)
theorem dX6_in_7 : decode cX6_in 7 = .ok (.lload 4, 2) := dk_22 4 (dk_at dksX6_in_0 7 rfl rfl)
theorem dX6_in_9 : decode cX6_in 9 = .ok (.lcmp, 1) := dk_148 (dk_at dksX6_in_0 9 rfl rfl)
theorem dX6_in_10 : decode cX6_in 10 = .ok (.ifCond .gt 7, 3) := dk_157 0 7 (dk_at dksX6_in_0 10 rfl rfl)
theorem dX6_in_13 : decode cX6_in 13 = .ok (.iconst 1, 1) := dk_4 (dk_at dksX6_in_0 13 rfl rfl)
theorem dX6_in_14 : decode cX6_in 14 = .ok (.goto 4, 3) := dk_167 0 4 (dk_at dksX6_in_0 14 rfl rfl)
theorem dX6_in_17 : decode cX6_in 17 = .ok (.iconst 0, 1) := dk_3 (dk_at dksX6_in_0 17 rfl rfl)
theorem dX6_in_18 : decode cX6_in 18 = .ok (.ireturn, 1) := dk_172 (dk_at dksX6_in_0 18 rfl rfl)
abbrev cX6_becomes : ByteArray := prog_30_method_13_code
def yX6_becomes : MethodName := ⟨RX6, "becomes", "(II)I"⟩
def dkwX6_becomes_0 : List UInt8 := [42, 180, 0, 7, 27, 46, 62, 42, 180, 0, 7, 27, 28, 79, 29, 172]
abbrev dktX6_becomes_0 : List UInt8 := dkwX6_becomes_0 ++ []
theorem dksX6_becomes_0 : cX6_becomes.data.toList.drop 0 = dktX6_becomes_0 := by decide +kernel
theorem dX6_becomes_0 : decode cX6_becomes 0 = .ok (.aload_n 0, 1) := dk_42 (dk_at dksX6_becomes_0 0 rfl rfl)
theorem dX6_becomes_1 : decode cX6_becomes 1 = .ok (.getfield 7, 3) := dk_180 0 7 (dk_at dksX6_becomes_0 1 rfl rfl)
theorem dX6_becomes_4 : decode cX6_becomes 4 = .ok (.iload_n 1, 1) := dk_27 (dk_at dksX6_becomes_0 4 rfl rfl)
theorem dX6_becomes_5 : decode cX6_becomes 5 = .ok (.iaload, 1) := dk_46 (dk_at dksX6_becomes_0 5 rfl rfl)
theorem dX6_becomes_6 : decode cX6_becomes 6 = .ok (.istore_n 3, 1) := dk_62 (dk_at dksX6_becomes_0 6 rfl rfl)
theorem dX6_becomes_7 : decode cX6_becomes 7 = .ok (.aload_n 0, 1) := dk_42 (dk_at dksX6_becomes_0 7 rfl rfl)
theorem dX6_becomes_8 : decode cX6_becomes 8 = .ok (.getfield 7, 3) := dk_180 0 7 (dk_at dksX6_becomes_0 8 rfl rfl)
theorem dX6_becomes_11 : decode cX6_becomes 11 = .ok (.iload_n 1, 1) := dk_27 (dk_at dksX6_becomes_0 11 rfl rfl)
theorem dX6_becomes_12 : decode cX6_becomes 12 = .ok (.iload_n 2, 1) := dk_28 (dk_at dksX6_becomes_0 12 rfl rfl)
theorem dX6_becomes_13 : decode cX6_becomes 13 = .ok (.iastore, 1) := dk_79 (dk_at dksX6_becomes_0 13 rfl rfl)
theorem dX6_becomes_14 : decode cX6_becomes 14 = .ok (.iload_n 3, 1) := dk_29 (dk_at dksX6_becomes_0 14 rfl rfl)
theorem dX6_becomes_15 : decode cX6_becomes 15 = .ok (.ireturn, 1) := dk_172 (dk_at dksX6_becomes_0 15 rfl rfl)
abbrev cX6_errs : ByteArray := prog_30_method_3_code
def yX6_errs : MethodName := ⟨RX6, "errs", "(I)I"⟩
def dkwX6_errs_0 : List UInt8 := [42, 180, 0, 19, 18, 43, 27, 100, 92, 46, 4, 96, 79, 27, 172]
abbrev dktX6_errs_0 : List UInt8 := dkwX6_errs_0 ++ []
theorem dksX6_errs_0 : cX6_errs.data.toList.drop 0 = dktX6_errs_0 := by decide +kernel
theorem dX6_errs_0 : decode cX6_errs 0 = .ok (.aload_n 0, 1) := dk_42 (dk_at dksX6_errs_0 0 rfl rfl)
theorem dX6_errs_1 : decode cX6_errs 1 = .ok (.getfield 19, 3) := dk_180 0 19 (dk_at dksX6_errs_0 1 rfl rfl)
theorem dX6_errs_4 : decode cX6_errs 4 = .ok (.ldc 43, 2) := dk_18 43 (dk_at dksX6_errs_0 4 rfl rfl)
theorem dX6_errs_6 : decode cX6_errs 6 = .ok (.iload_n 1, 1) := dk_27 (dk_at dksX6_errs_0 6 rfl rfl)
theorem dX6_errs_7 : decode cX6_errs 7 = .ok (.isub, 1) := dk_100 (dk_at dksX6_errs_0 7 rfl rfl)
theorem dX6_errs_8 : decode cX6_errs 8 = .ok (.dup2, 1) := dk_92 (dk_at dksX6_errs_0 8 rfl rfl)
theorem dX6_errs_9 : decode cX6_errs 9 = .ok (.iaload, 1) := dk_46 (dk_at dksX6_errs_0 9 rfl rfl)
theorem dX6_errs_10 : decode cX6_errs 10 = .ok (.iconst 1, 1) := dk_4 (dk_at dksX6_errs_0 10 rfl rfl)
theorem dX6_errs_11 : decode cX6_errs 11 = .ok (.iadd, 1) := dk_96 (dk_at dksX6_errs_0 11 rfl rfl)
theorem dX6_errs_12 : decode cX6_errs 12 = .ok (.iastore, 1) := dk_79 (dk_at dksX6_errs_0 12 rfl rfl)
theorem dX6_errs_13 : decode cX6_errs 13 = .ok (.iload_n 1, 1) := dk_27 (dk_at dksX6_errs_0 13 rfl rfl)
theorem dX6_errs_14 : decode cX6_errs 14 = .ok (.ireturn, 1) := dk_172 (dk_at dksX6_errs_0 14 rfl rfl)
abbrev cX6_road : ByteArray := prog_30_method_16_code
def yX6_road : MethodName := ⟨RX6, "road", "(III)I"⟩
def dkwX6_road_2 : List UInt8 := [28, 104, 96, 27, 96, 29, 79, 42, 16, 8, 16, 8, 27, 104, 96, 28, 96, 29, 182, 0, 64, 172]
abbrev dktX6_road_2 : List UInt8 := dkwX6_road_2 ++ []
def dkwX6_road_1 : List UInt8 := [20, 0, 72, 184, 0, 46, 154, 0, 10, 42, 18, 67, 182, 0, 68, 172, 42, 180, 0, 7, 16, 8, 16, 8]
abbrev dktX6_road_1 : List UInt8 := dkwX6_road_1 ++ dktX6_road_2
def dkwX6_road_0 : List UInt8 := [27, 184, 0, 58, 153, 0, 27, 28, 184, 0, 58, 153, 0, 20, 27, 28, 159, 0, 15, 29, 133, 9]
abbrev dktX6_road_0 : List UInt8 := dkwX6_road_0 ++ dktX6_road_1
theorem dksX6_road_0 : cX6_road.data.toList.drop 0 = dktX6_road_0 := by decide +kernel
theorem dksX6_road_1 : cX6_road.data.toList.drop 22 = dktX6_road_1 := dk_seg dksX6_road_0 22 rfl rfl
theorem dksX6_road_2 : cX6_road.data.toList.drop 46 = dktX6_road_2 := dk_seg dksX6_road_1 24 rfl rfl
theorem dX6_road_0 : decode cX6_road 0 = .ok (.iload_n 1, 1) := dk_27 (dk_at dksX6_road_0 0 rfl rfl)
theorem dX6_road_1 : decode cX6_road 1 = .ok (.invokestatic 58, 3) := dk_184 0 58 (dk_at dksX6_road_0 1 rfl rfl)
theorem dX6_road_4 : decode cX6_road 4 = .ok (.ifCond .eq 27, 3) := dk_153 0 27 (dk_at dksX6_road_0 4 rfl rfl)
theorem dX6_road_7 : decode cX6_road 7 = .ok (.iload_n 2, 1) := dk_28 (dk_at dksX6_road_0 7 rfl rfl)
theorem dX6_road_8 : decode cX6_road 8 = .ok (.invokestatic 58, 3) := dk_184 0 58 (dk_at dksX6_road_0 8 rfl rfl)
theorem dX6_road_11 : decode cX6_road 11 = .ok (.ifCond .eq 20, 3) := dk_153 0 20 (dk_at dksX6_road_0 11 rfl rfl)
theorem dX6_road_14 : decode cX6_road 14 = .ok (.iload_n 1, 1) := dk_27 (dk_at dksX6_road_0 14 rfl rfl)
theorem dX6_road_15 : decode cX6_road 15 = .ok (.iload_n 2, 1) := dk_28 (dk_at dksX6_road_0 15 rfl rfl)
theorem dX6_road_16 : decode cX6_road 16 = .ok (.if_icmp .eq 15, 3) := dk_159 0 15 (dk_at dksX6_road_0 16 rfl rfl)
theorem dX6_road_19 : decode cX6_road 19 = .ok (.iload_n 3, 1) := dk_29 (dk_at dksX6_road_0 19 rfl rfl)
theorem dX6_road_20 : decode cX6_road 20 = .ok (.i2l, 1) := dk_133 (dk_at dksX6_road_0 20 rfl rfl)
theorem dX6_road_21 : decode cX6_road 21 = .ok (.lconst 0, 1) := dk_9 (dk_at dksX6_road_0 21 rfl rfl)
theorem dX6_road_22 : decode cX6_road 22 = .ok (.ldc2_w 72, 3) := dk_20 0 72 (dk_at dksX6_road_1 0 rfl rfl)
theorem dX6_road_25 : decode cX6_road 25 = .ok (.invokestatic 46, 3) := dk_184 0 46 (dk_at dksX6_road_1 3 rfl rfl)
theorem dX6_road_28 : decode cX6_road 28 = .ok (.ifCond .ne 10, 3) := dk_154 0 10 (dk_at dksX6_road_1 6 rfl rfl)
theorem dX6_road_31 : decode cX6_road 31 = .ok (.aload_n 0, 1) := dk_42 (dk_at dksX6_road_1 9 rfl rfl)
theorem dX6_road_32 : decode cX6_road 32 = .ok (.ldc 67, 2) := dk_18 67 (dk_at dksX6_road_1 10 rfl rfl)
theorem dX6_road_34 : decode cX6_road 34 = .ok (.invokevirtual 68, 3) := dk_182 0 68 (dk_at dksX6_road_1 12 rfl rfl)
theorem dX6_road_37 : decode cX6_road 37 = .ok (.ireturn, 1) := dk_172 (dk_at dksX6_road_1 15 rfl rfl)
theorem dX6_road_38 : decode cX6_road 38 = .ok (.aload_n 0, 1) := dk_42 (dk_at dksX6_road_1 16 rfl rfl)
theorem dX6_road_39 : decode cX6_road 39 = .ok (.getfield 7, 3) := dk_180 0 7 (dk_at dksX6_road_1 17 rfl rfl)
theorem dX6_road_42 : decode cX6_road 42 = .ok (.bipush 8, 2) := dk_16 8 (dk_at dksX6_road_1 20 rfl rfl)
theorem dX6_road_44 : decode cX6_road 44 = .ok (.bipush 8, 2) := dk_16 8 (dk_at dksX6_road_1 22 rfl rfl)
theorem dX6_road_46 : decode cX6_road 46 = .ok (.iload_n 2, 1) := dk_28 (dk_at dksX6_road_2 0 rfl rfl)
theorem dX6_road_47 : decode cX6_road 47 = .ok (.imul, 1) := dk_104 (dk_at dksX6_road_2 1 rfl rfl)
theorem dX6_road_48 : decode cX6_road 48 = .ok (.iadd, 1) := dk_96 (dk_at dksX6_road_2 2 rfl rfl)
theorem dX6_road_49 : decode cX6_road 49 = .ok (.iload_n 1, 1) := dk_27 (dk_at dksX6_road_2 3 rfl rfl)
theorem dX6_road_50 : decode cX6_road 50 = .ok (.iadd, 1) := dk_96 (dk_at dksX6_road_2 4 rfl rfl)
theorem dX6_road_51 : decode cX6_road 51 = .ok (.iload_n 3, 1) := dk_29 (dk_at dksX6_road_2 5 rfl rfl)
theorem dX6_road_52 : decode cX6_road 52 = .ok (.iastore, 1) := dk_79 (dk_at dksX6_road_2 6 rfl rfl)
theorem dX6_road_53 : decode cX6_road 53 = .ok (.aload_n 0, 1) := dk_42 (dk_at dksX6_road_2 7 rfl rfl)
theorem dX6_road_54 : decode cX6_road 54 = .ok (.bipush 8, 2) := dk_16 8 (dk_at dksX6_road_2 8 rfl rfl)
theorem dX6_road_56 : decode cX6_road 56 = .ok (.bipush 8, 2) := dk_16 8 (dk_at dksX6_road_2 10 rfl rfl)
theorem dX6_road_58 : decode cX6_road 58 = .ok (.iload_n 1, 1) := dk_27 (dk_at dksX6_road_2 12 rfl rfl)
theorem dX6_road_59 : decode cX6_road 59 = .ok (.imul, 1) := dk_104 (dk_at dksX6_road_2 13 rfl rfl)
theorem dX6_road_60 : decode cX6_road 60 = .ok (.iadd, 1) := dk_96 (dk_at dksX6_road_2 14 rfl rfl)
theorem dX6_road_61 : decode cX6_road 61 = .ok (.iload_n 2, 1) := dk_28 (dk_at dksX6_road_2 15 rfl rfl)
theorem dX6_road_62 : decode cX6_road 62 = .ok (.iadd, 1) := dk_96 (dk_at dksX6_road_2 16 rfl rfl)
theorem dX6_road_63 : decode cX6_road 63 = .ok (.iload_n 3, 1) := dk_29 (dk_at dksX6_road_2 17 rfl rfl)
theorem dX6_road_64 : decode cX6_road 64 = .ok (.invokevirtual 64, 3) := dk_182 0 64 (dk_at dksX6_road_2 18 rfl rfl)
theorem dX6_road_67 : decode cX6_road 67 = .ok (.ireturn, 1) := dk_172 (dk_at dksX6_road_2 21 rfl rfl)
abbrev cX6_owe : ByteArray := prog_30_method_17_code
def yX6_owe : MethodName := ⟨RX6, "owe", "(III)I"⟩
def dkwX6_owe_2 : List UInt8 := [167, 0, 9, 42, 18, 67, 182, 0, 68, 172]
abbrev dktX6_owe_2 : List UInt8 := dkwX6_owe_2 ++ []
def dkwX6_owe_1 : List UInt8 := [20, 0, 74, 184, 0, 46, 153, 0, 20, 42, 16, 72, 16, 8, 27, 104, 96, 28, 96, 29, 182, 0, 64]
abbrev dktX6_owe_1 : List UInt8 := dkwX6_owe_1 ++ dktX6_owe_2
def dkwX6_owe_0 : List UInt8 := [27, 184, 0, 58, 153, 0, 44, 28, 184, 0, 58, 153, 0, 37, 27, 28, 159, 0, 32, 29, 133, 9]
abbrev dktX6_owe_0 : List UInt8 := dkwX6_owe_0 ++ dktX6_owe_1
theorem dksX6_owe_0 : cX6_owe.data.toList.drop 0 = dktX6_owe_0 := by decide +kernel
theorem dksX6_owe_1 : cX6_owe.data.toList.drop 22 = dktX6_owe_1 := dk_seg dksX6_owe_0 22 rfl rfl
theorem dksX6_owe_2 : cX6_owe.data.toList.drop 45 = dktX6_owe_2 := dk_seg dksX6_owe_1 23 rfl rfl
theorem dX6_owe_0 : decode cX6_owe 0 = .ok (.iload_n 1, 1) := dk_27 (dk_at dksX6_owe_0 0 rfl rfl)
theorem dX6_owe_1 : decode cX6_owe 1 = .ok (.invokestatic 58, 3) := dk_184 0 58 (dk_at dksX6_owe_0 1 rfl rfl)
theorem dX6_owe_4 : decode cX6_owe 4 = .ok (.ifCond .eq 44, 3) := dk_153 0 44 (dk_at dksX6_owe_0 4 rfl rfl)
theorem dX6_owe_7 : decode cX6_owe 7 = .ok (.iload_n 2, 1) := dk_28 (dk_at dksX6_owe_0 7 rfl rfl)
theorem dX6_owe_8 : decode cX6_owe 8 = .ok (.invokestatic 58, 3) := dk_184 0 58 (dk_at dksX6_owe_0 8 rfl rfl)
theorem dX6_owe_11 : decode cX6_owe 11 = .ok (.ifCond .eq 37, 3) := dk_153 0 37 (dk_at dksX6_owe_0 11 rfl rfl)
theorem dX6_owe_14 : decode cX6_owe 14 = .ok (.iload_n 1, 1) := dk_27 (dk_at dksX6_owe_0 14 rfl rfl)
theorem dX6_owe_15 : decode cX6_owe 15 = .ok (.iload_n 2, 1) := dk_28 (dk_at dksX6_owe_0 15 rfl rfl)
theorem dX6_owe_16 : decode cX6_owe 16 = .ok (.if_icmp .eq 32, 3) := dk_159 0 32 (dk_at dksX6_owe_0 16 rfl rfl)
theorem dX6_owe_19 : decode cX6_owe 19 = .ok (.iload_n 3, 1) := dk_29 (dk_at dksX6_owe_0 19 rfl rfl)
theorem dX6_owe_20 : decode cX6_owe 20 = .ok (.i2l, 1) := dk_133 (dk_at dksX6_owe_0 20 rfl rfl)
theorem dX6_owe_21 : decode cX6_owe 21 = .ok (.lconst 0, 1) := dk_9 (dk_at dksX6_owe_0 21 rfl rfl)
theorem dX6_owe_22 : decode cX6_owe 22 = .ok (.ldc2_w 74, 3) := dk_20 0 74 (dk_at dksX6_owe_1 0 rfl rfl)
theorem dX6_owe_25 : decode cX6_owe 25 = .ok (.invokestatic 46, 3) := dk_184 0 46 (dk_at dksX6_owe_1 3 rfl rfl)
theorem dX6_owe_28 : decode cX6_owe 28 = .ok (.ifCond .eq 20, 3) := dk_153 0 20 (dk_at dksX6_owe_1 6 rfl rfl)
theorem dX6_owe_31 : decode cX6_owe 31 = .ok (.aload_n 0, 1) := dk_42 (dk_at dksX6_owe_1 9 rfl rfl)
theorem dX6_owe_32 : decode cX6_owe 32 = .ok (.bipush 72, 2) := dk_16 72 (dk_at dksX6_owe_1 10 rfl rfl)
theorem dX6_owe_34 : decode cX6_owe 34 = .ok (.bipush 8, 2) := dk_16 8 (dk_at dksX6_owe_1 12 rfl rfl)
theorem dX6_owe_36 : decode cX6_owe 36 = .ok (.iload_n 1, 1) := dk_27 (dk_at dksX6_owe_1 14 rfl rfl)
theorem dX6_owe_37 : decode cX6_owe 37 = .ok (.imul, 1) := dk_104 (dk_at dksX6_owe_1 15 rfl rfl)
theorem dX6_owe_38 : decode cX6_owe 38 = .ok (.iadd, 1) := dk_96 (dk_at dksX6_owe_1 16 rfl rfl)
theorem dX6_owe_39 : decode cX6_owe 39 = .ok (.iload_n 2, 1) := dk_28 (dk_at dksX6_owe_1 17 rfl rfl)
theorem dX6_owe_40 : decode cX6_owe 40 = .ok (.iadd, 1) := dk_96 (dk_at dksX6_owe_1 18 rfl rfl)
theorem dX6_owe_41 : decode cX6_owe 41 = .ok (.iload_n 3, 1) := dk_29 (dk_at dksX6_owe_1 19 rfl rfl)
theorem dX6_owe_42 : decode cX6_owe 42 = .ok (.invokevirtual 64, 3) := dk_182 0 64 (dk_at dksX6_owe_1 20 rfl rfl)
theorem dX6_owe_45 : decode cX6_owe 45 = .ok (.goto 9, 3) := dk_167 0 9 (dk_at dksX6_owe_2 0 rfl rfl)
theorem dX6_owe_48 : decode cX6_owe 48 = .ok (.aload_n 0, 1) := dk_42 (dk_at dksX6_owe_2 3 rfl rfl)
theorem dX6_owe_49 : decode cX6_owe 49 = .ok (.ldc 67, 2) := dk_18 67 (dk_at dksX6_owe_2 4 rfl rfl)
theorem dX6_owe_51 : decode cX6_owe 51 = .ok (.invokevirtual 68, 3) := dk_182 0 68 (dk_at dksX6_owe_2 6 rfl rfl)
theorem dX6_owe_54 : decode cX6_owe 54 = .ok (.ireturn, 1) := dk_172 (dk_at dksX6_owe_2 9 rfl rfl)
abbrev cX6_ofWell : ByteArray := prog_30_method_21_code
def yX6_ofWell : MethodName := ⟨RX6, "ofWell", "(II)I"⟩
def dkwX6_ofWell_4 : List UInt8 := [27, 182, 0, 87, 172, 42, 27, 182, 0, 90, 172]
abbrev dktX6_ofWell_4 : List UInt8 := dkwX6_ofWell_4 ++ []
def dkwX6_ofWell_3 : List UInt8 := [42, 180, 0, 7, 3, 27, 96, 46, 172, 42, 27, 182, 0, 84, 172, 42, 6, 27, 182, 0, 87, 172, 42, 5]
abbrev dktX6_ofWell_3 : List UInt8 := dkwX6_ofWell_3 ++ dktX6_ofWell_4
def dkwX6_ofWell_2 : List UInt8 := [170, 0, 0, 0, 58, 0, 0, 0, 0, 0, 0, 0, 3, 0, 0, 0, 29, 0, 0, 0, 38, 0, 0, 0, 44, 0, 0, 0, 51]
abbrev dktX6_ofWell_2 : List UInt8 := dkwX6_ofWell_2 ++ dktX6_ofWell_3
def dkwX6_ofWell_1 : List UInt8 := [182, 0, 68, 172, 28]
abbrev dktX6_ofWell_1 : List UInt8 := dkwX6_ofWell_1 ++ dktX6_ofWell_2
def dkwX6_ofWell_0 : List UInt8 := [27, 184, 0, 58, 153, 0, 15, 28, 133, 9, 20, 0, 82, 184, 0, 46, 154, 0, 10, 42, 18, 67]
abbrev dktX6_ofWell_0 : List UInt8 := dkwX6_ofWell_0 ++ dktX6_ofWell_1
theorem dksX6_ofWell_0 : cX6_ofWell.data.toList.drop 0 = dktX6_ofWell_0 := by decide +kernel
theorem dksX6_ofWell_1 : cX6_ofWell.data.toList.drop 22 = dktX6_ofWell_1 := dk_seg dksX6_ofWell_0 22 rfl rfl
theorem dksX6_ofWell_2 : cX6_ofWell.data.toList.drop 27 = dktX6_ofWell_2 := dk_seg dksX6_ofWell_1 5 rfl rfl
theorem dksX6_ofWell_3 : cX6_ofWell.data.toList.drop 56 = dktX6_ofWell_3 := dk_seg dksX6_ofWell_2 29 rfl rfl
theorem dksX6_ofWell_4 : cX6_ofWell.data.toList.drop 80 = dktX6_ofWell_4 := dk_seg dksX6_ofWell_3 24 rfl rfl
theorem dX6_ofWell_0 : decode cX6_ofWell 0 = .ok (.iload_n 1, 1) := dk_27 (dk_at dksX6_ofWell_0 0 rfl rfl)
theorem dX6_ofWell_1 : decode cX6_ofWell 1 = .ok (.invokestatic 58, 3) := dk_184 0 58 (dk_at dksX6_ofWell_0 1 rfl rfl)
theorem dX6_ofWell_4 : decode cX6_ofWell 4 = .ok (.ifCond .eq 15, 3) := dk_153 0 15 (dk_at dksX6_ofWell_0 4 rfl rfl)
theorem dX6_ofWell_7 : decode cX6_ofWell 7 = .ok (.iload_n 2, 1) := dk_28 (dk_at dksX6_ofWell_0 7 rfl rfl)
theorem dX6_ofWell_8 : decode cX6_ofWell 8 = .ok (.i2l, 1) := dk_133 (dk_at dksX6_ofWell_0 8 rfl rfl)
theorem dX6_ofWell_9 : decode cX6_ofWell 9 = .ok (.lconst 0, 1) := dk_9 (dk_at dksX6_ofWell_0 9 rfl rfl)
theorem dX6_ofWell_10 : decode cX6_ofWell 10 = .ok (.ldc2_w 82, 3) := dk_20 0 82 (dk_at dksX6_ofWell_0 10 rfl rfl)
theorem dX6_ofWell_13 : decode cX6_ofWell 13 = .ok (.invokestatic 46, 3) := dk_184 0 46 (dk_at dksX6_ofWell_0 13 rfl rfl)
theorem dX6_ofWell_16 : decode cX6_ofWell 16 = .ok (.ifCond .ne 10, 3) := dk_154 0 10 (dk_at dksX6_ofWell_0 16 rfl rfl)
theorem dX6_ofWell_19 : decode cX6_ofWell 19 = .ok (.aload_n 0, 1) := dk_42 (dk_at dksX6_ofWell_0 19 rfl rfl)
theorem dX6_ofWell_20 : decode cX6_ofWell 20 = .ok (.ldc 67, 2) := dk_18 67 (dk_at dksX6_ofWell_0 20 rfl rfl)
theorem dX6_ofWell_22 : decode cX6_ofWell 22 = .ok (.invokevirtual 68, 3) := dk_182 0 68 (dk_at dksX6_ofWell_1 0 rfl rfl)
theorem dX6_ofWell_25 : decode cX6_ofWell 25 = .ok (.ireturn, 1) := dk_172 (dk_at dksX6_ofWell_1 3 rfl rfl)
theorem dX6_ofWell_26 : decode cX6_ofWell 26 = .ok (.iload_n 2, 1) := dk_28 (dk_at dksX6_ofWell_1 4 rfl rfl)
theorem dX6_ofWell_27 : decode cX6_ofWell 27 = .ok (.tableswitch 58 0 3 #[29, 38, 44, 51], 29) := by decide +kernel
theorem dX6_ofWell_56 : decode cX6_ofWell 56 = .ok (.aload_n 0, 1) := dk_42 (dk_at dksX6_ofWell_3 0 rfl rfl)
theorem dX6_ofWell_57 : decode cX6_ofWell 57 = .ok (.getfield 7, 3) := dk_180 0 7 (dk_at dksX6_ofWell_3 1 rfl rfl)
theorem dX6_ofWell_60 : decode cX6_ofWell 60 = .ok (.iconst 0, 1) := dk_3 (dk_at dksX6_ofWell_3 4 rfl rfl)
theorem dX6_ofWell_61 : decode cX6_ofWell 61 = .ok (.iload_n 1, 1) := dk_27 (dk_at dksX6_ofWell_3 5 rfl rfl)
theorem dX6_ofWell_62 : decode cX6_ofWell 62 = .ok (.iadd, 1) := dk_96 (dk_at dksX6_ofWell_3 6 rfl rfl)
theorem dX6_ofWell_63 : decode cX6_ofWell 63 = .ok (.iaload, 1) := dk_46 (dk_at dksX6_ofWell_3 7 rfl rfl)
theorem dX6_ofWell_64 : decode cX6_ofWell 64 = .ok (.ireturn, 1) := dk_172 (dk_at dksX6_ofWell_3 8 rfl rfl)
theorem dX6_ofWell_65 : decode cX6_ofWell 65 = .ok (.aload_n 0, 1) := dk_42 (dk_at dksX6_ofWell_3 9 rfl rfl)
theorem dX6_ofWell_66 : decode cX6_ofWell 66 = .ok (.iload_n 1, 1) := dk_27 (dk_at dksX6_ofWell_3 10 rfl rfl)
theorem dX6_ofWell_67 : decode cX6_ofWell 67 = .ok (.invokevirtual 84, 3) := dk_182 0 84 (dk_at dksX6_ofWell_3 11 rfl rfl)
theorem dX6_ofWell_70 : decode cX6_ofWell 70 = .ok (.ireturn, 1) := dk_172 (dk_at dksX6_ofWell_3 14 rfl rfl)
theorem dX6_ofWell_71 : decode cX6_ofWell 71 = .ok (.aload_n 0, 1) := dk_42 (dk_at dksX6_ofWell_3 15 rfl rfl)
theorem dX6_ofWell_72 : decode cX6_ofWell 72 = .ok (.iconst 3, 1) := dk_6 (dk_at dksX6_ofWell_3 16 rfl rfl)
theorem dX6_ofWell_73 : decode cX6_ofWell 73 = .ok (.iload_n 1, 1) := dk_27 (dk_at dksX6_ofWell_3 17 rfl rfl)
theorem dX6_ofWell_74 : decode cX6_ofWell 74 = .ok (.invokevirtual 87, 3) := dk_182 0 87 (dk_at dksX6_ofWell_3 18 rfl rfl)
theorem dX6_ofWell_77 : decode cX6_ofWell 77 = .ok (.ireturn, 1) := dk_172 (dk_at dksX6_ofWell_3 21 rfl rfl)
theorem dX6_ofWell_78 : decode cX6_ofWell 78 = .ok (.aload_n 0, 1) := dk_42 (dk_at dksX6_ofWell_3 22 rfl rfl)
theorem dX6_ofWell_79 : decode cX6_ofWell 79 = .ok (.iconst 2, 1) := dk_5 (dk_at dksX6_ofWell_3 23 rfl rfl)
theorem dX6_ofWell_80 : decode cX6_ofWell 80 = .ok (.iload_n 1, 1) := dk_27 (dk_at dksX6_ofWell_4 0 rfl rfl)
theorem dX6_ofWell_81 : decode cX6_ofWell 81 = .ok (.invokevirtual 87, 3) := dk_182 0 87 (dk_at dksX6_ofWell_4 1 rfl rfl)
theorem dX6_ofWell_84 : decode cX6_ofWell 84 = .ok (.ireturn, 1) := dk_172 (dk_at dksX6_ofWell_4 4 rfl rfl)
theorem dX6_ofWell_85 : decode cX6_ofWell 85 = .ok (.aload_n 0, 1) := dk_42 (dk_at dksX6_ofWell_4 5 rfl rfl)
theorem dX6_ofWell_86 : decode cX6_ofWell 86 = .ok (.iload_n 1, 1) := dk_27 (dk_at dksX6_ofWell_4 6 rfl rfl)
theorem dX6_ofWell_87 : decode cX6_ofWell 87 = .ok (.invokevirtual 90, 3) := dk_182 0 90 (dk_at dksX6_ofWell_4 7 rfl rfl)
theorem dX6_ofWell_90 : decode cX6_ofWell 90 = .ok (.ireturn, 1) := dk_172 (dk_at dksX6_ofWell_4 10 rfl rfl)
abbrev cX6_roadsOf : ByteArray := prog_30_method_19_code
def yX6_roadsOf : MethodName := ⟨RX6, "roadsOf", "(I)I"⟩
def dkwX6_roadsOf_1 : List UInt8 := [3, 96, 61, 132, 3, 1, 167, 255, 230, 28, 172]
abbrev dktX6_roadsOf_1 : List UInt8 := dkwX6_roadsOf_1 ++ []
def dkwX6_roadsOf_0 : List UInt8 := [3, 61, 3, 62, 29, 16, 8, 162, 0, 26, 28, 42, 27, 29, 182, 0, 76, 158, 0, 7, 4, 167, 0, 4]
abbrev dktX6_roadsOf_0 : List UInt8 := dkwX6_roadsOf_0 ++ dktX6_roadsOf_1
theorem dksX6_roadsOf_0 : cX6_roadsOf.data.toList.drop 0 = dktX6_roadsOf_0 := by decide +kernel
theorem dksX6_roadsOf_1 : cX6_roadsOf.data.toList.drop 24 = dktX6_roadsOf_1 := dk_seg dksX6_roadsOf_0 24 rfl rfl
theorem dX6_roadsOf_0 : decode cX6_roadsOf 0 = .ok (.iconst 0, 1) := dk_3 (dk_at dksX6_roadsOf_0 0 rfl rfl)
theorem dX6_roadsOf_1 : decode cX6_roadsOf 1 = .ok (.istore_n 2, 1) := dk_61 (dk_at dksX6_roadsOf_0 1 rfl rfl)
theorem dX6_roadsOf_2 : decode cX6_roadsOf 2 = .ok (.iconst 0, 1) := dk_3 (dk_at dksX6_roadsOf_0 2 rfl rfl)
theorem dX6_roadsOf_3 : decode cX6_roadsOf 3 = .ok (.istore_n 3, 1) := dk_62 (dk_at dksX6_roadsOf_0 3 rfl rfl)
theorem dX6_roadsOf_4 : decode cX6_roadsOf 4 = .ok (.iload_n 3, 1) := dk_29 (dk_at dksX6_roadsOf_0 4 rfl rfl)
theorem dX6_roadsOf_5 : decode cX6_roadsOf 5 = .ok (.bipush 8, 2) := dk_16 8 (dk_at dksX6_roadsOf_0 5 rfl rfl)
theorem dX6_roadsOf_7 : decode cX6_roadsOf 7 = .ok (.if_icmp .ge 26, 3) := dk_162 0 26 (dk_at dksX6_roadsOf_0 7 rfl rfl)
theorem dX6_roadsOf_10 : decode cX6_roadsOf 10 = .ok (.iload_n 2, 1) := dk_28 (dk_at dksX6_roadsOf_0 10 rfl rfl)
theorem dX6_roadsOf_11 : decode cX6_roadsOf 11 = .ok (.aload_n 0, 1) := dk_42 (dk_at dksX6_roadsOf_0 11 rfl rfl)
theorem dX6_roadsOf_12 : decode cX6_roadsOf 12 = .ok (.iload_n 1, 1) := dk_27 (dk_at dksX6_roadsOf_0 12 rfl rfl)
theorem dX6_roadsOf_13 : decode cX6_roadsOf 13 = .ok (.iload_n 3, 1) := dk_29 (dk_at dksX6_roadsOf_0 13 rfl rfl)
theorem dX6_roadsOf_14 : decode cX6_roadsOf 14 = .ok (.invokevirtual 76, 3) := dk_182 0 76 (dk_at dksX6_roadsOf_0 14 rfl rfl)
theorem dX6_roadsOf_17 : decode cX6_roadsOf 17 = .ok (.ifCond .le 7, 3) := dk_158 0 7 (dk_at dksX6_roadsOf_0 17 rfl rfl)
theorem dX6_roadsOf_20 : decode cX6_roadsOf 20 = .ok (.iconst 1, 1) := dk_4 (dk_at dksX6_roadsOf_0 20 rfl rfl)
theorem dX6_roadsOf_21 : decode cX6_roadsOf 21 = .ok (.goto 4, 3) := dk_167 0 4 (dk_at dksX6_roadsOf_0 21 rfl rfl)
theorem dX6_roadsOf_24 : decode cX6_roadsOf 24 = .ok (.iconst 0, 1) := dk_3 (dk_at dksX6_roadsOf_1 0 rfl rfl)
theorem dX6_roadsOf_25 : decode cX6_roadsOf 25 = .ok (.iadd, 1) := dk_96 (dk_at dksX6_roadsOf_1 1 rfl rfl)
theorem dX6_roadsOf_26 : decode cX6_roadsOf 26 = .ok (.istore_n 2, 1) := dk_61 (dk_at dksX6_roadsOf_1 2 rfl rfl)
theorem dX6_roadsOf_27 : decode cX6_roadsOf 27 = .ok (.iinc 3 1, 3) := dk_132 3 1 (dk_at dksX6_roadsOf_1 3 rfl rfl)
theorem dX6_roadsOf_30 : decode cX6_roadsOf 30 = .ok (.goto (-26), 3) := dk_167 255 230 (dk_at dksX6_roadsOf_1 6 rfl rfl)
theorem dX6_roadsOf_33 : decode cX6_roadsOf 33 = .ok (.iload_n 2, 1) := dk_28 (dk_at dksX6_roadsOf_1 9 rfl rfl)
theorem dX6_roadsOf_34 : decode cX6_roadsOf 34 = .ok (.ireturn, 1) := dk_172 (dk_at dksX6_roadsOf_1 10 rfl rfl)
abbrev cX6_roadOf : ByteArray := prog_30_method_14_code
def yX6_roadOf : MethodName := ⟨RX6, "roadOf", "(II)I"⟩
def dkwX6_roadOf_0 : List UInt8 := [42, 180, 0, 7, 16, 8, 16, 8, 27, 104, 96, 28, 96, 46, 172]
abbrev dktX6_roadOf_0 : List UInt8 := dkwX6_roadOf_0 ++ []
theorem dksX6_roadOf_0 : cX6_roadOf.data.toList.drop 0 = dktX6_roadOf_0 := by decide +kernel
theorem dX6_roadOf_0 : decode cX6_roadOf 0 = .ok (.aload_n 0, 1) := dk_42 (dk_at dksX6_roadOf_0 0 rfl rfl)
theorem dX6_roadOf_1 : decode cX6_roadOf 1 = .ok (.getfield 7, 3) := dk_180 0 7 (dk_at dksX6_roadOf_0 1 rfl rfl)
theorem dX6_roadOf_4 : decode cX6_roadOf 4 = .ok (.bipush 8, 2) := dk_16 8 (dk_at dksX6_roadOf_0 4 rfl rfl)
theorem dX6_roadOf_6 : decode cX6_roadOf 6 = .ok (.bipush 8, 2) := dk_16 8 (dk_at dksX6_roadOf_0 6 rfl rfl)
theorem dX6_roadOf_8 : decode cX6_roadOf 8 = .ok (.iload_n 1, 1) := dk_27 (dk_at dksX6_roadOf_0 8 rfl rfl)
theorem dX6_roadOf_9 : decode cX6_roadOf 9 = .ok (.imul, 1) := dk_104 (dk_at dksX6_roadOf_0 9 rfl rfl)
theorem dX6_roadOf_10 : decode cX6_roadOf 10 = .ok (.iadd, 1) := dk_96 (dk_at dksX6_roadOf_0 10 rfl rfl)
theorem dX6_roadOf_11 : decode cX6_roadOf 11 = .ok (.iload_n 2, 1) := dk_28 (dk_at dksX6_roadOf_0 11 rfl rfl)
theorem dX6_roadOf_12 : decode cX6_roadOf 12 = .ok (.iadd, 1) := dk_96 (dk_at dksX6_roadOf_0 12 rfl rfl)
theorem dX6_roadOf_13 : decode cX6_roadOf 13 = .ok (.iaload, 1) := dk_46 (dk_at dksX6_roadOf_0 13 rfl rfl)
theorem dX6_roadOf_14 : decode cX6_roadOf 14 = .ok (.ireturn, 1) := dk_172 (dk_at dksX6_roadOf_0 14 rfl rfl)
abbrev cX6_those : ByteArray := prog_30_method_20_code
def yX6_those : MethodName := ⟨RX6, "those", "(II)I"⟩
def dkwX6_those_2 : List UInt8 := [3, 128, 62, 132, 4, 1, 167, 255, 208, 29, 172]
abbrev dktX6_those_2 : List UInt8 := dkwX6_those_2 ++ []
def dkwX6_those_1 : List UInt8 := [182, 0, 79, 154, 0, 21, 42, 21, 4, 27, 182, 0, 79, 28, 160, 0, 10, 4, 21, 4, 120, 167, 0, 4]
abbrev dktX6_those_1 : List UInt8 := dkwX6_those_1 ++ dktX6_those_2
def dkwX6_those_0 : List UInt8 := [3, 62, 3, 54, 4, 21, 4, 42, 180, 0, 7, 17, 0, 139, 46, 162, 0, 41, 29, 42, 21, 4, 8]
abbrev dktX6_those_0 : List UInt8 := dkwX6_those_0 ++ dktX6_those_1
theorem dksX6_those_0 : cX6_those.data.toList.drop 0 = dktX6_those_0 := by decide +kernel
theorem dksX6_those_1 : cX6_those.data.toList.drop 23 = dktX6_those_1 := dk_seg dksX6_those_0 23 rfl rfl
theorem dksX6_those_2 : cX6_those.data.toList.drop 47 = dktX6_those_2 := dk_seg dksX6_those_1 24 rfl rfl
theorem dX6_those_0 : decode cX6_those 0 = .ok (.iconst 0, 1) := dk_3 (dk_at dksX6_those_0 0 rfl rfl)
theorem dX6_those_1 : decode cX6_those 1 = .ok (.istore_n 3, 1) := dk_62 (dk_at dksX6_those_0 1 rfl rfl)
theorem dX6_those_2 : decode cX6_those 2 = .ok (.iconst 0, 1) := dk_3 (dk_at dksX6_those_0 2 rfl rfl)
theorem dX6_those_3 : decode cX6_those 3 = .ok (.istore 4, 2) := dk_54 4 (dk_at dksX6_those_0 3 rfl rfl)
theorem dX6_those_5 : decode cX6_those 5 = .ok (.iload 4, 2) := dk_21 4 (dk_at dksX6_those_0 5 rfl rfl)
theorem dX6_those_7 : decode cX6_those 7 = .ok (.aload_n 0, 1) := dk_42 (dk_at dksX6_those_0 7 rfl rfl)
theorem dX6_those_8 : decode cX6_those 8 = .ok (.getfield 7, 3) := dk_180 0 7 (dk_at dksX6_those_0 8 rfl rfl)
theorem dX6_those_11 : decode cX6_those 11 = .ok (.sipush 139, 3) := dk_17 0 139 (dk_at dksX6_those_0 11 rfl rfl)
theorem dX6_those_14 : decode cX6_those 14 = .ok (.iaload, 1) := dk_46 (dk_at dksX6_those_0 14 rfl rfl)
theorem dX6_those_15 : decode cX6_those 15 = .ok (.if_icmp .ge 41, 3) := dk_162 0 41 (dk_at dksX6_those_0 15 rfl rfl)
theorem dX6_those_18 : decode cX6_those 18 = .ok (.iload_n 3, 1) := dk_29 (dk_at dksX6_those_0 18 rfl rfl)
theorem dX6_those_19 : decode cX6_those 19 = .ok (.aload_n 0, 1) := dk_42 (dk_at dksX6_those_0 19 rfl rfl)
theorem dX6_those_20 : decode cX6_those 20 = .ok (.iload 4, 2) := dk_21 4 (dk_at dksX6_those_0 20 rfl rfl)
theorem dX6_those_22 : decode cX6_those 22 = .ok (.iconst 5, 1) := dk_8 (dk_at dksX6_those_0 22 rfl rfl)
theorem dX6_those_23 : decode cX6_those 23 = .ok (.invokevirtual 79, 3) := dk_182 0 79 (dk_at dksX6_those_1 0 rfl rfl)
theorem dX6_those_26 : decode cX6_those 26 = .ok (.ifCond .ne 21, 3) := dk_154 0 21 (dk_at dksX6_those_1 3 rfl rfl)
theorem dX6_those_29 : decode cX6_those 29 = .ok (.aload_n 0, 1) := dk_42 (dk_at dksX6_those_1 6 rfl rfl)
theorem dX6_those_30 : decode cX6_those 30 = .ok (.iload 4, 2) := dk_21 4 (dk_at dksX6_those_1 7 rfl rfl)
theorem dX6_those_32 : decode cX6_those 32 = .ok (.iload_n 1, 1) := dk_27 (dk_at dksX6_those_1 9 rfl rfl)
theorem dX6_those_33 : decode cX6_those 33 = .ok (.invokevirtual 79, 3) := dk_182 0 79 (dk_at dksX6_those_1 10 rfl rfl)
theorem dX6_those_36 : decode cX6_those 36 = .ok (.iload_n 2, 1) := dk_28 (dk_at dksX6_those_1 13 rfl rfl)
theorem dX6_those_37 : decode cX6_those 37 = .ok (.if_icmp .ne 10, 3) := dk_160 0 10 (dk_at dksX6_those_1 14 rfl rfl)
theorem dX6_those_40 : decode cX6_those 40 = .ok (.iconst 1, 1) := dk_4 (dk_at dksX6_those_1 17 rfl rfl)
theorem dX6_those_41 : decode cX6_those 41 = .ok (.iload 4, 2) := dk_21 4 (dk_at dksX6_those_1 18 rfl rfl)
theorem dX6_those_43 : decode cX6_those 43 = .ok (.ishl, 1) := dk_120 (dk_at dksX6_those_1 20 rfl rfl)
theorem dX6_those_44 : decode cX6_those 44 = .ok (.goto 4, 3) := dk_167 0 4 (dk_at dksX6_those_1 21 rfl rfl)
theorem dX6_those_47 : decode cX6_those 47 = .ok (.iconst 0, 1) := dk_3 (dk_at dksX6_those_2 0 rfl rfl)
theorem dX6_those_48 : decode cX6_those 48 = .ok (.ior, 1) := dk_128 (dk_at dksX6_those_2 1 rfl rfl)
theorem dX6_those_49 : decode cX6_those 49 = .ok (.istore_n 3, 1) := dk_62 (dk_at dksX6_those_2 2 rfl rfl)
theorem dX6_those_50 : decode cX6_those 50 = .ok (.iinc 4 1, 3) := dk_132 4 1 (dk_at dksX6_those_2 3 rfl rfl)
theorem dX6_those_53 : decode cX6_those 53 = .ok (.goto (-48), 3) := dk_167 255 208 (dk_at dksX6_those_2 6 rfl rfl)
theorem dX6_those_56 : decode cX6_those 56 = .ok (.iload_n 3, 1) := dk_29 (dk_at dksX6_those_2 9 rfl rfl)
theorem dX6_those_57 : decode cX6_those 57 = .ok (.ireturn, 1) := dk_172 (dk_at dksX6_those_2 10 rfl rfl)
abbrev cX6_its : ByteArray := prog_30_method_12_code
def yX6_its : MethodName := ⟨RX6, "its", "(II)I"⟩
def dkwX6_its_0 : List UInt8 := [42, 180, 0, 7, 27, 28, 184, 0, 54, 46, 172]
abbrev dktX6_its_0 : List UInt8 := dkwX6_its_0 ++ []
theorem dksX6_its_0 : cX6_its.data.toList.drop 0 = dktX6_its_0 := by decide +kernel
theorem dX6_its_0 : decode cX6_its 0 = .ok (.aload_n 0, 1) := dk_42 (dk_at dksX6_its_0 0 rfl rfl)
theorem dX6_its_1 : decode cX6_its 1 = .ok (.getfield 7, 3) := dk_180 0 7 (dk_at dksX6_its_0 1 rfl rfl)
theorem dX6_its_4 : decode cX6_its 4 = .ok (.iload_n 1, 1) := dk_27 (dk_at dksX6_its_0 4 rfl rfl)
theorem dX6_its_5 : decode cX6_its 5 = .ok (.iload_n 2, 1) := dk_28 (dk_at dksX6_its_0 5 rfl rfl)
theorem dX6_its_6 : decode cX6_its 6 = .ok (.invokestatic 54, 3) := dk_184 0 54 (dk_at dksX6_its_0 6 rfl rfl)
theorem dX6_its_9 : decode cX6_its 9 = .ok (.iaload, 1) := dk_46 (dk_at dksX6_its_0 9 rfl rfl)
theorem dX6_its_10 : decode cX6_its 10 = .ok (.ireturn, 1) := dk_172 (dk_at dksX6_its_0 10 rfl rfl)
abbrev cX6_spot : ByteArray := prog_30_method_11_code
def yX6_spot : MethodName := ⟨RX6, "spot", "(II)I"⟩
def dkwX6_spot_0 : List UInt8 := [17, 0, 140, 16, 6, 26, 104, 96, 27, 96, 172]
abbrev dktX6_spot_0 : List UInt8 := dkwX6_spot_0 ++ []
theorem dksX6_spot_0 : cX6_spot.data.toList.drop 0 = dktX6_spot_0 := by decide +kernel
theorem dX6_spot_0 : decode cX6_spot 0 = .ok (.sipush 140, 3) := dk_17 0 140 (dk_at dksX6_spot_0 0 rfl rfl)
theorem dX6_spot_3 : decode cX6_spot 3 = .ok (.bipush 6, 2) := dk_16 6 (dk_at dksX6_spot_0 3 rfl rfl)
theorem dX6_spot_5 : decode cX6_spot 5 = .ok (.iload_n 0, 1) := dk_26 (dk_at dksX6_spot_0 5 rfl rfl)
theorem dX6_spot_6 : decode cX6_spot 6 = .ok (.imul, 1) := dk_104 (dk_at dksX6_spot_0 6 rfl rfl)
theorem dX6_spot_7 : decode cX6_spot 7 = .ok (.iadd, 1) := dk_96 (dk_at dksX6_spot_0 7 rfl rfl)
theorem dX6_spot_8 : decode cX6_spot 8 = .ok (.iload_n 1, 1) := dk_27 (dk_at dksX6_spot_0 8 rfl rfl)
theorem dX6_spot_9 : decode cX6_spot 9 = .ok (.iadd, 1) := dk_96 (dk_at dksX6_spot_0 9 rfl rfl)
theorem dX6_spot_10 : decode cX6_spot 10 = .ok (.ireturn, 1) := dk_172 (dk_at dksX6_spot_0 10 rfl rfl)
abbrev cX6_owes : ByteArray := prog_30_method_18_code
def yX6_owes : MethodName := ⟨RX6, "owes", "(I)I"⟩
def dkwX6_owes_1 : List UInt8 := [104, 96, 29, 96, 46, 96, 61, 132, 3, 1, 167, 255, 226, 28, 172]
abbrev dktX6_owes_1 : List UInt8 := dkwX6_owes_1 ++ []
def dkwX6_owes_0 : List UInt8 := [3, 61, 3, 62, 29, 16, 8, 162, 0, 30, 27, 155, 0, 26, 28, 42, 180, 0, 7, 16, 72, 16, 8, 27]
abbrev dktX6_owes_0 : List UInt8 := dkwX6_owes_0 ++ dktX6_owes_1
theorem dksX6_owes_0 : cX6_owes.data.toList.drop 0 = dktX6_owes_0 := by decide +kernel
theorem dksX6_owes_1 : cX6_owes.data.toList.drop 24 = dktX6_owes_1 := dk_seg dksX6_owes_0 24 rfl rfl
theorem dX6_owes_0 : decode cX6_owes 0 = .ok (.iconst 0, 1) := dk_3 (dk_at dksX6_owes_0 0 rfl rfl)
theorem dX6_owes_1 : decode cX6_owes 1 = .ok (.istore_n 2, 1) := dk_61 (dk_at dksX6_owes_0 1 rfl rfl)
theorem dX6_owes_2 : decode cX6_owes 2 = .ok (.iconst 0, 1) := dk_3 (dk_at dksX6_owes_0 2 rfl rfl)
theorem dX6_owes_3 : decode cX6_owes 3 = .ok (.istore_n 3, 1) := dk_62 (dk_at dksX6_owes_0 3 rfl rfl)
theorem dX6_owes_4 : decode cX6_owes 4 = .ok (.iload_n 3, 1) := dk_29 (dk_at dksX6_owes_0 4 rfl rfl)
theorem dX6_owes_5 : decode cX6_owes 5 = .ok (.bipush 8, 2) := dk_16 8 (dk_at dksX6_owes_0 5 rfl rfl)
theorem dX6_owes_7 : decode cX6_owes 7 = .ok (.if_icmp .ge 30, 3) := dk_162 0 30 (dk_at dksX6_owes_0 7 rfl rfl)
theorem dX6_owes_10 : decode cX6_owes 10 = .ok (.iload_n 1, 1) := dk_27 (dk_at dksX6_owes_0 10 rfl rfl)
theorem dX6_owes_11 : decode cX6_owes 11 = .ok (.ifCond .lt 26, 3) := dk_155 0 26 (dk_at dksX6_owes_0 11 rfl rfl)
theorem dX6_owes_14 : decode cX6_owes 14 = .ok (.iload_n 2, 1) := dk_28 (dk_at dksX6_owes_0 14 rfl rfl)
theorem dX6_owes_15 : decode cX6_owes 15 = .ok (.aload_n 0, 1) := dk_42 (dk_at dksX6_owes_0 15 rfl rfl)
theorem dX6_owes_16 : decode cX6_owes 16 = .ok (.getfield 7, 3) := dk_180 0 7 (dk_at dksX6_owes_0 16 rfl rfl)
theorem dX6_owes_19 : decode cX6_owes 19 = .ok (.bipush 72, 2) := dk_16 72 (dk_at dksX6_owes_0 19 rfl rfl)
theorem dX6_owes_21 : decode cX6_owes 21 = .ok (.bipush 8, 2) := dk_16 8 (dk_at dksX6_owes_0 21 rfl rfl)
theorem dX6_owes_23 : decode cX6_owes 23 = .ok (.iload_n 1, 1) := dk_27 (dk_at dksX6_owes_0 23 rfl rfl)
theorem dX6_owes_24 : decode cX6_owes 24 = .ok (.imul, 1) := dk_104 (dk_at dksX6_owes_1 0 rfl rfl)
theorem dX6_owes_25 : decode cX6_owes 25 = .ok (.iadd, 1) := dk_96 (dk_at dksX6_owes_1 1 rfl rfl)
theorem dX6_owes_26 : decode cX6_owes 26 = .ok (.iload_n 3, 1) := dk_29 (dk_at dksX6_owes_1 2 rfl rfl)
theorem dX6_owes_27 : decode cX6_owes 27 = .ok (.iadd, 1) := dk_96 (dk_at dksX6_owes_1 3 rfl rfl)
theorem dX6_owes_28 : decode cX6_owes 28 = .ok (.iaload, 1) := dk_46 (dk_at dksX6_owes_1 4 rfl rfl)
theorem dX6_owes_29 : decode cX6_owes 29 = .ok (.iadd, 1) := dk_96 (dk_at dksX6_owes_1 5 rfl rfl)
theorem dX6_owes_30 : decode cX6_owes 30 = .ok (.istore_n 2, 1) := dk_61 (dk_at dksX6_owes_1 6 rfl rfl)
theorem dX6_owes_31 : decode cX6_owes 31 = .ok (.iinc 3 1, 3) := dk_132 3 1 (dk_at dksX6_owes_1 7 rfl rfl)
theorem dX6_owes_34 : decode cX6_owes 34 = .ok (.goto (-30), 3) := dk_167 255 226 (dk_at dksX6_owes_1 10 rfl rfl)
theorem dX6_owes_37 : decode cX6_owes 37 = .ok (.iload_n 2, 1) := dk_28 (dk_at dksX6_owes_1 13 rfl rfl)
theorem dX6_owes_38 : decode cX6_owes 38 = .ok (.ireturn, 1) := dk_172 (dk_at dksX6_owes_1 14 rfl rfl)
abbrev cX6_rain : ByteArray := prog_30_method_22_code
def yX6_rain : MethodName := ⟨RX6, "rain", "(I)I"⟩
def dkwX6_rain_1 : List UInt8 := [18, 67, 182, 0, 68, 172]
abbrev dktX6_rain_1 : List UInt8 := dkwX6_rain_1 ++ []
def dkwX6_rain_0 : List UInt8 := [27, 133, 9, 20, 0, 93, 184, 0, 46, 153, 0, 14, 42, 17, 0, 136, 27, 182, 0, 64, 167, 0, 9, 42]
abbrev dktX6_rain_0 : List UInt8 := dkwX6_rain_0 ++ dktX6_rain_1
theorem dksX6_rain_0 : cX6_rain.data.toList.drop 0 = dktX6_rain_0 := by decide +kernel
theorem dksX6_rain_1 : cX6_rain.data.toList.drop 24 = dktX6_rain_1 := dk_seg dksX6_rain_0 24 rfl rfl
theorem dX6_rain_0 : decode cX6_rain 0 = .ok (.iload_n 1, 1) := dk_27 (dk_at dksX6_rain_0 0 rfl rfl)
theorem dX6_rain_1 : decode cX6_rain 1 = .ok (.i2l, 1) := dk_133 (dk_at dksX6_rain_0 1 rfl rfl)
theorem dX6_rain_2 : decode cX6_rain 2 = .ok (.lconst 0, 1) := dk_9 (dk_at dksX6_rain_0 2 rfl rfl)
theorem dX6_rain_3 : decode cX6_rain 3 = .ok (.ldc2_w 93, 3) := dk_20 0 93 (dk_at dksX6_rain_0 3 rfl rfl)
theorem dX6_rain_6 : decode cX6_rain 6 = .ok (.invokestatic 46, 3) := dk_184 0 46 (dk_at dksX6_rain_0 6 rfl rfl)
theorem dX6_rain_9 : decode cX6_rain 9 = .ok (.ifCond .eq 14, 3) := dk_153 0 14 (dk_at dksX6_rain_0 9 rfl rfl)
theorem dX6_rain_12 : decode cX6_rain 12 = .ok (.aload_n 0, 1) := dk_42 (dk_at dksX6_rain_0 12 rfl rfl)
theorem dX6_rain_13 : decode cX6_rain 13 = .ok (.sipush 136, 3) := dk_17 0 136 (dk_at dksX6_rain_0 13 rfl rfl)
theorem dX6_rain_16 : decode cX6_rain 16 = .ok (.iload_n 1, 1) := dk_27 (dk_at dksX6_rain_0 16 rfl rfl)
theorem dX6_rain_17 : decode cX6_rain 17 = .ok (.invokevirtual 64, 3) := dk_182 0 64 (dk_at dksX6_rain_0 17 rfl rfl)
theorem dX6_rain_20 : decode cX6_rain 20 = .ok (.goto 9, 3) := dk_167 0 9 (dk_at dksX6_rain_0 20 rfl rfl)
theorem dX6_rain_23 : decode cX6_rain 23 = .ok (.aload_n 0, 1) := dk_42 (dk_at dksX6_rain_0 23 rfl rfl)
theorem dX6_rain_24 : decode cX6_rain 24 = .ok (.ldc 67, 2) := dk_18 67 (dk_at dksX6_rain_1 0 rfl rfl)
theorem dX6_rain_26 : decode cX6_rain 26 = .ok (.invokevirtual 68, 3) := dk_182 0 68 (dk_at dksX6_rain_1 2 rfl rfl)
theorem dX6_rain_29 : decode cX6_rain 29 = .ok (.ireturn, 1) := dk_172 (dk_at dksX6_rain_1 5 rfl rfl)
abbrev cX6_person : ByteArray := prog_30_method_23_code
def yX6_person : MethodName := ⟨RX6, "person", "(II)I"⟩
def dkwX6_person_5 : List UInt8 := [184, 0, 54, 3, 79, 42, 180, 0, 7, 17, 0, 139, 92, 46, 4, 96, 79, 29, 172]
abbrev dktX6_person_5 : List UInt8 := dkwX6_person_5 ++ []
def dkwX6_person_4 : List UInt8 := [29, 6, 184, 0, 54, 2, 79, 42, 180, 0, 7, 29, 7, 184, 0, 54, 3, 79, 42, 180, 0, 7, 29, 8]
abbrev dktX6_person_4 : List UInt8 := dkwX6_person_4 ++ dktX6_person_5
def dkwX6_person_3 : List UInt8 := [4, 184, 0, 54, 27, 16, 10, 112, 79, 42, 180, 0, 7, 29, 5, 184, 0, 54, 28, 79, 42, 180, 0, 7]
abbrev dktX6_person_3 : List UInt8 := dkwX6_person_3 ++ dktX6_person_4
def dkwX6_person_2 : List UInt8 := [17, 0, 139, 46, 62, 42, 180, 0, 7, 29, 3, 184, 0, 54, 27, 16, 10, 108, 79, 42, 180, 0, 7, 29]
abbrev dktX6_person_2 : List UInt8 := dkwX6_person_2 ++ dktX6_person_3
def dkwX6_person_1 : List UInt8 := [180, 0, 7, 17, 0, 139, 46, 16, 6, 160, 0, 10, 42, 18, 98, 182, 0, 68, 172, 42, 180, 0, 7]
abbrev dktX6_person_1 : List UInt8 := dkwX6_person_1 ++ dktX6_person_2
def dkwX6_person_0 : List UInt8 := [27, 184, 0, 95, 153, 0, 10, 28, 184, 0, 58, 154, 0, 10, 42, 18, 67, 182, 0, 68, 172, 42]
abbrev dktX6_person_0 : List UInt8 := dkwX6_person_0 ++ dktX6_person_1
theorem dksX6_person_0 : cX6_person.data.toList.drop 0 = dktX6_person_0 := by decide +kernel
theorem dksX6_person_1 : cX6_person.data.toList.drop 22 = dktX6_person_1 := dk_seg dksX6_person_0 22 rfl rfl
theorem dksX6_person_2 : cX6_person.data.toList.drop 45 = dktX6_person_2 := dk_seg dksX6_person_1 23 rfl rfl
theorem dksX6_person_3 : cX6_person.data.toList.drop 69 = dktX6_person_3 := dk_seg dksX6_person_2 24 rfl rfl
theorem dksX6_person_4 : cX6_person.data.toList.drop 93 = dktX6_person_4 := dk_seg dksX6_person_3 24 rfl rfl
theorem dksX6_person_5 : cX6_person.data.toList.drop 117 = dktX6_person_5 := dk_seg dksX6_person_4 24 rfl rfl
theorem dX6_person_0 : decode cX6_person 0 = .ok (.iload_n 1, 1) := dk_27 (dk_at dksX6_person_0 0 rfl rfl)
theorem dX6_person_1 : decode cX6_person 1 = .ok (.invokestatic 95, 3) := dk_184 0 95 (dk_at dksX6_person_0 1 rfl rfl)
theorem dX6_person_4 : decode cX6_person 4 = .ok (.ifCond .eq 10, 3) := dk_153 0 10 (dk_at dksX6_person_0 4 rfl rfl)
theorem dX6_person_7 : decode cX6_person 7 = .ok (.iload_n 2, 1) := dk_28 (dk_at dksX6_person_0 7 rfl rfl)
theorem dX6_person_8 : decode cX6_person 8 = .ok (.invokestatic 58, 3) := dk_184 0 58 (dk_at dksX6_person_0 8 rfl rfl)
theorem dX6_person_11 : decode cX6_person 11 = .ok (.ifCond .ne 10, 3) := dk_154 0 10 (dk_at dksX6_person_0 11 rfl rfl)
theorem dX6_person_14 : decode cX6_person 14 = .ok (.aload_n 0, 1) := dk_42 (dk_at dksX6_person_0 14 rfl rfl)
theorem dX6_person_15 : decode cX6_person 15 = .ok (.ldc 67, 2) := dk_18 67 (dk_at dksX6_person_0 15 rfl rfl)
theorem dX6_person_17 : decode cX6_person 17 = .ok (.invokevirtual 68, 3) := dk_182 0 68 (dk_at dksX6_person_0 17 rfl rfl)
theorem dX6_person_20 : decode cX6_person 20 = .ok (.ireturn, 1) := dk_172 (dk_at dksX6_person_0 20 rfl rfl)
theorem dX6_person_21 : decode cX6_person 21 = .ok (.aload_n 0, 1) := dk_42 (dk_at dksX6_person_0 21 rfl rfl)
theorem dX6_person_22 : decode cX6_person 22 = .ok (.getfield 7, 3) := dk_180 0 7 (dk_at dksX6_person_1 0 rfl rfl)
theorem dX6_person_25 : decode cX6_person 25 = .ok (.sipush 139, 3) := dk_17 0 139 (dk_at dksX6_person_1 3 rfl rfl)
theorem dX6_person_28 : decode cX6_person 28 = .ok (.iaload, 1) := dk_46 (dk_at dksX6_person_1 6 rfl rfl)
theorem dX6_person_29 : decode cX6_person 29 = .ok (.bipush 6, 2) := dk_16 6 (dk_at dksX6_person_1 7 rfl rfl)
theorem dX6_person_31 : decode cX6_person 31 = .ok (.if_icmp .ne 10, 3) := dk_160 0 10 (dk_at dksX6_person_1 9 rfl rfl)
theorem dX6_person_34 : decode cX6_person 34 = .ok (.aload_n 0, 1) := dk_42 (dk_at dksX6_person_1 12 rfl rfl)
theorem dX6_person_35 : decode cX6_person 35 = .ok (.ldc 98, 2) := dk_18 98 (dk_at dksX6_person_1 13 rfl rfl)
theorem dX6_person_37 : decode cX6_person 37 = .ok (.invokevirtual 68, 3) := dk_182 0 68 (dk_at dksX6_person_1 15 rfl rfl)
theorem dX6_person_40 : decode cX6_person 40 = .ok (.ireturn, 1) := dk_172 (dk_at dksX6_person_1 18 rfl rfl)
theorem dX6_person_41 : decode cX6_person 41 = .ok (.aload_n 0, 1) := dk_42 (dk_at dksX6_person_1 19 rfl rfl)
theorem dX6_person_42 : decode cX6_person 42 = .ok (.getfield 7, 3) := dk_180 0 7 (dk_at dksX6_person_1 20 rfl rfl)
theorem dX6_person_45 : decode cX6_person 45 = .ok (.sipush 139, 3) := dk_17 0 139 (dk_at dksX6_person_2 0 rfl rfl)
theorem dX6_person_48 : decode cX6_person 48 = .ok (.iaload, 1) := dk_46 (dk_at dksX6_person_2 3 rfl rfl)
theorem dX6_person_49 : decode cX6_person 49 = .ok (.istore_n 3, 1) := dk_62 (dk_at dksX6_person_2 4 rfl rfl)
theorem dX6_person_50 : decode cX6_person 50 = .ok (.aload_n 0, 1) := dk_42 (dk_at dksX6_person_2 5 rfl rfl)
theorem dX6_person_51 : decode cX6_person 51 = .ok (.getfield 7, 3) := dk_180 0 7 (dk_at dksX6_person_2 6 rfl rfl)
theorem dX6_person_54 : decode cX6_person 54 = .ok (.iload_n 3, 1) := dk_29 (dk_at dksX6_person_2 9 rfl rfl)
theorem dX6_person_55 : decode cX6_person 55 = .ok (.iconst 0, 1) := dk_3 (dk_at dksX6_person_2 10 rfl rfl)
theorem dX6_person_56 : decode cX6_person 56 = .ok (.invokestatic 54, 3) := dk_184 0 54 (dk_at dksX6_person_2 11 rfl rfl)
theorem dX6_person_59 : decode cX6_person 59 = .ok (.iload_n 1, 1) := dk_27 (dk_at dksX6_person_2 14 rfl rfl)
theorem dX6_person_60 : decode cX6_person 60 = .ok (.bipush 10, 2) := dk_16 10 (dk_at dksX6_person_2 15 rfl rfl)
theorem dX6_person_62 : decode cX6_person 62 = .ok (.idiv, 1) := dk_108 (dk_at dksX6_person_2 17 rfl rfl)
theorem dX6_person_63 : decode cX6_person 63 = .ok (.iastore, 1) := dk_79 (dk_at dksX6_person_2 18 rfl rfl)
theorem dX6_person_64 : decode cX6_person 64 = .ok (.aload_n 0, 1) := dk_42 (dk_at dksX6_person_2 19 rfl rfl)
theorem dX6_person_65 : decode cX6_person 65 = .ok (.getfield 7, 3) := dk_180 0 7 (dk_at dksX6_person_2 20 rfl rfl)
theorem dX6_person_68 : decode cX6_person 68 = .ok (.iload_n 3, 1) := dk_29 (dk_at dksX6_person_2 23 rfl rfl)
theorem dX6_person_69 : decode cX6_person 69 = .ok (.iconst 1, 1) := dk_4 (dk_at dksX6_person_3 0 rfl rfl)
theorem dX6_person_70 : decode cX6_person 70 = .ok (.invokestatic 54, 3) := dk_184 0 54 (dk_at dksX6_person_3 1 rfl rfl)
theorem dX6_person_73 : decode cX6_person 73 = .ok (.iload_n 1, 1) := dk_27 (dk_at dksX6_person_3 4 rfl rfl)
theorem dX6_person_74 : decode cX6_person 74 = .ok (.bipush 10, 2) := dk_16 10 (dk_at dksX6_person_3 5 rfl rfl)
theorem dX6_person_76 : decode cX6_person 76 = .ok (.irem, 1) := dk_112 (dk_at dksX6_person_3 7 rfl rfl)
theorem dX6_person_77 : decode cX6_person 77 = .ok (.iastore, 1) := dk_79 (dk_at dksX6_person_3 8 rfl rfl)
theorem dX6_person_78 : decode cX6_person 78 = .ok (.aload_n 0, 1) := dk_42 (dk_at dksX6_person_3 9 rfl rfl)
theorem dX6_person_79 : decode cX6_person 79 = .ok (.getfield 7, 3) := dk_180 0 7 (dk_at dksX6_person_3 10 rfl rfl)
theorem dX6_person_82 : decode cX6_person 82 = .ok (.iload_n 3, 1) := dk_29 (dk_at dksX6_person_3 13 rfl rfl)
theorem dX6_person_83 : decode cX6_person 83 = .ok (.iconst 2, 1) := dk_5 (dk_at dksX6_person_3 14 rfl rfl)
theorem dX6_person_84 : decode cX6_person 84 = .ok (.invokestatic 54, 3) := dk_184 0 54 (dk_at dksX6_person_3 15 rfl rfl)
theorem dX6_person_87 : decode cX6_person 87 = .ok (.iload_n 2, 1) := dk_28 (dk_at dksX6_person_3 18 rfl rfl)
theorem dX6_person_88 : decode cX6_person 88 = .ok (.iastore, 1) := dk_79 (dk_at dksX6_person_3 19 rfl rfl)
theorem dX6_person_89 : decode cX6_person 89 = .ok (.aload_n 0, 1) := dk_42 (dk_at dksX6_person_3 20 rfl rfl)
theorem dX6_person_90 : decode cX6_person 90 = .ok (.getfield 7, 3) := dk_180 0 7 (dk_at dksX6_person_3 21 rfl rfl)
theorem dX6_person_93 : decode cX6_person 93 = .ok (.iload_n 3, 1) := dk_29 (dk_at dksX6_person_4 0 rfl rfl)
theorem dX6_person_94 : decode cX6_person 94 = .ok (.iconst 3, 1) := dk_6 (dk_at dksX6_person_4 1 rfl rfl)
theorem dX6_person_95 : decode cX6_person 95 = .ok (.invokestatic 54, 3) := dk_184 0 54 (dk_at dksX6_person_4 2 rfl rfl)
theorem dX6_person_98 : decode cX6_person 98 = .ok (.iconst (-1), 1) := dk_2 (dk_at dksX6_person_4 5 rfl rfl)
theorem dX6_person_99 : decode cX6_person 99 = .ok (.iastore, 1) := dk_79 (dk_at dksX6_person_4 6 rfl rfl)
theorem dX6_person_100 : decode cX6_person 100 = .ok (.aload_n 0, 1) := dk_42 (dk_at dksX6_person_4 7 rfl rfl)
theorem dX6_person_101 : decode cX6_person 101 = .ok (.getfield 7, 3) := dk_180 0 7 (dk_at dksX6_person_4 8 rfl rfl)
theorem dX6_person_104 : decode cX6_person 104 = .ok (.iload_n 3, 1) := dk_29 (dk_at dksX6_person_4 11 rfl rfl)
theorem dX6_person_105 : decode cX6_person 105 = .ok (.iconst 4, 1) := dk_7 (dk_at dksX6_person_4 12 rfl rfl)
theorem dX6_person_106 : decode cX6_person 106 = .ok (.invokestatic 54, 3) := dk_184 0 54 (dk_at dksX6_person_4 13 rfl rfl)
theorem dX6_person_109 : decode cX6_person 109 = .ok (.iconst 0, 1) := dk_3 (dk_at dksX6_person_4 16 rfl rfl)
theorem dX6_person_110 : decode cX6_person 110 = .ok (.iastore, 1) := dk_79 (dk_at dksX6_person_4 17 rfl rfl)
theorem dX6_person_111 : decode cX6_person 111 = .ok (.aload_n 0, 1) := dk_42 (dk_at dksX6_person_4 18 rfl rfl)
theorem dX6_person_112 : decode cX6_person 112 = .ok (.getfield 7, 3) := dk_180 0 7 (dk_at dksX6_person_4 19 rfl rfl)
theorem dX6_person_115 : decode cX6_person 115 = .ok (.iload_n 3, 1) := dk_29 (dk_at dksX6_person_4 22 rfl rfl)
theorem dX6_person_116 : decode cX6_person 116 = .ok (.iconst 5, 1) := dk_8 (dk_at dksX6_person_4 23 rfl rfl)
theorem dX6_person_117 : decode cX6_person 117 = .ok (.invokestatic 54, 3) := dk_184 0 54 (dk_at dksX6_person_5 0 rfl rfl)
theorem dX6_person_120 : decode cX6_person 120 = .ok (.iconst 0, 1) := dk_3 (dk_at dksX6_person_5 3 rfl rfl)
theorem dX6_person_121 : decode cX6_person 121 = .ok (.iastore, 1) := dk_79 (dk_at dksX6_person_5 4 rfl rfl)
theorem dX6_person_122 : decode cX6_person 122 = .ok (.aload_n 0, 1) := dk_42 (dk_at dksX6_person_5 5 rfl rfl)
theorem dX6_person_123 : decode cX6_person 123 = .ok (.getfield 7, 3) := dk_180 0 7 (dk_at dksX6_person_5 6 rfl rfl)
theorem dX6_person_126 : decode cX6_person 126 = .ok (.sipush 139, 3) := dk_17 0 139 (dk_at dksX6_person_5 9 rfl rfl)
theorem dX6_person_129 : decode cX6_person 129 = .ok (.dup2, 1) := dk_92 (dk_at dksX6_person_5 12 rfl rfl)
theorem dX6_person_130 : decode cX6_person 130 = .ok (.iaload, 1) := dk_46 (dk_at dksX6_person_5 13 rfl rfl)
theorem dX6_person_131 : decode cX6_person 131 = .ok (.iconst 1, 1) := dk_4 (dk_at dksX6_person_5 14 rfl rfl)
theorem dX6_person_132 : decode cX6_person 132 = .ok (.iadd, 1) := dk_96 (dk_at dksX6_person_5 15 rfl rfl)
theorem dX6_person_133 : decode cX6_person 133 = .ok (.iastore, 1) := dk_79 (dk_at dksX6_person_5 16 rfl rfl)
theorem dX6_person_134 : decode cX6_person 134 = .ok (.iload_n 3, 1) := dk_29 (dk_at dksX6_person_5 17 rfl rfl)
theorem dX6_person_135 : decode cX6_person 135 = .ok (.ireturn, 1) := dk_172 (dk_at dksX6_person_5 18 rfl rfl)
abbrev cX6_isMind : ByteArray := prog_30_method_10_code
def yX6_isMind : MethodName := ⟨RX6, "isMind", "(I)Z"⟩
def dkwX6_isMind_0 : List UInt8 := [26, 133, 9, 20, 0, 52, 184, 0, 46, 172]
abbrev dktX6_isMind_0 : List UInt8 := dkwX6_isMind_0 ++ []
theorem dksX6_isMind_0 : cX6_isMind.data.toList.drop 0 = dktX6_isMind_0 := by decide +kernel
theorem dX6_isMind_0 : decode cX6_isMind 0 = .ok (.iload_n 0, 1) := dk_26 (dk_at dksX6_isMind_0 0 rfl rfl)
theorem dX6_isMind_1 : decode cX6_isMind 1 = .ok (.i2l, 1) := dk_133 (dk_at dksX6_isMind_0 1 rfl rfl)
theorem dX6_isMind_2 : decode cX6_isMind 2 = .ok (.lconst 0, 1) := dk_9 (dk_at dksX6_isMind_0 2 rfl rfl)
theorem dX6_isMind_3 : decode cX6_isMind 3 = .ok (.ldc2_w 52, 3) := dk_20 0 52 (dk_at dksX6_isMind_0 3 rfl rfl)
theorem dX6_isMind_6 : decode cX6_isMind 6 = .ok (.invokestatic 46, 3) := dk_184 0 46 (dk_at dksX6_isMind_0 6 rfl rfl)
theorem dX6_isMind_9 : decode cX6_isMind 9 = .ok (.ireturn, 1) := dk_172 (dk_at dksX6_isMind_0 9 rfl rfl)
abbrev cX6_ofPerson : ByteArray := prog_30_method_27_code
def yX6_ofPerson : MethodName := ⟨RX6, "ofPerson", "(II)I"⟩
def dkwX6_ofPerson_3 : List UInt8 := [182, 0, 79, 182, 0, 111, 167, 0, 13, 42, 42, 27, 6, 182, 0, 79, 182, 0, 90, 172]
abbrev dktX6_ofPerson_3 : List UInt8 := dkwX6_ofPerson_3 ++ []
def dkwX6_ofPerson_2 : List UInt8 := [160, 0, 11, 42, 27, 182, 0, 108, 167, 0, 33, 28, 16, 7, 160, 0, 17, 42, 27, 42, 27, 7]
abbrev dktX6_ofPerson_2 : List UInt8 := dkwX6_ofPerson_2 ++ dktX6_ofPerson_3
def dkwX6_ofPerson_1 : List UInt8 := [182, 0, 68, 172, 28, 16, 6, 162, 0, 12, 42, 27, 28, 182, 0, 79, 167, 0, 47, 28, 16, 6]
abbrev dktX6_ofPerson_1 : List UInt8 := dkwX6_ofPerson_1 ++ dktX6_ofPerson_2
def dkwX6_ofPerson_0 : List UInt8 := [42, 27, 182, 0, 103, 153, 0, 15, 28, 133, 9, 20, 0, 106, 184, 0, 46, 154, 0, 10, 42, 18, 67]
abbrev dktX6_ofPerson_0 : List UInt8 := dkwX6_ofPerson_0 ++ dktX6_ofPerson_1
theorem dksX6_ofPerson_0 : cX6_ofPerson.data.toList.drop 0 = dktX6_ofPerson_0 := by decide +kernel
theorem dksX6_ofPerson_1 : cX6_ofPerson.data.toList.drop 23 = dktX6_ofPerson_1 := dk_seg dksX6_ofPerson_0 23 rfl rfl
theorem dksX6_ofPerson_2 : cX6_ofPerson.data.toList.drop 45 = dktX6_ofPerson_2 := dk_seg dksX6_ofPerson_1 22 rfl rfl
theorem dksX6_ofPerson_3 : cX6_ofPerson.data.toList.drop 67 = dktX6_ofPerson_3 := dk_seg dksX6_ofPerson_2 22 rfl rfl
theorem dX6_ofPerson_0 : decode cX6_ofPerson 0 = .ok (.aload_n 0, 1) := dk_42 (dk_at dksX6_ofPerson_0 0 rfl rfl)
theorem dX6_ofPerson_1 : decode cX6_ofPerson 1 = .ok (.iload_n 1, 1) := dk_27 (dk_at dksX6_ofPerson_0 1 rfl rfl)
theorem dX6_ofPerson_2 : decode cX6_ofPerson 2 = .ok (.invokevirtual 103, 3) := dk_182 0 103 (dk_at dksX6_ofPerson_0 2 rfl rfl)
theorem dX6_ofPerson_5 : decode cX6_ofPerson 5 = .ok (.ifCond .eq 15, 3) := dk_153 0 15 (dk_at dksX6_ofPerson_0 5 rfl rfl)
theorem dX6_ofPerson_8 : decode cX6_ofPerson 8 = .ok (.iload_n 2, 1) := dk_28 (dk_at dksX6_ofPerson_0 8 rfl rfl)
theorem dX6_ofPerson_9 : decode cX6_ofPerson 9 = .ok (.i2l, 1) := dk_133 (dk_at dksX6_ofPerson_0 9 rfl rfl)
theorem dX6_ofPerson_10 : decode cX6_ofPerson 10 = .ok (.lconst 0, 1) := dk_9 (dk_at dksX6_ofPerson_0 10 rfl rfl)
theorem dX6_ofPerson_11 : decode cX6_ofPerson 11 = .ok (.ldc2_w 106, 3) := dk_20 0 106 (dk_at dksX6_ofPerson_0 11 rfl rfl)
theorem dX6_ofPerson_14 : decode cX6_ofPerson 14 = .ok (.invokestatic 46, 3) := dk_184 0 46 (dk_at dksX6_ofPerson_0 14 rfl rfl)
theorem dX6_ofPerson_17 : decode cX6_ofPerson 17 = .ok (.ifCond .ne 10, 3) := dk_154 0 10 (dk_at dksX6_ofPerson_0 17 rfl rfl)
theorem dX6_ofPerson_20 : decode cX6_ofPerson 20 = .ok (.aload_n 0, 1) := dk_42 (dk_at dksX6_ofPerson_0 20 rfl rfl)
theorem dX6_ofPerson_21 : decode cX6_ofPerson 21 = .ok (.ldc 67, 2) := dk_18 67 (dk_at dksX6_ofPerson_0 21 rfl rfl)
theorem dX6_ofPerson_23 : decode cX6_ofPerson 23 = .ok (.invokevirtual 68, 3) := dk_182 0 68 (dk_at dksX6_ofPerson_1 0 rfl rfl)
theorem dX6_ofPerson_26 : decode cX6_ofPerson 26 = .ok (.ireturn, 1) := dk_172 (dk_at dksX6_ofPerson_1 3 rfl rfl)
theorem dX6_ofPerson_27 : decode cX6_ofPerson 27 = .ok (.iload_n 2, 1) := dk_28 (dk_at dksX6_ofPerson_1 4 rfl rfl)
theorem dX6_ofPerson_28 : decode cX6_ofPerson 28 = .ok (.bipush 6, 2) := dk_16 6 (dk_at dksX6_ofPerson_1 5 rfl rfl)
theorem dX6_ofPerson_30 : decode cX6_ofPerson 30 = .ok (.if_icmp .ge 12, 3) := dk_162 0 12 (dk_at dksX6_ofPerson_1 7 rfl rfl)
theorem dX6_ofPerson_33 : decode cX6_ofPerson 33 = .ok (.aload_n 0, 1) := dk_42 (dk_at dksX6_ofPerson_1 10 rfl rfl)
theorem dX6_ofPerson_34 : decode cX6_ofPerson 34 = .ok (.iload_n 1, 1) := dk_27 (dk_at dksX6_ofPerson_1 11 rfl rfl)
theorem dX6_ofPerson_35 : decode cX6_ofPerson 35 = .ok (.iload_n 2, 1) := dk_28 (dk_at dksX6_ofPerson_1 12 rfl rfl)
theorem dX6_ofPerson_36 : decode cX6_ofPerson 36 = .ok (.invokevirtual 79, 3) := dk_182 0 79 (dk_at dksX6_ofPerson_1 13 rfl rfl)
theorem dX6_ofPerson_39 : decode cX6_ofPerson 39 = .ok (.goto 47, 3) := dk_167 0 47 (dk_at dksX6_ofPerson_1 16 rfl rfl)
theorem dX6_ofPerson_42 : decode cX6_ofPerson 42 = .ok (.iload_n 2, 1) := dk_28 (dk_at dksX6_ofPerson_1 19 rfl rfl)
theorem dX6_ofPerson_43 : decode cX6_ofPerson 43 = .ok (.bipush 6, 2) := dk_16 6 (dk_at dksX6_ofPerson_1 20 rfl rfl)
theorem dX6_ofPerson_45 : decode cX6_ofPerson 45 = .ok (.if_icmp .ne 11, 3) := dk_160 0 11 (dk_at dksX6_ofPerson_2 0 rfl rfl)
theorem dX6_ofPerson_48 : decode cX6_ofPerson 48 = .ok (.aload_n 0, 1) := dk_42 (dk_at dksX6_ofPerson_2 3 rfl rfl)
theorem dX6_ofPerson_49 : decode cX6_ofPerson 49 = .ok (.iload_n 1, 1) := dk_27 (dk_at dksX6_ofPerson_2 4 rfl rfl)
theorem dX6_ofPerson_50 : decode cX6_ofPerson 50 = .ok (.invokevirtual 108, 3) := dk_182 0 108 (dk_at dksX6_ofPerson_2 5 rfl rfl)
theorem dX6_ofPerson_53 : decode cX6_ofPerson 53 = .ok (.goto 33, 3) := dk_167 0 33 (dk_at dksX6_ofPerson_2 8 rfl rfl)
theorem dX6_ofPerson_56 : decode cX6_ofPerson 56 = .ok (.iload_n 2, 1) := dk_28 (dk_at dksX6_ofPerson_2 11 rfl rfl)
theorem dX6_ofPerson_57 : decode cX6_ofPerson 57 = .ok (.bipush 7, 2) := dk_16 7 (dk_at dksX6_ofPerson_2 12 rfl rfl)
theorem dX6_ofPerson_59 : decode cX6_ofPerson 59 = .ok (.if_icmp .ne 17, 3) := dk_160 0 17 (dk_at dksX6_ofPerson_2 14 rfl rfl)
theorem dX6_ofPerson_62 : decode cX6_ofPerson 62 = .ok (.aload_n 0, 1) := dk_42 (dk_at dksX6_ofPerson_2 17 rfl rfl)
theorem dX6_ofPerson_63 : decode cX6_ofPerson 63 = .ok (.iload_n 1, 1) := dk_27 (dk_at dksX6_ofPerson_2 18 rfl rfl)
theorem dX6_ofPerson_64 : decode cX6_ofPerson 64 = .ok (.aload_n 0, 1) := dk_42 (dk_at dksX6_ofPerson_2 19 rfl rfl)
theorem dX6_ofPerson_65 : decode cX6_ofPerson 65 = .ok (.iload_n 1, 1) := dk_27 (dk_at dksX6_ofPerson_2 20 rfl rfl)
theorem dX6_ofPerson_66 : decode cX6_ofPerson 66 = .ok (.iconst 4, 1) := dk_7 (dk_at dksX6_ofPerson_2 21 rfl rfl)
theorem dX6_ofPerson_67 : decode cX6_ofPerson 67 = .ok (.invokevirtual 79, 3) := dk_182 0 79 (dk_at dksX6_ofPerson_3 0 rfl rfl)
theorem dX6_ofPerson_70 : decode cX6_ofPerson 70 = .ok (.invokevirtual 111, 3) := dk_182 0 111 (dk_at dksX6_ofPerson_3 3 rfl rfl)
theorem dX6_ofPerson_73 : decode cX6_ofPerson 73 = .ok (.goto 13, 3) := dk_167 0 13 (dk_at dksX6_ofPerson_3 6 rfl rfl)
theorem dX6_ofPerson_76 : decode cX6_ofPerson 76 = .ok (.aload_n 0, 1) := dk_42 (dk_at dksX6_ofPerson_3 9 rfl rfl)
theorem dX6_ofPerson_77 : decode cX6_ofPerson 77 = .ok (.aload_n 0, 1) := dk_42 (dk_at dksX6_ofPerson_3 10 rfl rfl)
theorem dX6_ofPerson_78 : decode cX6_ofPerson 78 = .ok (.iload_n 1, 1) := dk_27 (dk_at dksX6_ofPerson_3 11 rfl rfl)
theorem dX6_ofPerson_79 : decode cX6_ofPerson 79 = .ok (.iconst 3, 1) := dk_6 (dk_at dksX6_ofPerson_3 12 rfl rfl)
theorem dX6_ofPerson_80 : decode cX6_ofPerson 80 = .ok (.invokevirtual 79, 3) := dk_182 0 79 (dk_at dksX6_ofPerson_3 13 rfl rfl)
theorem dX6_ofPerson_83 : decode cX6_ofPerson 83 = .ok (.invokevirtual 90, 3) := dk_182 0 90 (dk_at dksX6_ofPerson_3 16 rfl rfl)
theorem dX6_ofPerson_86 : decode cX6_ofPerson 86 = .ok (.ireturn, 1) := dk_172 (dk_at dksX6_ofPerson_3 19 rfl rfl)
abbrev cX6_isPerson : ByteArray := prog_30_method_8_code
def yX6_isPerson : MethodName := ⟨RX6, "isPerson", "(I)Z"⟩
def dkwX6_isPerson_0 : List UInt8 := [27, 133, 9, 42, 180, 0, 7, 17, 0, 139, 46, 4, 100, 133, 184, 0, 46, 172]
abbrev dktX6_isPerson_0 : List UInt8 := dkwX6_isPerson_0 ++ []
theorem dksX6_isPerson_0 : cX6_isPerson.data.toList.drop 0 = dktX6_isPerson_0 := by decide +kernel
theorem dX6_isPerson_0 : decode cX6_isPerson 0 = .ok (.iload_n 1, 1) := dk_27 (dk_at dksX6_isPerson_0 0 rfl rfl)
theorem dX6_isPerson_1 : decode cX6_isPerson 1 = .ok (.i2l, 1) := dk_133 (dk_at dksX6_isPerson_0 1 rfl rfl)
theorem dX6_isPerson_2 : decode cX6_isPerson 2 = .ok (.lconst 0, 1) := dk_9 (dk_at dksX6_isPerson_0 2 rfl rfl)
theorem dX6_isPerson_3 : decode cX6_isPerson 3 = .ok (.aload_n 0, 1) := dk_42 (dk_at dksX6_isPerson_0 3 rfl rfl)
theorem dX6_isPerson_4 : decode cX6_isPerson 4 = .ok (.getfield 7, 3) := dk_180 0 7 (dk_at dksX6_isPerson_0 4 rfl rfl)
theorem dX6_isPerson_7 : decode cX6_isPerson 7 = .ok (.sipush 139, 3) := dk_17 0 139 (dk_at dksX6_isPerson_0 7 rfl rfl)
theorem dX6_isPerson_10 : decode cX6_isPerson 10 = .ok (.iaload, 1) := dk_46 (dk_at dksX6_isPerson_0 10 rfl rfl)
theorem dX6_isPerson_11 : decode cX6_isPerson 11 = .ok (.iconst 1, 1) := dk_4 (dk_at dksX6_isPerson_0 11 rfl rfl)
theorem dX6_isPerson_12 : decode cX6_isPerson 12 = .ok (.isub, 1) := dk_100 (dk_at dksX6_isPerson_0 12 rfl rfl)
theorem dX6_isPerson_13 : decode cX6_isPerson 13 = .ok (.i2l, 1) := dk_133 (dk_at dksX6_isPerson_0 13 rfl rfl)
theorem dX6_isPerson_14 : decode cX6_isPerson 14 = .ok (.invokestatic 46, 3) := dk_184 0 46 (dk_at dksX6_isPerson_0 14 rfl rfl)
theorem dX6_isPerson_17 : decode cX6_isPerson 17 = .ok (.ireturn, 1) := dk_172 (dk_at dksX6_isPerson_0 17 rfl rfl)
abbrev cX6_limitOf : ByteArray := prog_30_method_24_code
def yX6_limitOf : MethodName := ⟨RX6, "limitOf", "(I)I"⟩
def dkwX6_limitOf_2 : List UInt8 := [16, 12, 28, 96, 172, 16, 8, 172, 16, 36, 172, 16, 8, 28, 5, 108, 96, 172, 16, 12, 172]
abbrev dktX6_limitOf_2 : List UInt8 := dkwX6_limitOf_2 ++ []
def dkwX6_limitOf_1 : List UInt8 := [170, 0, 0, 0, 0, 0, 57, 0, 0, 0, 1, 0, 0, 0, 6, 0, 0, 0, 39, 0, 0, 0, 44, 0, 0, 0, 47, 0, 0, 0, 39, 0, 0, 0, 50, 0, 0, 0, 47]
abbrev dktX6_limitOf_1 : List UInt8 := dkwX6_limitOf_1 ++ dktX6_limitOf_2
def dkwX6_limitOf_0 : List UInt8 := [42, 27, 4, 182, 0, 79, 61, 42, 27, 3, 182, 0, 79]
abbrev dktX6_limitOf_0 : List UInt8 := dkwX6_limitOf_0 ++ dktX6_limitOf_1
theorem dksX6_limitOf_0 : cX6_limitOf.data.toList.drop 0 = dktX6_limitOf_0 := by decide +kernel
theorem dksX6_limitOf_1 : cX6_limitOf.data.toList.drop 13 = dktX6_limitOf_1 := dk_seg dksX6_limitOf_0 13 rfl rfl
theorem dksX6_limitOf_2 : cX6_limitOf.data.toList.drop 52 = dktX6_limitOf_2 := dk_seg dksX6_limitOf_1 39 rfl rfl
theorem dX6_limitOf_0 : decode cX6_limitOf 0 = .ok (.aload_n 0, 1) := dk_42 (dk_at dksX6_limitOf_0 0 rfl rfl)
theorem dX6_limitOf_1 : decode cX6_limitOf 1 = .ok (.iload_n 1, 1) := dk_27 (dk_at dksX6_limitOf_0 1 rfl rfl)
theorem dX6_limitOf_2 : decode cX6_limitOf 2 = .ok (.iconst 1, 1) := dk_4 (dk_at dksX6_limitOf_0 2 rfl rfl)
theorem dX6_limitOf_3 : decode cX6_limitOf 3 = .ok (.invokevirtual 79, 3) := dk_182 0 79 (dk_at dksX6_limitOf_0 3 rfl rfl)
theorem dX6_limitOf_6 : decode cX6_limitOf 6 = .ok (.istore_n 2, 1) := dk_61 (dk_at dksX6_limitOf_0 6 rfl rfl)
theorem dX6_limitOf_7 : decode cX6_limitOf 7 = .ok (.aload_n 0, 1) := dk_42 (dk_at dksX6_limitOf_0 7 rfl rfl)
theorem dX6_limitOf_8 : decode cX6_limitOf 8 = .ok (.iload_n 1, 1) := dk_27 (dk_at dksX6_limitOf_0 8 rfl rfl)
theorem dX6_limitOf_9 : decode cX6_limitOf 9 = .ok (.iconst 0, 1) := dk_3 (dk_at dksX6_limitOf_0 9 rfl rfl)
theorem dX6_limitOf_10 : decode cX6_limitOf 10 = .ok (.invokevirtual 79, 3) := dk_182 0 79 (dk_at dksX6_limitOf_0 10 rfl rfl)
theorem dX6_limitOf_13 : decode cX6_limitOf 13 = .ok (.tableswitch 57 1 6 #[39, 44, 47, 39, 50, 47], 39) := by decide +kernel
theorem dX6_limitOf_52 : decode cX6_limitOf 52 = .ok (.bipush 12, 2) := dk_16 12 (dk_at dksX6_limitOf_2 0 rfl rfl)
theorem dX6_limitOf_54 : decode cX6_limitOf 54 = .ok (.iload_n 2, 1) := dk_28 (dk_at dksX6_limitOf_2 2 rfl rfl)
theorem dX6_limitOf_55 : decode cX6_limitOf 55 = .ok (.iadd, 1) := dk_96 (dk_at dksX6_limitOf_2 3 rfl rfl)
theorem dX6_limitOf_56 : decode cX6_limitOf 56 = .ok (.ireturn, 1) := dk_172 (dk_at dksX6_limitOf_2 4 rfl rfl)
theorem dX6_limitOf_57 : decode cX6_limitOf 57 = .ok (.bipush 8, 2) := dk_16 8 (dk_at dksX6_limitOf_2 5 rfl rfl)
theorem dX6_limitOf_59 : decode cX6_limitOf 59 = .ok (.ireturn, 1) := dk_172 (dk_at dksX6_limitOf_2 7 rfl rfl)
theorem dX6_limitOf_60 : decode cX6_limitOf 60 = .ok (.bipush 36, 2) := dk_16 36 (dk_at dksX6_limitOf_2 8 rfl rfl)
theorem dX6_limitOf_62 : decode cX6_limitOf 62 = .ok (.ireturn, 1) := dk_172 (dk_at dksX6_limitOf_2 10 rfl rfl)
theorem dX6_limitOf_63 : decode cX6_limitOf 63 = .ok (.bipush 8, 2) := dk_16 8 (dk_at dksX6_limitOf_2 11 rfl rfl)
theorem dX6_limitOf_65 : decode cX6_limitOf 65 = .ok (.iload_n 2, 1) := dk_28 (dk_at dksX6_limitOf_2 13 rfl rfl)
theorem dX6_limitOf_66 : decode cX6_limitOf 66 = .ok (.iconst 2, 1) := dk_5 (dk_at dksX6_limitOf_2 14 rfl rfl)
theorem dX6_limitOf_67 : decode cX6_limitOf 67 = .ok (.idiv, 1) := dk_108 (dk_at dksX6_limitOf_2 15 rfl rfl)
theorem dX6_limitOf_68 : decode cX6_limitOf 68 = .ok (.iadd, 1) := dk_96 (dk_at dksX6_limitOf_2 16 rfl rfl)
theorem dX6_limitOf_69 : decode cX6_limitOf 69 = .ok (.ireturn, 1) := dk_172 (dk_at dksX6_limitOf_2 17 rfl rfl)
theorem dX6_limitOf_70 : decode cX6_limitOf 70 = .ok (.bipush 12, 2) := dk_16 12 (dk_at dksX6_limitOf_2 18 rfl rfl)
theorem dX6_limitOf_72 : decode cX6_limitOf 72 = .ok (.ireturn, 1) := dk_172 (dk_at dksX6_limitOf_2 20 rfl rfl)
abbrev cX6_needsOf : ByteArray := prog_30_method_25_code
def yX6_needsOf : MethodName := ⟨RX6, "needsOf", "(II)I"⟩
def dkwX6_needsOf_3 : List UInt8 := [17, 0, 138, 46, 182, 0, 99, 29, 96, 172, 4, 172]
abbrev dktX6_needsOf_3 : List UInt8 := dkwX6_needsOf_3 ++ []
def dkwX6_needsOf_2 : List UInt8 := [42, 29, 28, 42, 180, 0, 7, 17, 0, 138, 46, 182, 0, 99, 172, 42, 29, 28, 42, 180, 0, 7]
abbrev dktX6_needsOf_2 : List UInt8 := dkwX6_needsOf_2 ++ dktX6_needsOf_3
def dkwX6_needsOf_1 : List UInt8 := [171, 0, 0, 0, 0, 0, 59, 0, 0, 0, 2, 0, 0, 0, 3, 0, 0, 0, 27, 0, 0, 0, 6, 0, 0, 0, 42]
abbrev dktX6_needsOf_1 : List UInt8 := dkwX6_needsOf_1 ++ dktX6_needsOf_2
def dkwX6_needsOf_0 : List UInt8 := [42, 27, 4, 182, 0, 79, 62, 42, 27, 3, 182, 0, 79]
abbrev dktX6_needsOf_0 : List UInt8 := dkwX6_needsOf_0 ++ dktX6_needsOf_1
theorem dksX6_needsOf_0 : cX6_needsOf.data.toList.drop 0 = dktX6_needsOf_0 := by decide +kernel
theorem dksX6_needsOf_1 : cX6_needsOf.data.toList.drop 13 = dktX6_needsOf_1 := dk_seg dksX6_needsOf_0 13 rfl rfl
theorem dksX6_needsOf_2 : cX6_needsOf.data.toList.drop 40 = dktX6_needsOf_2 := dk_seg dksX6_needsOf_1 27 rfl rfl
theorem dksX6_needsOf_3 : cX6_needsOf.data.toList.drop 62 = dktX6_needsOf_3 := dk_seg dksX6_needsOf_2 22 rfl rfl
theorem dX6_needsOf_0 : decode cX6_needsOf 0 = .ok (.aload_n 0, 1) := dk_42 (dk_at dksX6_needsOf_0 0 rfl rfl)
theorem dX6_needsOf_1 : decode cX6_needsOf 1 = .ok (.iload_n 1, 1) := dk_27 (dk_at dksX6_needsOf_0 1 rfl rfl)
theorem dX6_needsOf_2 : decode cX6_needsOf 2 = .ok (.iconst 1, 1) := dk_4 (dk_at dksX6_needsOf_0 2 rfl rfl)
theorem dX6_needsOf_3 : decode cX6_needsOf 3 = .ok (.invokevirtual 79, 3) := dk_182 0 79 (dk_at dksX6_needsOf_0 3 rfl rfl)
theorem dX6_needsOf_6 : decode cX6_needsOf 6 = .ok (.istore_n 3, 1) := dk_62 (dk_at dksX6_needsOf_0 6 rfl rfl)
theorem dX6_needsOf_7 : decode cX6_needsOf 7 = .ok (.aload_n 0, 1) := dk_42 (dk_at dksX6_needsOf_0 7 rfl rfl)
theorem dX6_needsOf_8 : decode cX6_needsOf 8 = .ok (.iload_n 1, 1) := dk_27 (dk_at dksX6_needsOf_0 8 rfl rfl)
theorem dX6_needsOf_9 : decode cX6_needsOf 9 = .ok (.iconst 0, 1) := dk_3 (dk_at dksX6_needsOf_0 9 rfl rfl)
theorem dX6_needsOf_10 : decode cX6_needsOf 10 = .ok (.invokevirtual 79, 3) := dk_182 0 79 (dk_at dksX6_needsOf_0 10 rfl rfl)
theorem dX6_needsOf_13 : decode cX6_needsOf 13 = .ok (.lookupswitch 59 #[(3, 27), (6, 42)], 27) := by decide +kernel
theorem dX6_needsOf_40 : decode cX6_needsOf 40 = .ok (.aload_n 0, 1) := dk_42 (dk_at dksX6_needsOf_2 0 rfl rfl)
theorem dX6_needsOf_41 : decode cX6_needsOf 41 = .ok (.iload_n 3, 1) := dk_29 (dk_at dksX6_needsOf_2 1 rfl rfl)
theorem dX6_needsOf_42 : decode cX6_needsOf 42 = .ok (.iload_n 2, 1) := dk_28 (dk_at dksX6_needsOf_2 2 rfl rfl)
theorem dX6_needsOf_43 : decode cX6_needsOf 43 = .ok (.aload_n 0, 1) := dk_42 (dk_at dksX6_needsOf_2 3 rfl rfl)
theorem dX6_needsOf_44 : decode cX6_needsOf 44 = .ok (.getfield 7, 3) := dk_180 0 7 (dk_at dksX6_needsOf_2 4 rfl rfl)
theorem dX6_needsOf_47 : decode cX6_needsOf 47 = .ok (.sipush 138, 3) := dk_17 0 138 (dk_at dksX6_needsOf_2 7 rfl rfl)
theorem dX6_needsOf_50 : decode cX6_needsOf 50 = .ok (.iaload, 1) := dk_46 (dk_at dksX6_needsOf_2 10 rfl rfl)
theorem dX6_needsOf_51 : decode cX6_needsOf 51 = .ok (.invokevirtual 99, 3) := dk_182 0 99 (dk_at dksX6_needsOf_2 11 rfl rfl)
theorem dX6_needsOf_54 : decode cX6_needsOf 54 = .ok (.ireturn, 1) := dk_172 (dk_at dksX6_needsOf_2 14 rfl rfl)
theorem dX6_needsOf_55 : decode cX6_needsOf 55 = .ok (.aload_n 0, 1) := dk_42 (dk_at dksX6_needsOf_2 15 rfl rfl)
theorem dX6_needsOf_56 : decode cX6_needsOf 56 = .ok (.iload_n 3, 1) := dk_29 (dk_at dksX6_needsOf_2 16 rfl rfl)
theorem dX6_needsOf_57 : decode cX6_needsOf 57 = .ok (.iload_n 2, 1) := dk_28 (dk_at dksX6_needsOf_2 17 rfl rfl)
theorem dX6_needsOf_58 : decode cX6_needsOf 58 = .ok (.aload_n 0, 1) := dk_42 (dk_at dksX6_needsOf_2 18 rfl rfl)
theorem dX6_needsOf_59 : decode cX6_needsOf 59 = .ok (.getfield 7, 3) := dk_180 0 7 (dk_at dksX6_needsOf_2 19 rfl rfl)
theorem dX6_needsOf_62 : decode cX6_needsOf 62 = .ok (.sipush 138, 3) := dk_17 0 138 (dk_at dksX6_needsOf_3 0 rfl rfl)
theorem dX6_needsOf_65 : decode cX6_needsOf 65 = .ok (.iaload, 1) := dk_46 (dk_at dksX6_needsOf_3 3 rfl rfl)
theorem dX6_needsOf_66 : decode cX6_needsOf 66 = .ok (.invokevirtual 99, 3) := dk_182 0 99 (dk_at dksX6_needsOf_3 4 rfl rfl)
theorem dX6_needsOf_69 : decode cX6_needsOf 69 = .ok (.iload_n 3, 1) := dk_29 (dk_at dksX6_needsOf_3 7 rfl rfl)
theorem dX6_needsOf_70 : decode cX6_needsOf 70 = .ok (.iadd, 1) := dk_96 (dk_at dksX6_needsOf_3 8 rfl rfl)
theorem dX6_needsOf_71 : decode cX6_needsOf 71 = .ok (.ireturn, 1) := dk_172 (dk_at dksX6_needsOf_3 9 rfl rfl)
theorem dX6_needsOf_72 : decode cX6_needsOf 72 = .ok (.iconst 1, 1) := dk_4 (dk_at dksX6_needsOf_3 10 rfl rfl)
theorem dX6_needsOf_73 : decode cX6_needsOf 73 = .ok (.ireturn, 1) := dk_172 (dk_at dksX6_needsOf_3 11 rfl rfl)
abbrev cX6_needed : ByteArray := prog_30_method_45_code
def yX6_needed : MethodName := ⟨RX6, "needed", "(III)I"⟩
def dkwX6_needed_1 : List UInt8 := [182, 0, 189, 3, 16, 99, 184, 0, 193, 172]
abbrev dktX6_needed_1 : List UInt8 := dkwX6_needed_1 ++ []
def dkwX6_needed_0 : List UInt8 := [42, 180, 0, 7, 17, 0, 179, 46, 156, 0, 11, 4, 28, 7, 108, 96, 167, 0, 11, 42, 3, 27, 28, 29]
abbrev dktX6_needed_0 : List UInt8 := dkwX6_needed_0 ++ dktX6_needed_1
theorem dksX6_needed_0 : cX6_needed.data.toList.drop 0 = dktX6_needed_0 := by decide +kernel
theorem dksX6_needed_1 : cX6_needed.data.toList.drop 24 = dktX6_needed_1 := dk_seg dksX6_needed_0 24 rfl rfl
theorem dX6_needed_0 : decode cX6_needed 0 = .ok (.aload_n 0, 1) := dk_42 (dk_at dksX6_needed_0 0 rfl rfl)
theorem dX6_needed_1 : decode cX6_needed 1 = .ok (.getfield 7, 3) := dk_180 0 7 (dk_at dksX6_needed_0 1 rfl rfl)
theorem dX6_needed_4 : decode cX6_needed 4 = .ok (.sipush 179, 3) := dk_17 0 179 (dk_at dksX6_needed_0 4 rfl rfl)
theorem dX6_needed_7 : decode cX6_needed 7 = .ok (.iaload, 1) := dk_46 (dk_at dksX6_needed_0 7 rfl rfl)
theorem dX6_needed_8 : decode cX6_needed 8 = .ok (.ifCond .ge 11, 3) := dk_156 0 11 (dk_at dksX6_needed_0 8 rfl rfl)
theorem dX6_needed_11 : decode cX6_needed 11 = .ok (.iconst 1, 1) := dk_4 (dk_at dksX6_needed_0 11 rfl rfl)
theorem dX6_needed_12 : decode cX6_needed 12 = .ok (.iload_n 2, 1) := dk_28 (dk_at dksX6_needed_0 12 rfl rfl)
theorem dX6_needed_13 : decode cX6_needed 13 = .ok (.iconst 4, 1) := dk_7 (dk_at dksX6_needed_0 13 rfl rfl)
theorem dX6_needed_14 : decode cX6_needed 14 = .ok (.idiv, 1) := dk_108 (dk_at dksX6_needed_0 14 rfl rfl)
theorem dX6_needed_15 : decode cX6_needed 15 = .ok (.iadd, 1) := dk_96 (dk_at dksX6_needed_0 15 rfl rfl)
theorem dX6_needed_16 : decode cX6_needed 16 = .ok (.goto 11, 3) := dk_167 0 11 (dk_at dksX6_needed_0 16 rfl rfl)
theorem dX6_needed_19 : decode cX6_needed 19 = .ok (.aload_n 0, 1) := dk_42 (dk_at dksX6_needed_0 19 rfl rfl)
theorem dX6_needed_20 : decode cX6_needed 20 = .ok (.iconst 0, 1) := dk_3 (dk_at dksX6_needed_0 20 rfl rfl)
theorem dX6_needed_21 : decode cX6_needed 21 = .ok (.iload_n 1, 1) := dk_27 (dk_at dksX6_needed_0 21 rfl rfl)
theorem dX6_needed_22 : decode cX6_needed 22 = .ok (.iload_n 2, 1) := dk_28 (dk_at dksX6_needed_0 22 rfl rfl)
theorem dX6_needed_23 : decode cX6_needed 23 = .ok (.iload_n 3, 1) := dk_29 (dk_at dksX6_needed_0 23 rfl rfl)
theorem dX6_needed_24 : decode cX6_needed 24 = .ok (.invokevirtual 189, 3) := dk_182 0 189 (dk_at dksX6_needed_1 0 rfl rfl)
theorem dX6_needed_27 : decode cX6_needed 27 = .ok (.iconst 0, 1) := dk_3 (dk_at dksX6_needed_1 3 rfl rfl)
theorem dX6_needed_28 : decode cX6_needed 28 = .ok (.bipush 99, 2) := dk_16 99 (dk_at dksX6_needed_1 4 rfl rfl)
theorem dX6_needed_30 : decode cX6_needed 30 = .ok (.invokestatic 193, 3) := dk_184 0 193 (dk_at dksX6_needed_1 6 rfl rfl)
theorem dX6_needed_33 : decode cX6_needed 33 = .ok (.ireturn, 1) := dk_172 (dk_at dksX6_needed_1 9 rfl rfl)
abbrev cX6_worked : ByteArray := prog_30_method_43_code
def yX6_worked : MethodName := ⟨RX6, "worked", "(IIII)I"⟩
def dkwX6_worked_1 : List UInt8 := [182, 0, 185, 172]
abbrev dktX6_worked_1 : List UInt8 := dkwX6_worked_1 ++ []
def dkwX6_worked_0 : List UInt8 := [42, 17, 0, 231, 16, 50, 27, 104, 96, 42, 180, 0, 7, 17, 0, 179, 27, 96, 46, 27, 28, 29, 21, 4]
abbrev dktX6_worked_0 : List UInt8 := dkwX6_worked_0 ++ dktX6_worked_1
theorem dksX6_worked_0 : cX6_worked.data.toList.drop 0 = dktX6_worked_0 := by decide +kernel
theorem dksX6_worked_1 : cX6_worked.data.toList.drop 24 = dktX6_worked_1 := dk_seg dksX6_worked_0 24 rfl rfl
theorem dX6_worked_0 : decode cX6_worked 0 = .ok (.aload_n 0, 1) := dk_42 (dk_at dksX6_worked_0 0 rfl rfl)
theorem dX6_worked_1 : decode cX6_worked 1 = .ok (.sipush 231, 3) := dk_17 0 231 (dk_at dksX6_worked_0 1 rfl rfl)
theorem dX6_worked_4 : decode cX6_worked 4 = .ok (.bipush 50, 2) := dk_16 50 (dk_at dksX6_worked_0 4 rfl rfl)
theorem dX6_worked_6 : decode cX6_worked 6 = .ok (.iload_n 1, 1) := dk_27 (dk_at dksX6_worked_0 6 rfl rfl)
theorem dX6_worked_7 : decode cX6_worked 7 = .ok (.imul, 1) := dk_104 (dk_at dksX6_worked_0 7 rfl rfl)
theorem dX6_worked_8 : decode cX6_worked 8 = .ok (.iadd, 1) := dk_96 (dk_at dksX6_worked_0 8 rfl rfl)
theorem dX6_worked_9 : decode cX6_worked 9 = .ok (.aload_n 0, 1) := dk_42 (dk_at dksX6_worked_0 9 rfl rfl)
theorem dX6_worked_10 : decode cX6_worked 10 = .ok (.getfield 7, 3) := dk_180 0 7 (dk_at dksX6_worked_0 10 rfl rfl)
theorem dX6_worked_13 : decode cX6_worked 13 = .ok (.sipush 179, 3) := dk_17 0 179 (dk_at dksX6_worked_0 13 rfl rfl)
theorem dX6_worked_16 : decode cX6_worked 16 = .ok (.iload_n 1, 1) := dk_27 (dk_at dksX6_worked_0 16 rfl rfl)
theorem dX6_worked_17 : decode cX6_worked 17 = .ok (.iadd, 1) := dk_96 (dk_at dksX6_worked_0 17 rfl rfl)
theorem dX6_worked_18 : decode cX6_worked 18 = .ok (.iaload, 1) := dk_46 (dk_at dksX6_worked_0 18 rfl rfl)
theorem dX6_worked_19 : decode cX6_worked 19 = .ok (.iload_n 1, 1) := dk_27 (dk_at dksX6_worked_0 19 rfl rfl)
theorem dX6_worked_20 : decode cX6_worked 20 = .ok (.iload_n 2, 1) := dk_28 (dk_at dksX6_worked_0 20 rfl rfl)
theorem dX6_worked_21 : decode cX6_worked 21 = .ok (.iload_n 3, 1) := dk_29 (dk_at dksX6_worked_0 21 rfl rfl)
theorem dX6_worked_22 : decode cX6_worked 22 = .ok (.iload 4, 2) := dk_21 4 (dk_at dksX6_worked_0 22 rfl rfl)
theorem dX6_worked_24 : decode cX6_worked 24 = .ok (.invokevirtual 185, 3) := dk_182 0 185 (dk_at dksX6_worked_1 0 rfl rfl)
theorem dX6_worked_27 : decode cX6_worked 27 = .ok (.ireturn, 1) := dk_172 (dk_at dksX6_worked_1 3 rfl rfl)
abbrev cX6_readsText : ByteArray := prog_30_method_42_code
def yX6_readsText : MethodName := ⟨RX6, "readsText", "(IIIIII)I"⟩
def dkwX6_readsText_3 : List UInt8 := [180, 0, 125, 162, 0, 7, 4, 167, 0, 4, 3, 181, 0, 128, 21, 7, 172]
abbrev dktX6_readsText_3 : List UInt8 := dkwX6_readsText_3 ++ []
def dkwX6_readsText_2 : List UInt8 := [181, 0, 128, 42, 182, 0, 167, 54, 7, 42, 42, 180, 0, 128, 154, 0, 14, 42, 180, 0, 121, 42]
abbrev dktX6_readsText_2 : List UInt8 := dkwX6_readsText_2 ++ dktX6_readsText_3
def dkwX6_readsText_1 : List UInt8 := [181, 0, 139, 42, 21, 4, 181, 0, 152, 42, 21, 5, 181, 0, 155, 42, 21, 6, 181, 0, 158, 42, 3]
abbrev dktX6_readsText_1 : List UInt8 := dkwX6_readsText_1 ++ dktX6_readsText_2
def dkwX6_readsText_0 : List UInt8 := [42, 27, 181, 0, 132, 42, 28, 181, 0, 125, 42, 3, 181, 0, 121, 42, 3, 181, 0, 161, 42, 29]
abbrev dktX6_readsText_0 : List UInt8 := dkwX6_readsText_0 ++ dktX6_readsText_1
theorem dksX6_readsText_0 : cX6_readsText.data.toList.drop 0 = dktX6_readsText_0 := by decide +kernel
theorem dksX6_readsText_1 : cX6_readsText.data.toList.drop 22 = dktX6_readsText_1 := dk_seg dksX6_readsText_0 22 rfl rfl
theorem dksX6_readsText_2 : cX6_readsText.data.toList.drop 45 = dktX6_readsText_2 := dk_seg dksX6_readsText_1 23 rfl rfl
theorem dksX6_readsText_3 : cX6_readsText.data.toList.drop 67 = dktX6_readsText_3 := dk_seg dksX6_readsText_2 22 rfl rfl
theorem dX6_readsText_0 : decode cX6_readsText 0 = .ok (.aload_n 0, 1) := dk_42 (dk_at dksX6_readsText_0 0 rfl rfl)
theorem dX6_readsText_1 : decode cX6_readsText 1 = .ok (.iload_n 1, 1) := dk_27 (dk_at dksX6_readsText_0 1 rfl rfl)
theorem dX6_readsText_2 : decode cX6_readsText 2 = .ok (.putfield 132, 3) := dk_181 0 132 (dk_at dksX6_readsText_0 2 rfl rfl)
theorem dX6_readsText_5 : decode cX6_readsText 5 = .ok (.aload_n 0, 1) := dk_42 (dk_at dksX6_readsText_0 5 rfl rfl)
theorem dX6_readsText_6 : decode cX6_readsText 6 = .ok (.iload_n 2, 1) := dk_28 (dk_at dksX6_readsText_0 6 rfl rfl)
theorem dX6_readsText_7 : decode cX6_readsText 7 = .ok (.putfield 125, 3) := dk_181 0 125 (dk_at dksX6_readsText_0 7 rfl rfl)
theorem dX6_readsText_10 : decode cX6_readsText 10 = .ok (.aload_n 0, 1) := dk_42 (dk_at dksX6_readsText_0 10 rfl rfl)
theorem dX6_readsText_11 : decode cX6_readsText 11 = .ok (.iconst 0, 1) := dk_3 (dk_at dksX6_readsText_0 11 rfl rfl)
theorem dX6_readsText_12 : decode cX6_readsText 12 = .ok (.putfield 121, 3) := dk_181 0 121 (dk_at dksX6_readsText_0 12 rfl rfl)
theorem dX6_readsText_15 : decode cX6_readsText 15 = .ok (.aload_n 0, 1) := dk_42 (dk_at dksX6_readsText_0 15 rfl rfl)
theorem dX6_readsText_16 : decode cX6_readsText 16 = .ok (.iconst 0, 1) := dk_3 (dk_at dksX6_readsText_0 16 rfl rfl)
theorem dX6_readsText_17 : decode cX6_readsText 17 = .ok (.putfield 161, 3) := dk_181 0 161 (dk_at dksX6_readsText_0 17 rfl rfl)
theorem dX6_readsText_20 : decode cX6_readsText 20 = .ok (.aload_n 0, 1) := dk_42 (dk_at dksX6_readsText_0 20 rfl rfl)
theorem dX6_readsText_21 : decode cX6_readsText 21 = .ok (.iload_n 3, 1) := dk_29 (dk_at dksX6_readsText_0 21 rfl rfl)
theorem dX6_readsText_22 : decode cX6_readsText 22 = .ok (.putfield 139, 3) := dk_181 0 139 (dk_at dksX6_readsText_1 0 rfl rfl)
theorem dX6_readsText_25 : decode cX6_readsText 25 = .ok (.aload_n 0, 1) := dk_42 (dk_at dksX6_readsText_1 3 rfl rfl)
theorem dX6_readsText_26 : decode cX6_readsText 26 = .ok (.iload 4, 2) := dk_21 4 (dk_at dksX6_readsText_1 4 rfl rfl)
theorem dX6_readsText_28 : decode cX6_readsText 28 = .ok (.putfield 152, 3) := dk_181 0 152 (dk_at dksX6_readsText_1 6 rfl rfl)
theorem dX6_readsText_31 : decode cX6_readsText 31 = .ok (.aload_n 0, 1) := dk_42 (dk_at dksX6_readsText_1 9 rfl rfl)
theorem dX6_readsText_32 : decode cX6_readsText 32 = .ok (.iload 5, 2) := dk_21 5 (dk_at dksX6_readsText_1 10 rfl rfl)
theorem dX6_readsText_34 : decode cX6_readsText 34 = .ok (.putfield 155, 3) := dk_181 0 155 (dk_at dksX6_readsText_1 12 rfl rfl)
theorem dX6_readsText_37 : decode cX6_readsText 37 = .ok (.aload_n 0, 1) := dk_42 (dk_at dksX6_readsText_1 15 rfl rfl)
theorem dX6_readsText_38 : decode cX6_readsText 38 = .ok (.iload 6, 2) := dk_21 6 (dk_at dksX6_readsText_1 16 rfl rfl)
theorem dX6_readsText_40 : decode cX6_readsText 40 = .ok (.putfield 158, 3) := dk_181 0 158 (dk_at dksX6_readsText_1 18 rfl rfl)
theorem dX6_readsText_43 : decode cX6_readsText 43 = .ok (.aload_n 0, 1) := dk_42 (dk_at dksX6_readsText_1 21 rfl rfl)
theorem dX6_readsText_44 : decode cX6_readsText 44 = .ok (.iconst 0, 1) := dk_3 (dk_at dksX6_readsText_1 22 rfl rfl)
theorem dX6_readsText_45 : decode cX6_readsText 45 = .ok (.putfield 128, 3) := dk_181 0 128 (dk_at dksX6_readsText_2 0 rfl rfl)
theorem dX6_readsText_48 : decode cX6_readsText 48 = .ok (.aload_n 0, 1) := dk_42 (dk_at dksX6_readsText_2 3 rfl rfl)
theorem dX6_readsText_49 : decode cX6_readsText 49 = .ok (.invokevirtual 167, 3) := dk_182 0 167 (dk_at dksX6_readsText_2 4 rfl rfl)
theorem dX6_readsText_52 : decode cX6_readsText 52 = .ok (.istore 7, 2) := dk_54 7 (dk_at dksX6_readsText_2 7 rfl rfl)
theorem dX6_readsText_54 : decode cX6_readsText 54 = .ok (.aload_n 0, 1) := dk_42 (dk_at dksX6_readsText_2 9 rfl rfl)
theorem dX6_readsText_55 : decode cX6_readsText 55 = .ok (.aload_n 0, 1) := dk_42 (dk_at dksX6_readsText_2 10 rfl rfl)
theorem dX6_readsText_56 : decode cX6_readsText 56 = .ok (.getfield 128, 3) := dk_180 0 128 (dk_at dksX6_readsText_2 11 rfl rfl)
theorem dX6_readsText_59 : decode cX6_readsText 59 = .ok (.ifCond .ne 14, 3) := dk_154 0 14 (dk_at dksX6_readsText_2 14 rfl rfl)
theorem dX6_readsText_62 : decode cX6_readsText 62 = .ok (.aload_n 0, 1) := dk_42 (dk_at dksX6_readsText_2 17 rfl rfl)
theorem dX6_readsText_63 : decode cX6_readsText 63 = .ok (.getfield 121, 3) := dk_180 0 121 (dk_at dksX6_readsText_2 18 rfl rfl)
theorem dX6_readsText_66 : decode cX6_readsText 66 = .ok (.aload_n 0, 1) := dk_42 (dk_at dksX6_readsText_2 21 rfl rfl)
theorem dX6_readsText_67 : decode cX6_readsText 67 = .ok (.getfield 125, 3) := dk_180 0 125 (dk_at dksX6_readsText_3 0 rfl rfl)
theorem dX6_readsText_70 : decode cX6_readsText 70 = .ok (.if_icmp .ge 7, 3) := dk_162 0 7 (dk_at dksX6_readsText_3 3 rfl rfl)
theorem dX6_readsText_73 : decode cX6_readsText 73 = .ok (.iconst 1, 1) := dk_4 (dk_at dksX6_readsText_3 6 rfl rfl)
theorem dX6_readsText_74 : decode cX6_readsText 74 = .ok (.goto 4, 3) := dk_167 0 4 (dk_at dksX6_readsText_3 7 rfl rfl)
theorem dX6_readsText_77 : decode cX6_readsText 77 = .ok (.iconst 0, 1) := dk_3 (dk_at dksX6_readsText_3 10 rfl rfl)
theorem dX6_readsText_78 : decode cX6_readsText 78 = .ok (.putfield 128, 3) := dk_181 0 128 (dk_at dksX6_readsText_3 11 rfl rfl)
theorem dX6_readsText_81 : decode cX6_readsText 81 = .ok (.iload 7, 2) := dk_21 7 (dk_at dksX6_readsText_3 14 rfl rfl)
theorem dX6_readsText_83 : decode cX6_readsText 83 = .ok (.ireturn, 1) := dk_172 (dk_at dksX6_readsText_3 16 rfl rfl)
abbrev cX6_any : ByteArray := prog_30_method_41_code
def yX6_any : MethodName := ⟨RX6, "any", "()I"⟩
def dkwX6_any_1 : List UInt8 := [153, 0, 7, 4, 167, 0, 4, 3, 60, 167, 255, 228, 27, 172]
abbrev dktX6_any_1 : List UInt8 := dkwX6_any_1 ++ []
def dkwX6_any_0 : List UInt8 := [42, 182, 0, 182, 60, 42, 16, 124, 182, 0, 170, 153, 0, 25, 42, 182, 0, 182, 61, 27, 154, 0, 7, 28]
abbrev dktX6_any_0 : List UInt8 := dkwX6_any_0 ++ dktX6_any_1
theorem dksX6_any_0 : cX6_any.data.toList.drop 0 = dktX6_any_0 := by decide +kernel
theorem dksX6_any_1 : cX6_any.data.toList.drop 24 = dktX6_any_1 := dk_seg dksX6_any_0 24 rfl rfl
theorem dX6_any_0 : decode cX6_any 0 = .ok (.aload_n 0, 1) := dk_42 (dk_at dksX6_any_0 0 rfl rfl)
theorem dX6_any_1 : decode cX6_any 1 = .ok (.invokevirtual 182, 3) := dk_182 0 182 (dk_at dksX6_any_0 1 rfl rfl)
theorem dX6_any_4 : decode cX6_any 4 = .ok (.istore_n 1, 1) := dk_60 (dk_at dksX6_any_0 4 rfl rfl)
theorem dX6_any_5 : decode cX6_any 5 = .ok (.aload_n 0, 1) := dk_42 (dk_at dksX6_any_0 5 rfl rfl)
theorem dX6_any_6 : decode cX6_any 6 = .ok (.bipush 124, 2) := dk_16 124 (dk_at dksX6_any_0 6 rfl rfl)
theorem dX6_any_8 : decode cX6_any 8 = .ok (.invokevirtual 170, 3) := dk_182 0 170 (dk_at dksX6_any_0 8 rfl rfl)
theorem dX6_any_11 : decode cX6_any 11 = .ok (.ifCond .eq 25, 3) := dk_153 0 25 (dk_at dksX6_any_0 11 rfl rfl)
theorem dX6_any_14 : decode cX6_any 14 = .ok (.aload_n 0, 1) := dk_42 (dk_at dksX6_any_0 14 rfl rfl)
theorem dX6_any_15 : decode cX6_any 15 = .ok (.invokevirtual 182, 3) := dk_182 0 182 (dk_at dksX6_any_0 15 rfl rfl)
theorem dX6_any_18 : decode cX6_any 18 = .ok (.istore_n 2, 1) := dk_61 (dk_at dksX6_any_0 18 rfl rfl)
theorem dX6_any_19 : decode cX6_any 19 = .ok (.iload_n 1, 1) := dk_27 (dk_at dksX6_any_0 19 rfl rfl)
theorem dX6_any_20 : decode cX6_any 20 = .ok (.ifCond .ne 7, 3) := dk_154 0 7 (dk_at dksX6_any_0 20 rfl rfl)
theorem dX6_any_23 : decode cX6_any 23 = .ok (.iload_n 2, 1) := dk_28 (dk_at dksX6_any_0 23 rfl rfl)
theorem dX6_any_24 : decode cX6_any 24 = .ok (.ifCond .eq 7, 3) := dk_153 0 7 (dk_at dksX6_any_1 0 rfl rfl)
theorem dX6_any_27 : decode cX6_any 27 = .ok (.iconst 1, 1) := dk_4 (dk_at dksX6_any_1 3 rfl rfl)
theorem dX6_any_28 : decode cX6_any 28 = .ok (.goto 4, 3) := dk_167 0 4 (dk_at dksX6_any_1 4 rfl rfl)
theorem dX6_any_31 : decode cX6_any 31 = .ok (.iconst 0, 1) := dk_3 (dk_at dksX6_any_1 7 rfl rfl)
theorem dX6_any_32 : decode cX6_any 32 = .ok (.istore_n 1, 1) := dk_60 (dk_at dksX6_any_1 8 rfl rfl)
theorem dX6_any_33 : decode cX6_any 33 = .ok (.goto (-28), 3) := dk_167 255 228 (dk_at dksX6_any_1 9 rfl rfl)
theorem dX6_any_36 : decode cX6_any 36 = .ok (.iload_n 1, 1) := dk_27 (dk_at dksX6_any_1 12 rfl rfl)
theorem dX6_any_37 : decode cX6_any 37 = .ok (.ireturn, 1) := dk_172 (dk_at dksX6_any_1 13 rfl rfl)
abbrev cX6_both : ByteArray := prog_30_method_40_code
def yX6_both : MethodName := ⟨RX6, "both", "()I"⟩
def dkwX6_both_1 : List UInt8 := [153, 0, 7, 4, 167, 0, 4, 3, 60, 167, 255, 228, 27, 172]
abbrev dktX6_both_1 : List UInt8 := dkwX6_both_1 ++ []
def dkwX6_both_0 : List UInt8 := [42, 182, 0, 179, 60, 42, 16, 38, 182, 0, 170, 153, 0, 25, 42, 182, 0, 179, 61, 27, 153, 0, 11, 28]
abbrev dktX6_both_0 : List UInt8 := dkwX6_both_0 ++ dktX6_both_1
theorem dksX6_both_0 : cX6_both.data.toList.drop 0 = dktX6_both_0 := by decide +kernel
theorem dksX6_both_1 : cX6_both.data.toList.drop 24 = dktX6_both_1 := dk_seg dksX6_both_0 24 rfl rfl
theorem dX6_both_0 : decode cX6_both 0 = .ok (.aload_n 0, 1) := dk_42 (dk_at dksX6_both_0 0 rfl rfl)
theorem dX6_both_1 : decode cX6_both 1 = .ok (.invokevirtual 179, 3) := dk_182 0 179 (dk_at dksX6_both_0 1 rfl rfl)
theorem dX6_both_4 : decode cX6_both 4 = .ok (.istore_n 1, 1) := dk_60 (dk_at dksX6_both_0 4 rfl rfl)
theorem dX6_both_5 : decode cX6_both 5 = .ok (.aload_n 0, 1) := dk_42 (dk_at dksX6_both_0 5 rfl rfl)
theorem dX6_both_6 : decode cX6_both 6 = .ok (.bipush 38, 2) := dk_16 38 (dk_at dksX6_both_0 6 rfl rfl)
theorem dX6_both_8 : decode cX6_both 8 = .ok (.invokevirtual 170, 3) := dk_182 0 170 (dk_at dksX6_both_0 8 rfl rfl)
theorem dX6_both_11 : decode cX6_both 11 = .ok (.ifCond .eq 25, 3) := dk_153 0 25 (dk_at dksX6_both_0 11 rfl rfl)
theorem dX6_both_14 : decode cX6_both 14 = .ok (.aload_n 0, 1) := dk_42 (dk_at dksX6_both_0 14 rfl rfl)
theorem dX6_both_15 : decode cX6_both 15 = .ok (.invokevirtual 179, 3) := dk_182 0 179 (dk_at dksX6_both_0 15 rfl rfl)
theorem dX6_both_18 : decode cX6_both 18 = .ok (.istore_n 2, 1) := dk_61 (dk_at dksX6_both_0 18 rfl rfl)
theorem dX6_both_19 : decode cX6_both 19 = .ok (.iload_n 1, 1) := dk_27 (dk_at dksX6_both_0 19 rfl rfl)
theorem dX6_both_20 : decode cX6_both 20 = .ok (.ifCond .eq 11, 3) := dk_153 0 11 (dk_at dksX6_both_0 20 rfl rfl)
theorem dX6_both_23 : decode cX6_both 23 = .ok (.iload_n 2, 1) := dk_28 (dk_at dksX6_both_0 23 rfl rfl)
theorem dX6_both_24 : decode cX6_both 24 = .ok (.ifCond .eq 7, 3) := dk_153 0 7 (dk_at dksX6_both_1 0 rfl rfl)
theorem dX6_both_27 : decode cX6_both 27 = .ok (.iconst 1, 1) := dk_4 (dk_at dksX6_both_1 3 rfl rfl)
theorem dX6_both_28 : decode cX6_both 28 = .ok (.goto 4, 3) := dk_167 0 4 (dk_at dksX6_both_1 4 rfl rfl)
theorem dX6_both_31 : decode cX6_both 31 = .ok (.iconst 0, 1) := dk_3 (dk_at dksX6_both_1 7 rfl rfl)
theorem dX6_both_32 : decode cX6_both 32 = .ok (.istore_n 1, 1) := dk_60 (dk_at dksX6_both_1 8 rfl rfl)
theorem dX6_both_33 : decode cX6_both 33 = .ok (.goto (-28), 3) := dk_167 255 228 (dk_at dksX6_both_1 9 rfl rfl)
theorem dX6_both_36 : decode cX6_both 36 = .ok (.iload_n 1, 1) := dk_27 (dk_at dksX6_both_1 12 rfl rfl)
theorem dX6_both_37 : decode cX6_both 37 = .ok (.ireturn, 1) := dk_172 (dk_at dksX6_both_1 13 rfl rfl)
abbrev cX6_test : ByteArray := prog_30_method_39_code
def yX6_test : MethodName := ⟨RX6, "test", "()I"⟩
def dkwX6_test_4 : List UInt8 := [54, 4, 21, 4, 153, 0, 7, 4, 167, 0, 4, 3, 172]
abbrev dktX6_test_4 : List UInt8 := dkwX6_test_4 ++ []
def dkwX6_test_3 : List UInt8 := [27, 29, 160, 0, 7, 4, 167, 0, 17, 3, 167, 0, 13, 27, 29, 164, 0, 7, 4, 167, 0, 4, 3]
abbrev dktX6_test_3 : List UInt8 := dkwX6_test_3 ++ dktX6_test_4
def dkwX6_test_2 : List UInt8 := [16, 60, 160, 0, 16, 27, 29, 162, 0, 7, 4, 167, 0, 36, 3, 167, 0, 32, 28, 16, 61, 160, 0, 16]
abbrev dktX6_test_2 : List UInt8 := dkwX6_test_2 ++ dktX6_test_3
def dkwX6_test_1 : List UInt8 := [16, 62, 159, 0, 5, 27, 172, 42, 89, 180, 0, 121, 4, 96, 181, 0, 121, 42, 182, 0, 176, 62, 28]
abbrev dktX6_test_1 : List UInt8 := dkwX6_test_1 ++ dktX6_test_2
def dkwX6_test_0 : List UInt8 := [42, 182, 0, 176, 60, 42, 182, 0, 135, 61, 28, 16, 60, 159, 0, 17, 28, 16, 61, 159, 0, 11, 28]
abbrev dktX6_test_0 : List UInt8 := dkwX6_test_0 ++ dktX6_test_1
theorem dksX6_test_0 : cX6_test.data.toList.drop 0 = dktX6_test_0 := by decide +kernel
theorem dksX6_test_1 : cX6_test.data.toList.drop 23 = dktX6_test_1 := dk_seg dksX6_test_0 23 rfl rfl
theorem dksX6_test_2 : cX6_test.data.toList.drop 46 = dktX6_test_2 := dk_seg dksX6_test_1 23 rfl rfl
theorem dksX6_test_3 : cX6_test.data.toList.drop 70 = dktX6_test_3 := dk_seg dksX6_test_2 24 rfl rfl
theorem dksX6_test_4 : cX6_test.data.toList.drop 93 = dktX6_test_4 := dk_seg dksX6_test_3 23 rfl rfl
theorem dX6_test_0 : decode cX6_test 0 = .ok (.aload_n 0, 1) := dk_42 (dk_at dksX6_test_0 0 rfl rfl)
theorem dX6_test_1 : decode cX6_test 1 = .ok (.invokevirtual 176, 3) := dk_182 0 176 (dk_at dksX6_test_0 1 rfl rfl)
theorem dX6_test_4 : decode cX6_test 4 = .ok (.istore_n 1, 1) := dk_60 (dk_at dksX6_test_0 4 rfl rfl)
theorem dX6_test_5 : decode cX6_test 5 = .ok (.aload_n 0, 1) := dk_42 (dk_at dksX6_test_0 5 rfl rfl)
theorem dX6_test_6 : decode cX6_test 6 = .ok (.invokevirtual 135, 3) := dk_182 0 135 (dk_at dksX6_test_0 6 rfl rfl)
theorem dX6_test_9 : decode cX6_test 9 = .ok (.istore_n 2, 1) := dk_61 (dk_at dksX6_test_0 9 rfl rfl)
theorem dX6_test_10 : decode cX6_test 10 = .ok (.iload_n 2, 1) := dk_28 (dk_at dksX6_test_0 10 rfl rfl)
theorem dX6_test_11 : decode cX6_test 11 = .ok (.bipush 60, 2) := dk_16 60 (dk_at dksX6_test_0 11 rfl rfl)
theorem dX6_test_13 : decode cX6_test 13 = .ok (.if_icmp .eq 17, 3) := dk_159 0 17 (dk_at dksX6_test_0 13 rfl rfl)
theorem dX6_test_16 : decode cX6_test 16 = .ok (.iload_n 2, 1) := dk_28 (dk_at dksX6_test_0 16 rfl rfl)
theorem dX6_test_17 : decode cX6_test 17 = .ok (.bipush 61, 2) := dk_16 61 (dk_at dksX6_test_0 17 rfl rfl)
theorem dX6_test_19 : decode cX6_test 19 = .ok (.if_icmp .eq 11, 3) := dk_159 0 11 (dk_at dksX6_test_0 19 rfl rfl)
theorem dX6_test_22 : decode cX6_test 22 = .ok (.iload_n 2, 1) := dk_28 (dk_at dksX6_test_0 22 rfl rfl)
theorem dX6_test_23 : decode cX6_test 23 = .ok (.bipush 62, 2) := dk_16 62 (dk_at dksX6_test_1 0 rfl rfl)
theorem dX6_test_25 : decode cX6_test 25 = .ok (.if_icmp .eq 5, 3) := dk_159 0 5 (dk_at dksX6_test_1 2 rfl rfl)
theorem dX6_test_28 : decode cX6_test 28 = .ok (.iload_n 1, 1) := dk_27 (dk_at dksX6_test_1 5 rfl rfl)
theorem dX6_test_29 : decode cX6_test 29 = .ok (.ireturn, 1) := dk_172 (dk_at dksX6_test_1 6 rfl rfl)
theorem dX6_test_30 : decode cX6_test 30 = .ok (.aload_n 0, 1) := dk_42 (dk_at dksX6_test_1 7 rfl rfl)
theorem dX6_test_31 : decode cX6_test 31 = .ok (.dup, 1) := dk_89 (dk_at dksX6_test_1 8 rfl rfl)
theorem dX6_test_32 : decode cX6_test 32 = .ok (.getfield 121, 3) := dk_180 0 121 (dk_at dksX6_test_1 9 rfl rfl)
theorem dX6_test_35 : decode cX6_test 35 = .ok (.iconst 1, 1) := dk_4 (dk_at dksX6_test_1 12 rfl rfl)
theorem dX6_test_36 : decode cX6_test 36 = .ok (.iadd, 1) := dk_96 (dk_at dksX6_test_1 13 rfl rfl)
theorem dX6_test_37 : decode cX6_test 37 = .ok (.putfield 121, 3) := dk_181 0 121 (dk_at dksX6_test_1 14 rfl rfl)
theorem dX6_test_40 : decode cX6_test 40 = .ok (.aload_n 0, 1) := dk_42 (dk_at dksX6_test_1 17 rfl rfl)
theorem dX6_test_41 : decode cX6_test 41 = .ok (.invokevirtual 176, 3) := dk_182 0 176 (dk_at dksX6_test_1 18 rfl rfl)
theorem dX6_test_44 : decode cX6_test 44 = .ok (.istore_n 3, 1) := dk_62 (dk_at dksX6_test_1 21 rfl rfl)
theorem dX6_test_45 : decode cX6_test 45 = .ok (.iload_n 2, 1) := dk_28 (dk_at dksX6_test_1 22 rfl rfl)
theorem dX6_test_46 : decode cX6_test 46 = .ok (.bipush 60, 2) := dk_16 60 (dk_at dksX6_test_2 0 rfl rfl)
theorem dX6_test_48 : decode cX6_test 48 = .ok (.if_icmp .ne 16, 3) := dk_160 0 16 (dk_at dksX6_test_2 2 rfl rfl)
theorem dX6_test_51 : decode cX6_test 51 = .ok (.iload_n 1, 1) := dk_27 (dk_at dksX6_test_2 5 rfl rfl)
theorem dX6_test_52 : decode cX6_test 52 = .ok (.iload_n 3, 1) := dk_29 (dk_at dksX6_test_2 6 rfl rfl)
theorem dX6_test_53 : decode cX6_test 53 = .ok (.if_icmp .ge 7, 3) := dk_162 0 7 (dk_at dksX6_test_2 7 rfl rfl)
theorem dX6_test_56 : decode cX6_test 56 = .ok (.iconst 1, 1) := dk_4 (dk_at dksX6_test_2 10 rfl rfl)
theorem dX6_test_57 : decode cX6_test 57 = .ok (.goto 36, 3) := dk_167 0 36 (dk_at dksX6_test_2 11 rfl rfl)
theorem dX6_test_60 : decode cX6_test 60 = .ok (.iconst 0, 1) := dk_3 (dk_at dksX6_test_2 14 rfl rfl)
theorem dX6_test_61 : decode cX6_test 61 = .ok (.goto 32, 3) := dk_167 0 32 (dk_at dksX6_test_2 15 rfl rfl)
theorem dX6_test_64 : decode cX6_test 64 = .ok (.iload_n 2, 1) := dk_28 (dk_at dksX6_test_2 18 rfl rfl)
theorem dX6_test_65 : decode cX6_test 65 = .ok (.bipush 61, 2) := dk_16 61 (dk_at dksX6_test_2 19 rfl rfl)
theorem dX6_test_67 : decode cX6_test 67 = .ok (.if_icmp .ne 16, 3) := dk_160 0 16 (dk_at dksX6_test_2 21 rfl rfl)
theorem dX6_test_70 : decode cX6_test 70 = .ok (.iload_n 1, 1) := dk_27 (dk_at dksX6_test_3 0 rfl rfl)
theorem dX6_test_71 : decode cX6_test 71 = .ok (.iload_n 3, 1) := dk_29 (dk_at dksX6_test_3 1 rfl rfl)
theorem dX6_test_72 : decode cX6_test 72 = .ok (.if_icmp .ne 7, 3) := dk_160 0 7 (dk_at dksX6_test_3 2 rfl rfl)
theorem dX6_test_75 : decode cX6_test 75 = .ok (.iconst 1, 1) := dk_4 (dk_at dksX6_test_3 5 rfl rfl)
theorem dX6_test_76 : decode cX6_test 76 = .ok (.goto 17, 3) := dk_167 0 17 (dk_at dksX6_test_3 6 rfl rfl)
theorem dX6_test_79 : decode cX6_test 79 = .ok (.iconst 0, 1) := dk_3 (dk_at dksX6_test_3 9 rfl rfl)
theorem dX6_test_80 : decode cX6_test 80 = .ok (.goto 13, 3) := dk_167 0 13 (dk_at dksX6_test_3 10 rfl rfl)
theorem dX6_test_83 : decode cX6_test 83 = .ok (.iload_n 1, 1) := dk_27 (dk_at dksX6_test_3 13 rfl rfl)
theorem dX6_test_84 : decode cX6_test 84 = .ok (.iload_n 3, 1) := dk_29 (dk_at dksX6_test_3 14 rfl rfl)
theorem dX6_test_85 : decode cX6_test 85 = .ok (.if_icmp .le 7, 3) := dk_164 0 7 (dk_at dksX6_test_3 15 rfl rfl)
theorem dX6_test_88 : decode cX6_test 88 = .ok (.iconst 1, 1) := dk_4 (dk_at dksX6_test_3 18 rfl rfl)
theorem dX6_test_89 : decode cX6_test 89 = .ok (.goto 4, 3) := dk_167 0 4 (dk_at dksX6_test_3 19 rfl rfl)
theorem dX6_test_92 : decode cX6_test 92 = .ok (.iconst 0, 1) := dk_3 (dk_at dksX6_test_3 22 rfl rfl)
theorem dX6_test_93 : decode cX6_test 93 = .ok (.istore 4, 2) := dk_54 4 (dk_at dksX6_test_4 0 rfl rfl)
theorem dX6_test_95 : decode cX6_test 95 = .ok (.iload 4, 2) := dk_21 4 (dk_at dksX6_test_4 2 rfl rfl)
theorem dX6_test_97 : decode cX6_test 97 = .ok (.ifCond .eq 7, 3) := dk_153 0 7 (dk_at dksX6_test_4 4 rfl rfl)
theorem dX6_test_100 : decode cX6_test 100 = .ok (.iconst 1, 1) := dk_4 (dk_at dksX6_test_4 7 rfl rfl)
theorem dX6_test_101 : decode cX6_test 101 = .ok (.goto 4, 3) := dk_167 0 4 (dk_at dksX6_test_4 8 rfl rfl)
theorem dX6_test_104 : decode cX6_test 104 = .ok (.iconst 0, 1) := dk_3 (dk_at dksX6_test_4 11 rfl rfl)
theorem dX6_test_105 : decode cX6_test 105 = .ok (.ireturn, 1) := dk_172 (dk_at dksX6_test_4 12 rfl rfl)
abbrev cX6_sum : ByteArray := prog_30_method_38_code
def yX6_sum : MethodName := ⟨RX6, "sum", "()I"⟩
def dkwX6_sum_2 : List UInt8 := [167, 0, 6, 27, 29, 100, 60, 42, 182, 0, 135, 61, 167, 255, 208, 27, 172]
abbrev dktX6_sum_2 : List UInt8 := dkwX6_sum_2 ++ []
def dkwX6_sum_1 : List UInt8 := [180, 0, 121, 4, 96, 181, 0, 121, 42, 182, 0, 173, 62, 28, 16, 43, 160, 0, 9, 27, 29, 96]
abbrev dktX6_sum_1 : List UInt8 := dkwX6_sum_1 ++ dktX6_sum_2
def dkwX6_sum_0 : List UInt8 := [42, 182, 0, 173, 60, 42, 182, 0, 135, 61, 28, 16, 43, 159, 0, 9, 28, 16, 45, 160, 0, 42, 42, 89]
abbrev dktX6_sum_0 : List UInt8 := dkwX6_sum_0 ++ dktX6_sum_1
theorem dksX6_sum_0 : cX6_sum.data.toList.drop 0 = dktX6_sum_0 := by decide +kernel
theorem dksX6_sum_1 : cX6_sum.data.toList.drop 24 = dktX6_sum_1 := dk_seg dksX6_sum_0 24 rfl rfl
theorem dksX6_sum_2 : cX6_sum.data.toList.drop 46 = dktX6_sum_2 := dk_seg dksX6_sum_1 22 rfl rfl
theorem dX6_sum_0 : decode cX6_sum 0 = .ok (.aload_n 0, 1) := dk_42 (dk_at dksX6_sum_0 0 rfl rfl)
theorem dX6_sum_1 : decode cX6_sum 1 = .ok (.invokevirtual 173, 3) := dk_182 0 173 (dk_at dksX6_sum_0 1 rfl rfl)
theorem dX6_sum_4 : decode cX6_sum 4 = .ok (.istore_n 1, 1) := dk_60 (dk_at dksX6_sum_0 4 rfl rfl)
theorem dX6_sum_5 : decode cX6_sum 5 = .ok (.aload_n 0, 1) := dk_42 (dk_at dksX6_sum_0 5 rfl rfl)
theorem dX6_sum_6 : decode cX6_sum 6 = .ok (.invokevirtual 135, 3) := dk_182 0 135 (dk_at dksX6_sum_0 6 rfl rfl)
theorem dX6_sum_9 : decode cX6_sum 9 = .ok (.istore_n 2, 1) := dk_61 (dk_at dksX6_sum_0 9 rfl rfl)
theorem dX6_sum_10 : decode cX6_sum 10 = .ok (.iload_n 2, 1) := dk_28 (dk_at dksX6_sum_0 10 rfl rfl)
theorem dX6_sum_11 : decode cX6_sum 11 = .ok (.bipush 43, 2) := dk_16 43 (dk_at dksX6_sum_0 11 rfl rfl)
theorem dX6_sum_13 : decode cX6_sum 13 = .ok (.if_icmp .eq 9, 3) := dk_159 0 9 (dk_at dksX6_sum_0 13 rfl rfl)
theorem dX6_sum_16 : decode cX6_sum 16 = .ok (.iload_n 2, 1) := dk_28 (dk_at dksX6_sum_0 16 rfl rfl)
theorem dX6_sum_17 : decode cX6_sum 17 = .ok (.bipush 45, 2) := dk_16 45 (dk_at dksX6_sum_0 17 rfl rfl)
theorem dX6_sum_19 : decode cX6_sum 19 = .ok (.if_icmp .ne 42, 3) := dk_160 0 42 (dk_at dksX6_sum_0 19 rfl rfl)
theorem dX6_sum_22 : decode cX6_sum 22 = .ok (.aload_n 0, 1) := dk_42 (dk_at dksX6_sum_0 22 rfl rfl)
theorem dX6_sum_23 : decode cX6_sum 23 = .ok (.dup, 1) := dk_89 (dk_at dksX6_sum_0 23 rfl rfl)
theorem dX6_sum_24 : decode cX6_sum 24 = .ok (.getfield 121, 3) := dk_180 0 121 (dk_at dksX6_sum_1 0 rfl rfl)
theorem dX6_sum_27 : decode cX6_sum 27 = .ok (.iconst 1, 1) := dk_4 (dk_at dksX6_sum_1 3 rfl rfl)
theorem dX6_sum_28 : decode cX6_sum 28 = .ok (.iadd, 1) := dk_96 (dk_at dksX6_sum_1 4 rfl rfl)
theorem dX6_sum_29 : decode cX6_sum 29 = .ok (.putfield 121, 3) := dk_181 0 121 (dk_at dksX6_sum_1 5 rfl rfl)
theorem dX6_sum_32 : decode cX6_sum 32 = .ok (.aload_n 0, 1) := dk_42 (dk_at dksX6_sum_1 8 rfl rfl)
theorem dX6_sum_33 : decode cX6_sum 33 = .ok (.invokevirtual 173, 3) := dk_182 0 173 (dk_at dksX6_sum_1 9 rfl rfl)
theorem dX6_sum_36 : decode cX6_sum 36 = .ok (.istore_n 3, 1) := dk_62 (dk_at dksX6_sum_1 12 rfl rfl)
theorem dX6_sum_37 : decode cX6_sum 37 = .ok (.iload_n 2, 1) := dk_28 (dk_at dksX6_sum_1 13 rfl rfl)
theorem dX6_sum_38 : decode cX6_sum 38 = .ok (.bipush 43, 2) := dk_16 43 (dk_at dksX6_sum_1 14 rfl rfl)
theorem dX6_sum_40 : decode cX6_sum 40 = .ok (.if_icmp .ne 9, 3) := dk_160 0 9 (dk_at dksX6_sum_1 16 rfl rfl)
theorem dX6_sum_43 : decode cX6_sum 43 = .ok (.iload_n 1, 1) := dk_27 (dk_at dksX6_sum_1 19 rfl rfl)
theorem dX6_sum_44 : decode cX6_sum 44 = .ok (.iload_n 3, 1) := dk_29 (dk_at dksX6_sum_1 20 rfl rfl)
theorem dX6_sum_45 : decode cX6_sum 45 = .ok (.iadd, 1) := dk_96 (dk_at dksX6_sum_1 21 rfl rfl)
theorem dX6_sum_46 : decode cX6_sum 46 = .ok (.goto 6, 3) := dk_167 0 6 (dk_at dksX6_sum_2 0 rfl rfl)
theorem dX6_sum_49 : decode cX6_sum 49 = .ok (.iload_n 1, 1) := dk_27 (dk_at dksX6_sum_2 3 rfl rfl)
theorem dX6_sum_50 : decode cX6_sum 50 = .ok (.iload_n 3, 1) := dk_29 (dk_at dksX6_sum_2 4 rfl rfl)
theorem dX6_sum_51 : decode cX6_sum 51 = .ok (.isub, 1) := dk_100 (dk_at dksX6_sum_2 5 rfl rfl)
theorem dX6_sum_52 : decode cX6_sum 52 = .ok (.istore_n 1, 1) := dk_60 (dk_at dksX6_sum_2 6 rfl rfl)
theorem dX6_sum_53 : decode cX6_sum 53 = .ok (.aload_n 0, 1) := dk_42 (dk_at dksX6_sum_2 7 rfl rfl)
theorem dX6_sum_54 : decode cX6_sum 54 = .ok (.invokevirtual 135, 3) := dk_182 0 135 (dk_at dksX6_sum_2 8 rfl rfl)
theorem dX6_sum_57 : decode cX6_sum 57 = .ok (.istore_n 2, 1) := dk_61 (dk_at dksX6_sum_2 11 rfl rfl)
theorem dX6_sum_58 : decode cX6_sum 58 = .ok (.goto (-48), 3) := dk_167 255 208 (dk_at dksX6_sum_2 12 rfl rfl)
theorem dX6_sum_61 : decode cX6_sum 61 = .ok (.iload_n 1, 1) := dk_27 (dk_at dksX6_sum_2 15 rfl rfl)
theorem dX6_sum_62 : decode cX6_sum 62 = .ok (.ireturn, 1) := dk_172 (dk_at dksX6_sum_2 16 rfl rfl)
abbrev cX6_product : ByteArray := prog_30_method_37_code
def yX6_product : MethodName := ⟨RX6, "product", "()I"⟩
def dkwX6_product_3 : List UInt8 := [29, 108, 167, 0, 6, 27, 29, 112, 60, 42, 182, 0, 135, 61, 167, 255, 182, 27, 172]
abbrev dktX6_product_3 : List UInt8 := dkwX6_product_3 ++ []
def dkwX6_product_2 : List UInt8 := [160, 0, 9, 27, 29, 104, 167, 0, 26, 29, 154, 0, 7, 3, 167, 0, 18, 28, 16, 47, 160, 0, 9, 27]
abbrev dktX6_product_2 : List UInt8 := dkwX6_product_2 ++ dktX6_product_3
def dkwX6_product_1 : List UInt8 := [16, 37, 160, 0, 62, 42, 89, 180, 0, 121, 4, 96, 181, 0, 121, 42, 182, 0, 164, 62, 28, 16, 42]
abbrev dktX6_product_1 : List UInt8 := dkwX6_product_1 ++ dktX6_product_2
def dkwX6_product_0 : List UInt8 := [42, 182, 0, 164, 60, 42, 182, 0, 135, 61, 28, 16, 42, 159, 0, 15, 28, 16, 47, 159, 0, 9, 28]
abbrev dktX6_product_0 : List UInt8 := dkwX6_product_0 ++ dktX6_product_1
theorem dksX6_product_0 : cX6_product.data.toList.drop 0 = dktX6_product_0 := by decide +kernel
theorem dksX6_product_1 : cX6_product.data.toList.drop 23 = dktX6_product_1 := dk_seg dksX6_product_0 23 rfl rfl
theorem dksX6_product_2 : cX6_product.data.toList.drop 46 = dktX6_product_2 := dk_seg dksX6_product_1 23 rfl rfl
theorem dksX6_product_3 : cX6_product.data.toList.drop 70 = dktX6_product_3 := dk_seg dksX6_product_2 24 rfl rfl
theorem dX6_product_0 : decode cX6_product 0 = .ok (.aload_n 0, 1) := dk_42 (dk_at dksX6_product_0 0 rfl rfl)
theorem dX6_product_1 : decode cX6_product 1 = .ok (.invokevirtual 164, 3) := dk_182 0 164 (dk_at dksX6_product_0 1 rfl rfl)
theorem dX6_product_4 : decode cX6_product 4 = .ok (.istore_n 1, 1) := dk_60 (dk_at dksX6_product_0 4 rfl rfl)
theorem dX6_product_5 : decode cX6_product 5 = .ok (.aload_n 0, 1) := dk_42 (dk_at dksX6_product_0 5 rfl rfl)
theorem dX6_product_6 : decode cX6_product 6 = .ok (.invokevirtual 135, 3) := dk_182 0 135 (dk_at dksX6_product_0 6 rfl rfl)
theorem dX6_product_9 : decode cX6_product 9 = .ok (.istore_n 2, 1) := dk_61 (dk_at dksX6_product_0 9 rfl rfl)
theorem dX6_product_10 : decode cX6_product 10 = .ok (.iload_n 2, 1) := dk_28 (dk_at dksX6_product_0 10 rfl rfl)
theorem dX6_product_11 : decode cX6_product 11 = .ok (.bipush 42, 2) := dk_16 42 (dk_at dksX6_product_0 11 rfl rfl)
theorem dX6_product_13 : decode cX6_product 13 = .ok (.if_icmp .eq 15, 3) := dk_159 0 15 (dk_at dksX6_product_0 13 rfl rfl)
theorem dX6_product_16 : decode cX6_product 16 = .ok (.iload_n 2, 1) := dk_28 (dk_at dksX6_product_0 16 rfl rfl)
theorem dX6_product_17 : decode cX6_product 17 = .ok (.bipush 47, 2) := dk_16 47 (dk_at dksX6_product_0 17 rfl rfl)
theorem dX6_product_19 : decode cX6_product 19 = .ok (.if_icmp .eq 9, 3) := dk_159 0 9 (dk_at dksX6_product_0 19 rfl rfl)
theorem dX6_product_22 : decode cX6_product 22 = .ok (.iload_n 2, 1) := dk_28 (dk_at dksX6_product_0 22 rfl rfl)
theorem dX6_product_23 : decode cX6_product 23 = .ok (.bipush 37, 2) := dk_16 37 (dk_at dksX6_product_1 0 rfl rfl)
theorem dX6_product_25 : decode cX6_product 25 = .ok (.if_icmp .ne 62, 3) := dk_160 0 62 (dk_at dksX6_product_1 2 rfl rfl)
theorem dX6_product_28 : decode cX6_product 28 = .ok (.aload_n 0, 1) := dk_42 (dk_at dksX6_product_1 5 rfl rfl)
theorem dX6_product_29 : decode cX6_product 29 = .ok (.dup, 1) := dk_89 (dk_at dksX6_product_1 6 rfl rfl)
theorem dX6_product_30 : decode cX6_product 30 = .ok (.getfield 121, 3) := dk_180 0 121 (dk_at dksX6_product_1 7 rfl rfl)
theorem dX6_product_33 : decode cX6_product 33 = .ok (.iconst 1, 1) := dk_4 (dk_at dksX6_product_1 10 rfl rfl)
theorem dX6_product_34 : decode cX6_product 34 = .ok (.iadd, 1) := dk_96 (dk_at dksX6_product_1 11 rfl rfl)
theorem dX6_product_35 : decode cX6_product 35 = .ok (.putfield 121, 3) := dk_181 0 121 (dk_at dksX6_product_1 12 rfl rfl)
theorem dX6_product_38 : decode cX6_product 38 = .ok (.aload_n 0, 1) := dk_42 (dk_at dksX6_product_1 15 rfl rfl)
theorem dX6_product_39 : decode cX6_product 39 = .ok (.invokevirtual 164, 3) := dk_182 0 164 (dk_at dksX6_product_1 16 rfl rfl)
theorem dX6_product_42 : decode cX6_product 42 = .ok (.istore_n 3, 1) := dk_62 (dk_at dksX6_product_1 19 rfl rfl)
theorem dX6_product_43 : decode cX6_product 43 = .ok (.iload_n 2, 1) := dk_28 (dk_at dksX6_product_1 20 rfl rfl)
theorem dX6_product_44 : decode cX6_product 44 = .ok (.bipush 42, 2) := dk_16 42 (dk_at dksX6_product_1 21 rfl rfl)
theorem dX6_product_46 : decode cX6_product 46 = .ok (.if_icmp .ne 9, 3) := dk_160 0 9 (dk_at dksX6_product_2 0 rfl rfl)
theorem dX6_product_49 : decode cX6_product 49 = .ok (.iload_n 1, 1) := dk_27 (dk_at dksX6_product_2 3 rfl rfl)
theorem dX6_product_50 : decode cX6_product 50 = .ok (.iload_n 3, 1) := dk_29 (dk_at dksX6_product_2 4 rfl rfl)
theorem dX6_product_51 : decode cX6_product 51 = .ok (.imul, 1) := dk_104 (dk_at dksX6_product_2 5 rfl rfl)
theorem dX6_product_52 : decode cX6_product 52 = .ok (.goto 26, 3) := dk_167 0 26 (dk_at dksX6_product_2 6 rfl rfl)
theorem dX6_product_55 : decode cX6_product 55 = .ok (.iload_n 3, 1) := dk_29 (dk_at dksX6_product_2 9 rfl rfl)
theorem dX6_product_56 : decode cX6_product 56 = .ok (.ifCond .ne 7, 3) := dk_154 0 7 (dk_at dksX6_product_2 10 rfl rfl)
theorem dX6_product_59 : decode cX6_product 59 = .ok (.iconst 0, 1) := dk_3 (dk_at dksX6_product_2 13 rfl rfl)
theorem dX6_product_60 : decode cX6_product 60 = .ok (.goto 18, 3) := dk_167 0 18 (dk_at dksX6_product_2 14 rfl rfl)
theorem dX6_product_63 : decode cX6_product 63 = .ok (.iload_n 2, 1) := dk_28 (dk_at dksX6_product_2 17 rfl rfl)
theorem dX6_product_64 : decode cX6_product 64 = .ok (.bipush 47, 2) := dk_16 47 (dk_at dksX6_product_2 18 rfl rfl)
theorem dX6_product_66 : decode cX6_product 66 = .ok (.if_icmp .ne 9, 3) := dk_160 0 9 (dk_at dksX6_product_2 20 rfl rfl)
theorem dX6_product_69 : decode cX6_product 69 = .ok (.iload_n 1, 1) := dk_27 (dk_at dksX6_product_2 23 rfl rfl)
theorem dX6_product_70 : decode cX6_product 70 = .ok (.iload_n 3, 1) := dk_29 (dk_at dksX6_product_3 0 rfl rfl)
theorem dX6_product_71 : decode cX6_product 71 = .ok (.idiv, 1) := dk_108 (dk_at dksX6_product_3 1 rfl rfl)
theorem dX6_product_72 : decode cX6_product 72 = .ok (.goto 6, 3) := dk_167 0 6 (dk_at dksX6_product_3 2 rfl rfl)
theorem dX6_product_75 : decode cX6_product 75 = .ok (.iload_n 1, 1) := dk_27 (dk_at dksX6_product_3 5 rfl rfl)
theorem dX6_product_76 : decode cX6_product 76 = .ok (.iload_n 3, 1) := dk_29 (dk_at dksX6_product_3 6 rfl rfl)
theorem dX6_product_77 : decode cX6_product 77 = .ok (.irem, 1) := dk_112 (dk_at dksX6_product_3 7 rfl rfl)
theorem dX6_product_78 : decode cX6_product 78 = .ok (.istore_n 1, 1) := dk_60 (dk_at dksX6_product_3 8 rfl rfl)
theorem dX6_product_79 : decode cX6_product 79 = .ok (.aload_n 0, 1) := dk_42 (dk_at dksX6_product_3 9 rfl rfl)
theorem dX6_product_80 : decode cX6_product 80 = .ok (.invokevirtual 135, 3) := dk_182 0 135 (dk_at dksX6_product_3 10 rfl rfl)
theorem dX6_product_83 : decode cX6_product 83 = .ok (.istore_n 2, 1) := dk_61 (dk_at dksX6_product_3 13 rfl rfl)
theorem dX6_product_84 : decode cX6_product 84 = .ok (.goto (-74), 3) := dk_167 255 182 (dk_at dksX6_product_3 14 rfl rfl)
theorem dX6_product_87 : decode cX6_product 87 = .ok (.iload_n 1, 1) := dk_27 (dk_at dksX6_product_3 17 rfl rfl)
theorem dX6_product_88 : decode cX6_product 88 = .ok (.ireturn, 1) := dk_172 (dk_at dksX6_product_3 18 rfl rfl)
abbrev cX6_single : ByteArray := prog_30_method_36_code
def yX6_single : MethodName := ⟨RX6, "single", "()I"⟩
def dkwX6_single_10 : List UInt8 := [42, 89, 180, 0, 161, 4, 100, 181, 0, 161, 167, 0, 8, 42, 4, 181, 0, 128, 28, 172]
abbrev dktX6_single_10 : List UInt8 := dkwX6_single_10 ++ []
def dkwX6_single_9 : List UInt8 := [182, 0, 170, 62, 42, 42, 180, 0, 128, 154, 0, 7, 29, 154, 0, 7, 4, 167, 0, 4, 3, 181, 0, 128]
abbrev dktX6_single_9 : List UInt8 := dkwX6_single_9 ++ dktX6_single_10
def dkwX6_single_8 : List UInt8 := [167, 0, 12, 28, 154, 0, 7, 4, 167, 0, 4, 3, 61, 27, 16, 40, 160, 0, 30, 42, 16, 41]
abbrev dktX6_single_8 : List UInt8 := dkwX6_single_8 ++ dktX6_single_9
def dkwX6_single_7 : List UInt8 := [16, 33, 160, 0, 10, 42, 182, 0, 164, 167, 0, 7, 42, 182, 0, 167, 61, 27, 16, 33, 159, 0, 7, 28]
abbrev dktX6_single_7 : List UInt8 := dkwX6_single_7 ++ dktX6_single_8
def dkwX6_single_6 : List UInt8 := [162, 0, 107, 42, 89, 180, 0, 121, 4, 96, 181, 0, 121, 42, 89, 180, 0, 161, 4, 96, 181, 0, 161, 27]
abbrev dktX6_single_6 : List UInt8 := dkwX6_single_6 ++ dktX6_single_7
def dkwX6_single_5 : List UInt8 := [180, 0, 158, 61, 167, 0, 132, 27, 16, 33, 159, 0, 9, 27, 16, 40, 160, 0, 115, 42, 180, 0, 161, 8]
abbrev dktX6_single_5 : List UInt8 := dkwX6_single_5 ++ dktX6_single_6
def dkwX6_single_4 : List UInt8 := [180, 0, 152, 167, 0, 23, 42, 27, 182, 0, 149, 5, 160, 0, 10, 42, 180, 0, 155, 167, 0, 7, 42]
abbrev dktX6_single_4 : List UInt8 := dkwX6_single_4 ++ dktX6_single_5
def dkwX6_single_3 : List UInt8 := [158, 0, 53, 42, 89, 180, 0, 121, 4, 96, 181, 0, 121, 42, 27, 182, 0, 149, 4, 160, 0, 10, 42]
abbrev dktX6_single_3 : List UInt8 := dkwX6_single_3 ++ dktX6_single_4
def dkwX6_single_2 : List UInt8 := [180, 0, 121, 4, 96, 181, 0, 121, 132, 3, 1, 167, 255, 215, 167, 0, 190, 42, 27, 182, 0, 149]
abbrev dktX6_single_2 : List UInt8 := dkwX6_single_2 ++ dktX6_single_3
def dkwX6_single_1 : List UInt8 := [182, 0, 135, 184, 0, 146, 153, 0, 32, 16, 10, 28, 104, 42, 182, 0, 135, 96, 16, 48, 100, 61, 42, 89]
abbrev dktX6_single_1 : List UInt8 := dkwX6_single_1 ++ dktX6_single_2
def dkwX6_single_0 : List UInt8 := [42, 182, 0, 135, 60, 3, 61, 27, 184, 0, 146, 153, 0, 52, 3, 62, 29, 7, 162, 0, 42, 42]
abbrev dktX6_single_0 : List UInt8 := dkwX6_single_0 ++ dktX6_single_1
theorem dksX6_single_0 : cX6_single.data.toList.drop 0 = dktX6_single_0 := by decide +kernel
theorem dksX6_single_1 : cX6_single.data.toList.drop 22 = dktX6_single_1 := dk_seg dksX6_single_0 22 rfl rfl
theorem dksX6_single_2 : cX6_single.data.toList.drop 46 = dktX6_single_2 := dk_seg dksX6_single_1 24 rfl rfl
theorem dksX6_single_3 : cX6_single.data.toList.drop 68 = dktX6_single_3 := dk_seg dksX6_single_2 22 rfl rfl
theorem dksX6_single_4 : cX6_single.data.toList.drop 91 = dktX6_single_4 := dk_seg dksX6_single_3 23 rfl rfl
theorem dksX6_single_5 : cX6_single.data.toList.drop 114 = dktX6_single_5 := dk_seg dksX6_single_4 23 rfl rfl
theorem dksX6_single_6 : cX6_single.data.toList.drop 138 = dktX6_single_6 := dk_seg dksX6_single_5 24 rfl rfl
theorem dksX6_single_7 : cX6_single.data.toList.drop 162 = dktX6_single_7 := dk_seg dksX6_single_6 24 rfl rfl
theorem dksX6_single_8 : cX6_single.data.toList.drop 186 = dktX6_single_8 := dk_seg dksX6_single_7 24 rfl rfl
theorem dksX6_single_9 : cX6_single.data.toList.drop 208 = dktX6_single_9 := dk_seg dksX6_single_8 22 rfl rfl
theorem dksX6_single_10 : cX6_single.data.toList.drop 232 = dktX6_single_10 := dk_seg dksX6_single_9 24 rfl rfl
theorem dX6_single_0 : decode cX6_single 0 = .ok (.aload_n 0, 1) := dk_42 (dk_at dksX6_single_0 0 rfl rfl)
theorem dX6_single_1 : decode cX6_single 1 = .ok (.invokevirtual 135, 3) := dk_182 0 135 (dk_at dksX6_single_0 1 rfl rfl)
theorem dX6_single_4 : decode cX6_single 4 = .ok (.istore_n 1, 1) := dk_60 (dk_at dksX6_single_0 4 rfl rfl)
theorem dX6_single_5 : decode cX6_single 5 = .ok (.iconst 0, 1) := dk_3 (dk_at dksX6_single_0 5 rfl rfl)
theorem dX6_single_6 : decode cX6_single 6 = .ok (.istore_n 2, 1) := dk_61 (dk_at dksX6_single_0 6 rfl rfl)
theorem dX6_single_7 : decode cX6_single 7 = .ok (.iload_n 1, 1) := dk_27 (dk_at dksX6_single_0 7 rfl rfl)
theorem dX6_single_8 : decode cX6_single 8 = .ok (.invokestatic 146, 3) := dk_184 0 146 (dk_at dksX6_single_0 8 rfl rfl)
theorem dX6_single_11 : decode cX6_single 11 = .ok (.ifCond .eq 52, 3) := dk_153 0 52 (dk_at dksX6_single_0 11 rfl rfl)
theorem dX6_single_14 : decode cX6_single 14 = .ok (.iconst 0, 1) := dk_3 (dk_at dksX6_single_0 14 rfl rfl)
theorem dX6_single_15 : decode cX6_single 15 = .ok (.istore_n 3, 1) := dk_62 (dk_at dksX6_single_0 15 rfl rfl)
theorem dX6_single_16 : decode cX6_single 16 = .ok (.iload_n 3, 1) := dk_29 (dk_at dksX6_single_0 16 rfl rfl)
theorem dX6_single_17 : decode cX6_single 17 = .ok (.iconst 4, 1) := dk_7 (dk_at dksX6_single_0 17 rfl rfl)
theorem dX6_single_18 : decode cX6_single 18 = .ok (.if_icmp .ge 42, 3) := dk_162 0 42 (dk_at dksX6_single_0 18 rfl rfl)
theorem dX6_single_21 : decode cX6_single 21 = .ok (.aload_n 0, 1) := dk_42 (dk_at dksX6_single_0 21 rfl rfl)
theorem dX6_single_22 : decode cX6_single 22 = .ok (.invokevirtual 135, 3) := dk_182 0 135 (dk_at dksX6_single_1 0 rfl rfl)
theorem dX6_single_25 : decode cX6_single 25 = .ok (.invokestatic 146, 3) := dk_184 0 146 (dk_at dksX6_single_1 3 rfl rfl)
theorem dX6_single_28 : decode cX6_single 28 = .ok (.ifCond .eq 32, 3) := dk_153 0 32 (dk_at dksX6_single_1 6 rfl rfl)
theorem dX6_single_31 : decode cX6_single 31 = .ok (.bipush 10, 2) := dk_16 10 (dk_at dksX6_single_1 9 rfl rfl)
theorem dX6_single_33 : decode cX6_single 33 = .ok (.iload_n 2, 1) := dk_28 (dk_at dksX6_single_1 11 rfl rfl)
theorem dX6_single_34 : decode cX6_single 34 = .ok (.imul, 1) := dk_104 (dk_at dksX6_single_1 12 rfl rfl)
theorem dX6_single_35 : decode cX6_single 35 = .ok (.aload_n 0, 1) := dk_42 (dk_at dksX6_single_1 13 rfl rfl)
theorem dX6_single_36 : decode cX6_single 36 = .ok (.invokevirtual 135, 3) := dk_182 0 135 (dk_at dksX6_single_1 14 rfl rfl)
theorem dX6_single_39 : decode cX6_single 39 = .ok (.iadd, 1) := dk_96 (dk_at dksX6_single_1 17 rfl rfl)
theorem dX6_single_40 : decode cX6_single 40 = .ok (.bipush 48, 2) := dk_16 48 (dk_at dksX6_single_1 18 rfl rfl)
theorem dX6_single_42 : decode cX6_single 42 = .ok (.isub, 1) := dk_100 (dk_at dksX6_single_1 20 rfl rfl)
theorem dX6_single_43 : decode cX6_single 43 = .ok (.istore_n 2, 1) := dk_61 (dk_at dksX6_single_1 21 rfl rfl)
theorem dX6_single_44 : decode cX6_single 44 = .ok (.aload_n 0, 1) := dk_42 (dk_at dksX6_single_1 22 rfl rfl)
theorem dX6_single_45 : decode cX6_single 45 = .ok (.dup, 1) := dk_89 (dk_at dksX6_single_1 23 rfl rfl)
theorem dX6_single_46 : decode cX6_single 46 = .ok (.getfield 121, 3) := dk_180 0 121 (dk_at dksX6_single_2 0 rfl rfl)
theorem dX6_single_49 : decode cX6_single 49 = .ok (.iconst 1, 1) := dk_4 (dk_at dksX6_single_2 3 rfl rfl)
theorem dX6_single_50 : decode cX6_single 50 = .ok (.iadd, 1) := dk_96 (dk_at dksX6_single_2 4 rfl rfl)
theorem dX6_single_51 : decode cX6_single 51 = .ok (.putfield 121, 3) := dk_181 0 121 (dk_at dksX6_single_2 5 rfl rfl)
theorem dX6_single_54 : decode cX6_single 54 = .ok (.iinc 3 1, 3) := dk_132 3 1 (dk_at dksX6_single_2 8 rfl rfl)
theorem dX6_single_57 : decode cX6_single 57 = .ok (.goto (-41), 3) := dk_167 255 215 (dk_at dksX6_single_2 11 rfl rfl)
theorem dX6_single_60 : decode cX6_single 60 = .ok (.goto 190, 3) := dk_167 0 190 (dk_at dksX6_single_2 14 rfl rfl)
theorem dX6_single_63 : decode cX6_single 63 = .ok (.aload_n 0, 1) := dk_42 (dk_at dksX6_single_2 17 rfl rfl)
theorem dX6_single_64 : decode cX6_single 64 = .ok (.iload_n 1, 1) := dk_27 (dk_at dksX6_single_2 18 rfl rfl)
theorem dX6_single_65 : decode cX6_single 65 = .ok (.invokevirtual 149, 3) := dk_182 0 149 (dk_at dksX6_single_2 19 rfl rfl)
theorem dX6_single_68 : decode cX6_single 68 = .ok (.ifCond .le 53, 3) := dk_158 0 53 (dk_at dksX6_single_3 0 rfl rfl)
theorem dX6_single_71 : decode cX6_single 71 = .ok (.aload_n 0, 1) := dk_42 (dk_at dksX6_single_3 3 rfl rfl)
theorem dX6_single_72 : decode cX6_single 72 = .ok (.dup, 1) := dk_89 (dk_at dksX6_single_3 4 rfl rfl)
theorem dX6_single_73 : decode cX6_single 73 = .ok (.getfield 121, 3) := dk_180 0 121 (dk_at dksX6_single_3 5 rfl rfl)
theorem dX6_single_76 : decode cX6_single 76 = .ok (.iconst 1, 1) := dk_4 (dk_at dksX6_single_3 8 rfl rfl)
theorem dX6_single_77 : decode cX6_single 77 = .ok (.iadd, 1) := dk_96 (dk_at dksX6_single_3 9 rfl rfl)
theorem dX6_single_78 : decode cX6_single 78 = .ok (.putfield 121, 3) := dk_181 0 121 (dk_at dksX6_single_3 10 rfl rfl)
theorem dX6_single_81 : decode cX6_single 81 = .ok (.aload_n 0, 1) := dk_42 (dk_at dksX6_single_3 13 rfl rfl)
theorem dX6_single_82 : decode cX6_single 82 = .ok (.iload_n 1, 1) := dk_27 (dk_at dksX6_single_3 14 rfl rfl)
theorem dX6_single_83 : decode cX6_single 83 = .ok (.invokevirtual 149, 3) := dk_182 0 149 (dk_at dksX6_single_3 15 rfl rfl)
theorem dX6_single_86 : decode cX6_single 86 = .ok (.iconst 1, 1) := dk_4 (dk_at dksX6_single_3 18 rfl rfl)
theorem dX6_single_87 : decode cX6_single 87 = .ok (.if_icmp .ne 10, 3) := dk_160 0 10 (dk_at dksX6_single_3 19 rfl rfl)
theorem dX6_single_90 : decode cX6_single 90 = .ok (.aload_n 0, 1) := dk_42 (dk_at dksX6_single_3 22 rfl rfl)
theorem dX6_single_91 : decode cX6_single 91 = .ok (.getfield 152, 3) := dk_180 0 152 (dk_at dksX6_single_4 0 rfl rfl)
theorem dX6_single_94 : decode cX6_single 94 = .ok (.goto 23, 3) := dk_167 0 23 (dk_at dksX6_single_4 3 rfl rfl)
theorem dX6_single_97 : decode cX6_single 97 = .ok (.aload_n 0, 1) := dk_42 (dk_at dksX6_single_4 6 rfl rfl)
theorem dX6_single_98 : decode cX6_single 98 = .ok (.iload_n 1, 1) := dk_27 (dk_at dksX6_single_4 7 rfl rfl)
theorem dX6_single_99 : decode cX6_single 99 = .ok (.invokevirtual 149, 3) := dk_182 0 149 (dk_at dksX6_single_4 8 rfl rfl)
theorem dX6_single_102 : decode cX6_single 102 = .ok (.iconst 2, 1) := dk_5 (dk_at dksX6_single_4 11 rfl rfl)
theorem dX6_single_103 : decode cX6_single 103 = .ok (.if_icmp .ne 10, 3) := dk_160 0 10 (dk_at dksX6_single_4 12 rfl rfl)
theorem dX6_single_106 : decode cX6_single 106 = .ok (.aload_n 0, 1) := dk_42 (dk_at dksX6_single_4 15 rfl rfl)
theorem dX6_single_107 : decode cX6_single 107 = .ok (.getfield 155, 3) := dk_180 0 155 (dk_at dksX6_single_4 16 rfl rfl)
theorem dX6_single_110 : decode cX6_single 110 = .ok (.goto 7, 3) := dk_167 0 7 (dk_at dksX6_single_4 19 rfl rfl)
theorem dX6_single_113 : decode cX6_single 113 = .ok (.aload_n 0, 1) := dk_42 (dk_at dksX6_single_4 22 rfl rfl)
theorem dX6_single_114 : decode cX6_single 114 = .ok (.getfield 158, 3) := dk_180 0 158 (dk_at dksX6_single_5 0 rfl rfl)
theorem dX6_single_117 : decode cX6_single 117 = .ok (.istore_n 2, 1) := dk_61 (dk_at dksX6_single_5 3 rfl rfl)
theorem dX6_single_118 : decode cX6_single 118 = .ok (.goto 132, 3) := dk_167 0 132 (dk_at dksX6_single_5 4 rfl rfl)
theorem dX6_single_121 : decode cX6_single 121 = .ok (.iload_n 1, 1) := dk_27 (dk_at dksX6_single_5 7 rfl rfl)
theorem dX6_single_122 : decode cX6_single 122 = .ok (.bipush 33, 2) := dk_16 33 (dk_at dksX6_single_5 8 rfl rfl)
theorem dX6_single_124 : decode cX6_single 124 = .ok (.if_icmp .eq 9, 3) := dk_159 0 9 (dk_at dksX6_single_5 10 rfl rfl)
theorem dX6_single_127 : decode cX6_single 127 = .ok (.iload_n 1, 1) := dk_27 (dk_at dksX6_single_5 13 rfl rfl)
theorem dX6_single_128 : decode cX6_single 128 = .ok (.bipush 40, 2) := dk_16 40 (dk_at dksX6_single_5 14 rfl rfl)
theorem dX6_single_130 : decode cX6_single 130 = .ok (.if_icmp .ne 115, 3) := dk_160 0 115 (dk_at dksX6_single_5 16 rfl rfl)
theorem dX6_single_133 : decode cX6_single 133 = .ok (.aload_n 0, 1) := dk_42 (dk_at dksX6_single_5 19 rfl rfl)
theorem dX6_single_134 : decode cX6_single 134 = .ok (.getfield 161, 3) := dk_180 0 161 (dk_at dksX6_single_5 20 rfl rfl)
theorem dX6_single_137 : decode cX6_single 137 = .ok (.iconst 5, 1) := dk_8 (dk_at dksX6_single_5 23 rfl rfl)
theorem dX6_single_138 : decode cX6_single 138 = .ok (.if_icmp .ge 107, 3) := dk_162 0 107 (dk_at dksX6_single_6 0 rfl rfl)
theorem dX6_single_141 : decode cX6_single 141 = .ok (.aload_n 0, 1) := dk_42 (dk_at dksX6_single_6 3 rfl rfl)
theorem dX6_single_142 : decode cX6_single 142 = .ok (.dup, 1) := dk_89 (dk_at dksX6_single_6 4 rfl rfl)
theorem dX6_single_143 : decode cX6_single 143 = .ok (.getfield 121, 3) := dk_180 0 121 (dk_at dksX6_single_6 5 rfl rfl)
theorem dX6_single_146 : decode cX6_single 146 = .ok (.iconst 1, 1) := dk_4 (dk_at dksX6_single_6 8 rfl rfl)
theorem dX6_single_147 : decode cX6_single 147 = .ok (.iadd, 1) := dk_96 (dk_at dksX6_single_6 9 rfl rfl)
theorem dX6_single_148 : decode cX6_single 148 = .ok (.putfield 121, 3) := dk_181 0 121 (dk_at dksX6_single_6 10 rfl rfl)
theorem dX6_single_151 : decode cX6_single 151 = .ok (.aload_n 0, 1) := dk_42 (dk_at dksX6_single_6 13 rfl rfl)
theorem dX6_single_152 : decode cX6_single 152 = .ok (.dup, 1) := dk_89 (dk_at dksX6_single_6 14 rfl rfl)
theorem dX6_single_153 : decode cX6_single 153 = .ok (.getfield 161, 3) := dk_180 0 161 (dk_at dksX6_single_6 15 rfl rfl)
theorem dX6_single_156 : decode cX6_single 156 = .ok (.iconst 1, 1) := dk_4 (dk_at dksX6_single_6 18 rfl rfl)
theorem dX6_single_157 : decode cX6_single 157 = .ok (.iadd, 1) := dk_96 (dk_at dksX6_single_6 19 rfl rfl)
theorem dX6_single_158 : decode cX6_single 158 = .ok (.putfield 161, 3) := dk_181 0 161 (dk_at dksX6_single_6 20 rfl rfl)
theorem dX6_single_161 : decode cX6_single 161 = .ok (.iload_n 1, 1) := dk_27 (dk_at dksX6_single_6 23 rfl rfl)
theorem dX6_single_162 : decode cX6_single 162 = .ok (.bipush 33, 2) := dk_16 33 (dk_at dksX6_single_7 0 rfl rfl)
theorem dX6_single_164 : decode cX6_single 164 = .ok (.if_icmp .ne 10, 3) := dk_160 0 10 (dk_at dksX6_single_7 2 rfl rfl)
theorem dX6_single_167 : decode cX6_single 167 = .ok (.aload_n 0, 1) := dk_42 (dk_at dksX6_single_7 5 rfl rfl)
theorem dX6_single_168 : decode cX6_single 168 = .ok (.invokevirtual 164, 3) := dk_182 0 164 (dk_at dksX6_single_7 6 rfl rfl)
theorem dX6_single_171 : decode cX6_single 171 = .ok (.goto 7, 3) := dk_167 0 7 (dk_at dksX6_single_7 9 rfl rfl)
theorem dX6_single_174 : decode cX6_single 174 = .ok (.aload_n 0, 1) := dk_42 (dk_at dksX6_single_7 12 rfl rfl)
theorem dX6_single_175 : decode cX6_single 175 = .ok (.invokevirtual 167, 3) := dk_182 0 167 (dk_at dksX6_single_7 13 rfl rfl)
theorem dX6_single_178 : decode cX6_single 178 = .ok (.istore_n 2, 1) := dk_61 (dk_at dksX6_single_7 16 rfl rfl)
theorem dX6_single_179 : decode cX6_single 179 = .ok (.iload_n 1, 1) := dk_27 (dk_at dksX6_single_7 17 rfl rfl)
theorem dX6_single_180 : decode cX6_single 180 = .ok (.bipush 33, 2) := dk_16 33 (dk_at dksX6_single_7 18 rfl rfl)
theorem dX6_single_182 : decode cX6_single 182 = .ok (.if_icmp .eq 7, 3) := dk_159 0 7 (dk_at dksX6_single_7 20 rfl rfl)
theorem dX6_single_185 : decode cX6_single 185 = .ok (.iload_n 2, 1) := dk_28 (dk_at dksX6_single_7 23 rfl rfl)
theorem dX6_single_186 : decode cX6_single 186 = .ok (.goto 12, 3) := dk_167 0 12 (dk_at dksX6_single_8 0 rfl rfl)
theorem dX6_single_189 : decode cX6_single 189 = .ok (.iload_n 2, 1) := dk_28 (dk_at dksX6_single_8 3 rfl rfl)
theorem dX6_single_190 : decode cX6_single 190 = .ok (.ifCond .ne 7, 3) := dk_154 0 7 (dk_at dksX6_single_8 4 rfl rfl)
theorem dX6_single_193 : decode cX6_single 193 = .ok (.iconst 1, 1) := dk_4 (dk_at dksX6_single_8 7 rfl rfl)
theorem dX6_single_194 : decode cX6_single 194 = .ok (.goto 4, 3) := dk_167 0 4 (dk_at dksX6_single_8 8 rfl rfl)
theorem dX6_single_197 : decode cX6_single 197 = .ok (.iconst 0, 1) := dk_3 (dk_at dksX6_single_8 11 rfl rfl)
theorem dX6_single_198 : decode cX6_single 198 = .ok (.istore_n 2, 1) := dk_61 (dk_at dksX6_single_8 12 rfl rfl)
theorem dX6_single_199 : decode cX6_single 199 = .ok (.iload_n 1, 1) := dk_27 (dk_at dksX6_single_8 13 rfl rfl)
theorem dX6_single_200 : decode cX6_single 200 = .ok (.bipush 40, 2) := dk_16 40 (dk_at dksX6_single_8 14 rfl rfl)
theorem dX6_single_202 : decode cX6_single 202 = .ok (.if_icmp .ne 30, 3) := dk_160 0 30 (dk_at dksX6_single_8 16 rfl rfl)
theorem dX6_single_205 : decode cX6_single 205 = .ok (.aload_n 0, 1) := dk_42 (dk_at dksX6_single_8 19 rfl rfl)
theorem dX6_single_206 : decode cX6_single 206 = .ok (.bipush 41, 2) := dk_16 41 (dk_at dksX6_single_8 20 rfl rfl)
theorem dX6_single_208 : decode cX6_single 208 = .ok (.invokevirtual 170, 3) := dk_182 0 170 (dk_at dksX6_single_9 0 rfl rfl)
theorem dX6_single_211 : decode cX6_single 211 = .ok (.istore_n 3, 1) := dk_62 (dk_at dksX6_single_9 3 rfl rfl)
theorem dX6_single_212 : decode cX6_single 212 = .ok (.aload_n 0, 1) := dk_42 (dk_at dksX6_single_9 4 rfl rfl)
theorem dX6_single_213 : decode cX6_single 213 = .ok (.aload_n 0, 1) := dk_42 (dk_at dksX6_single_9 5 rfl rfl)
theorem dX6_single_214 : decode cX6_single 214 = .ok (.getfield 128, 3) := dk_180 0 128 (dk_at dksX6_single_9 6 rfl rfl)
theorem dX6_single_217 : decode cX6_single 217 = .ok (.ifCond .ne 7, 3) := dk_154 0 7 (dk_at dksX6_single_9 9 rfl rfl)
theorem dX6_single_220 : decode cX6_single 220 = .ok (.iload_n 3, 1) := dk_29 (dk_at dksX6_single_9 12 rfl rfl)
theorem dX6_single_221 : decode cX6_single 221 = .ok (.ifCond .ne 7, 3) := dk_154 0 7 (dk_at dksX6_single_9 13 rfl rfl)
theorem dX6_single_224 : decode cX6_single 224 = .ok (.iconst 1, 1) := dk_4 (dk_at dksX6_single_9 16 rfl rfl)
theorem dX6_single_225 : decode cX6_single 225 = .ok (.goto 4, 3) := dk_167 0 4 (dk_at dksX6_single_9 17 rfl rfl)
theorem dX6_single_228 : decode cX6_single 228 = .ok (.iconst 0, 1) := dk_3 (dk_at dksX6_single_9 20 rfl rfl)
theorem dX6_single_229 : decode cX6_single 229 = .ok (.putfield 128, 3) := dk_181 0 128 (dk_at dksX6_single_9 21 rfl rfl)
theorem dX6_single_232 : decode cX6_single 232 = .ok (.aload_n 0, 1) := dk_42 (dk_at dksX6_single_10 0 rfl rfl)
theorem dX6_single_233 : decode cX6_single 233 = .ok (.dup, 1) := dk_89 (dk_at dksX6_single_10 1 rfl rfl)
theorem dX6_single_234 : decode cX6_single 234 = .ok (.getfield 161, 3) := dk_180 0 161 (dk_at dksX6_single_10 2 rfl rfl)
theorem dX6_single_237 : decode cX6_single 237 = .ok (.iconst 1, 1) := dk_4 (dk_at dksX6_single_10 5 rfl rfl)
theorem dX6_single_238 : decode cX6_single 238 = .ok (.isub, 1) := dk_100 (dk_at dksX6_single_10 6 rfl rfl)
theorem dX6_single_239 : decode cX6_single 239 = .ok (.putfield 161, 3) := dk_181 0 161 (dk_at dksX6_single_10 7 rfl rfl)
theorem dX6_single_242 : decode cX6_single 242 = .ok (.goto 8, 3) := dk_167 0 8 (dk_at dksX6_single_10 10 rfl rfl)
theorem dX6_single_245 : decode cX6_single 245 = .ok (.aload_n 0, 1) := dk_42 (dk_at dksX6_single_10 13 rfl rfl)
theorem dX6_single_246 : decode cX6_single 246 = .ok (.iconst 1, 1) := dk_4 (dk_at dksX6_single_10 14 rfl rfl)
theorem dX6_single_247 : decode cX6_single 247 = .ok (.putfield 128, 3) := dk_181 0 128 (dk_at dksX6_single_10 15 rfl rfl)
theorem dX6_single_250 : decode cX6_single 250 = .ok (.iload_n 2, 1) := dk_28 (dk_at dksX6_single_10 18 rfl rfl)
theorem dX6_single_251 : decode cX6_single 251 = .ok (.ireturn, 1) := dk_172 (dk_at dksX6_single_10 19 rfl rfl)
abbrev cX6_here : ByteArray := prog_30_method_32_code
def yX6_here : MethodName := ⟨RX6, "here", "()I"⟩
def dkwX6_here_1 : List UInt8 := [180, 0, 132, 42, 180, 0, 121, 96, 46, 167, 0, 4, 2, 172]
abbrev dktX6_here_1 : List UInt8 := dkwX6_here_1 ++ []
def dkwX6_here_0 : List UInt8 := [42, 180, 0, 121, 42, 180, 0, 125, 162, 0, 27, 42, 180, 0, 128, 154, 0, 20, 42, 180, 0, 7, 42]
abbrev dktX6_here_0 : List UInt8 := dkwX6_here_0 ++ dktX6_here_1
theorem dksX6_here_0 : cX6_here.data.toList.drop 0 = dktX6_here_0 := by decide +kernel
theorem dksX6_here_1 : cX6_here.data.toList.drop 23 = dktX6_here_1 := dk_seg dksX6_here_0 23 rfl rfl
theorem dX6_here_0 : decode cX6_here 0 = .ok (.aload_n 0, 1) := dk_42 (dk_at dksX6_here_0 0 rfl rfl)
theorem dX6_here_1 : decode cX6_here 1 = .ok (.getfield 121, 3) := dk_180 0 121 (dk_at dksX6_here_0 1 rfl rfl)
theorem dX6_here_4 : decode cX6_here 4 = .ok (.aload_n 0, 1) := dk_42 (dk_at dksX6_here_0 4 rfl rfl)
theorem dX6_here_5 : decode cX6_here 5 = .ok (.getfield 125, 3) := dk_180 0 125 (dk_at dksX6_here_0 5 rfl rfl)
theorem dX6_here_8 : decode cX6_here 8 = .ok (.if_icmp .ge 27, 3) := dk_162 0 27 (dk_at dksX6_here_0 8 rfl rfl)
theorem dX6_here_11 : decode cX6_here 11 = .ok (.aload_n 0, 1) := dk_42 (dk_at dksX6_here_0 11 rfl rfl)
theorem dX6_here_12 : decode cX6_here 12 = .ok (.getfield 128, 3) := dk_180 0 128 (dk_at dksX6_here_0 12 rfl rfl)
theorem dX6_here_15 : decode cX6_here 15 = .ok (.ifCond .ne 20, 3) := dk_154 0 20 (dk_at dksX6_here_0 15 rfl rfl)
theorem dX6_here_18 : decode cX6_here 18 = .ok (.aload_n 0, 1) := dk_42 (dk_at dksX6_here_0 18 rfl rfl)
theorem dX6_here_19 : decode cX6_here 19 = .ok (.getfield 7, 3) := dk_180 0 7 (dk_at dksX6_here_0 19 rfl rfl)
theorem dX6_here_22 : decode cX6_here 22 = .ok (.aload_n 0, 1) := dk_42 (dk_at dksX6_here_0 22 rfl rfl)
theorem dX6_here_23 : decode cX6_here 23 = .ok (.getfield 132, 3) := dk_180 0 132 (dk_at dksX6_here_1 0 rfl rfl)
theorem dX6_here_26 : decode cX6_here 26 = .ok (.aload_n 0, 1) := dk_42 (dk_at dksX6_here_1 3 rfl rfl)
theorem dX6_here_27 : decode cX6_here 27 = .ok (.getfield 121, 3) := dk_180 0 121 (dk_at dksX6_here_1 4 rfl rfl)
theorem dX6_here_30 : decode cX6_here 30 = .ok (.iadd, 1) := dk_96 (dk_at dksX6_here_1 7 rfl rfl)
theorem dX6_here_31 : decode cX6_here 31 = .ok (.iaload, 1) := dk_46 (dk_at dksX6_here_1 8 rfl rfl)
theorem dX6_here_32 : decode cX6_here 32 = .ok (.goto 4, 3) := dk_167 0 4 (dk_at dksX6_here_1 9 rfl rfl)
theorem dX6_here_35 : decode cX6_here 35 = .ok (.iconst (-1), 1) := dk_2 (dk_at dksX6_here_1 12 rfl rfl)
theorem dX6_here_36 : decode cX6_here 36 = .ok (.ireturn, 1) := dk_172 (dk_at dksX6_here_1 13 rfl rfl)
abbrev cX6_isDigit : ByteArray := prog_30_method_35_code
def yX6_isDigit : MethodName := ⟨RX6, "isDigit", "(I)Z"⟩
def dkwX6_isDigit_0 : List UInt8 := [26, 133, 20, 0, 142, 20, 0, 144, 184, 0, 46, 172]
abbrev dktX6_isDigit_0 : List UInt8 := dkwX6_isDigit_0 ++ []
theorem dksX6_isDigit_0 : cX6_isDigit.data.toList.drop 0 = dktX6_isDigit_0 := by decide +kernel
theorem dX6_isDigit_0 : decode cX6_isDigit 0 = .ok (.iload_n 0, 1) := dk_26 (dk_at dksX6_isDigit_0 0 rfl rfl)
theorem dX6_isDigit_1 : decode cX6_isDigit 1 = .ok (.i2l, 1) := dk_133 (dk_at dksX6_isDigit_0 1 rfl rfl)
theorem dX6_isDigit_2 : decode cX6_isDigit 2 = .ok (.ldc2_w 142, 3) := dk_20 0 142 (dk_at dksX6_isDigit_0 2 rfl rfl)
theorem dX6_isDigit_5 : decode cX6_isDigit 5 = .ok (.ldc2_w 144, 3) := dk_20 0 144 (dk_at dksX6_isDigit_0 5 rfl rfl)
theorem dX6_isDigit_8 : decode cX6_isDigit 8 = .ok (.invokestatic 46, 3) := dk_184 0 46 (dk_at dksX6_isDigit_0 8 rfl rfl)
theorem dX6_isDigit_11 : decode cX6_isDigit 11 = .ok (.ireturn, 1) := dk_172 (dk_at dksX6_isDigit_0 11 rfl rfl)
abbrev cX6_name : ByteArray := prog_30_method_34_code
def yX6_name : MethodName := ⟨RX6, "name", "(I)I"⟩
def dkwX6_name_3 : List UInt8 := [172]
abbrev dktX6_name_3 : List UInt8 := dkwX6_name_3 ++ []
def dkwX6_name_2 : List UInt8 := [167, 0, 24, 27, 16, 109, 160, 0, 7, 5, 167, 0, 14, 27, 16, 100, 160, 0, 7, 6, 167, 0, 4, 3]
abbrev dktX6_name_2 : List UInt8 := dkwX6_name_2 ++ dktX6_name_3
def dkwX6_name_1 : List UInt8 := [167, 0, 14, 27, 16, 100, 160, 0, 7, 6, 167, 0, 4, 3, 172, 27, 16, 108, 160, 0, 7, 4]
abbrev dktX6_name_1 : List UInt8 := dkwX6_name_1 ++ dktX6_name_2
def dkwX6_name_0 : List UInt8 := [42, 180, 0, 139, 154, 0, 35, 27, 16, 109, 160, 0, 7, 4, 167, 0, 24, 27, 16, 116, 160, 0, 7, 5]
abbrev dktX6_name_0 : List UInt8 := dkwX6_name_0 ++ dktX6_name_1
theorem dksX6_name_0 : cX6_name.data.toList.drop 0 = dktX6_name_0 := by decide +kernel
theorem dksX6_name_1 : cX6_name.data.toList.drop 24 = dktX6_name_1 := dk_seg dksX6_name_0 24 rfl rfl
theorem dksX6_name_2 : cX6_name.data.toList.drop 46 = dktX6_name_2 := dk_seg dksX6_name_1 22 rfl rfl
theorem dksX6_name_3 : cX6_name.data.toList.drop 70 = dktX6_name_3 := dk_seg dksX6_name_2 24 rfl rfl
theorem dX6_name_0 : decode cX6_name 0 = .ok (.aload_n 0, 1) := dk_42 (dk_at dksX6_name_0 0 rfl rfl)
theorem dX6_name_1 : decode cX6_name 1 = .ok (.getfield 139, 3) := dk_180 0 139 (dk_at dksX6_name_0 1 rfl rfl)
theorem dX6_name_4 : decode cX6_name 4 = .ok (.ifCond .ne 35, 3) := dk_154 0 35 (dk_at dksX6_name_0 4 rfl rfl)
theorem dX6_name_7 : decode cX6_name 7 = .ok (.iload_n 1, 1) := dk_27 (dk_at dksX6_name_0 7 rfl rfl)
theorem dX6_name_8 : decode cX6_name 8 = .ok (.bipush 109, 2) := dk_16 109 (dk_at dksX6_name_0 8 rfl rfl)
theorem dX6_name_10 : decode cX6_name 10 = .ok (.if_icmp .ne 7, 3) := dk_160 0 7 (dk_at dksX6_name_0 10 rfl rfl)
theorem dX6_name_13 : decode cX6_name 13 = .ok (.iconst 1, 1) := dk_4 (dk_at dksX6_name_0 13 rfl rfl)
theorem dX6_name_14 : decode cX6_name 14 = .ok (.goto 24, 3) := dk_167 0 24 (dk_at dksX6_name_0 14 rfl rfl)
theorem dX6_name_17 : decode cX6_name 17 = .ok (.iload_n 1, 1) := dk_27 (dk_at dksX6_name_0 17 rfl rfl)
theorem dX6_name_18 : decode cX6_name 18 = .ok (.bipush 116, 2) := dk_16 116 (dk_at dksX6_name_0 18 rfl rfl)
theorem dX6_name_20 : decode cX6_name 20 = .ok (.if_icmp .ne 7, 3) := dk_160 0 7 (dk_at dksX6_name_0 20 rfl rfl)
theorem dX6_name_23 : decode cX6_name 23 = .ok (.iconst 2, 1) := dk_5 (dk_at dksX6_name_0 23 rfl rfl)
theorem dX6_name_24 : decode cX6_name 24 = .ok (.goto 14, 3) := dk_167 0 14 (dk_at dksX6_name_1 0 rfl rfl)
theorem dX6_name_27 : decode cX6_name 27 = .ok (.iload_n 1, 1) := dk_27 (dk_at dksX6_name_1 3 rfl rfl)
theorem dX6_name_28 : decode cX6_name 28 = .ok (.bipush 100, 2) := dk_16 100 (dk_at dksX6_name_1 4 rfl rfl)
theorem dX6_name_30 : decode cX6_name 30 = .ok (.if_icmp .ne 7, 3) := dk_160 0 7 (dk_at dksX6_name_1 6 rfl rfl)
theorem dX6_name_33 : decode cX6_name 33 = .ok (.iconst 3, 1) := dk_6 (dk_at dksX6_name_1 9 rfl rfl)
theorem dX6_name_34 : decode cX6_name 34 = .ok (.goto 4, 3) := dk_167 0 4 (dk_at dksX6_name_1 10 rfl rfl)
theorem dX6_name_37 : decode cX6_name 37 = .ok (.iconst 0, 1) := dk_3 (dk_at dksX6_name_1 13 rfl rfl)
theorem dX6_name_38 : decode cX6_name 38 = .ok (.ireturn, 1) := dk_172 (dk_at dksX6_name_1 14 rfl rfl)
theorem dX6_name_39 : decode cX6_name 39 = .ok (.iload_n 1, 1) := dk_27 (dk_at dksX6_name_1 15 rfl rfl)
theorem dX6_name_40 : decode cX6_name 40 = .ok (.bipush 108, 2) := dk_16 108 (dk_at dksX6_name_1 16 rfl rfl)
theorem dX6_name_42 : decode cX6_name 42 = .ok (.if_icmp .ne 7, 3) := dk_160 0 7 (dk_at dksX6_name_1 18 rfl rfl)
theorem dX6_name_45 : decode cX6_name 45 = .ok (.iconst 1, 1) := dk_4 (dk_at dksX6_name_1 21 rfl rfl)
theorem dX6_name_46 : decode cX6_name 46 = .ok (.goto 24, 3) := dk_167 0 24 (dk_at dksX6_name_2 0 rfl rfl)
theorem dX6_name_49 : decode cX6_name 49 = .ok (.iload_n 1, 1) := dk_27 (dk_at dksX6_name_2 3 rfl rfl)
theorem dX6_name_50 : decode cX6_name 50 = .ok (.bipush 109, 2) := dk_16 109 (dk_at dksX6_name_2 4 rfl rfl)
theorem dX6_name_52 : decode cX6_name 52 = .ok (.if_icmp .ne 7, 3) := dk_160 0 7 (dk_at dksX6_name_2 6 rfl rfl)
theorem dX6_name_55 : decode cX6_name 55 = .ok (.iconst 2, 1) := dk_5 (dk_at dksX6_name_2 9 rfl rfl)
theorem dX6_name_56 : decode cX6_name 56 = .ok (.goto 14, 3) := dk_167 0 14 (dk_at dksX6_name_2 10 rfl rfl)
theorem dX6_name_59 : decode cX6_name 59 = .ok (.iload_n 1, 1) := dk_27 (dk_at dksX6_name_2 13 rfl rfl)
theorem dX6_name_60 : decode cX6_name 60 = .ok (.bipush 100, 2) := dk_16 100 (dk_at dksX6_name_2 14 rfl rfl)
theorem dX6_name_62 : decode cX6_name 62 = .ok (.if_icmp .ne 7, 3) := dk_160 0 7 (dk_at dksX6_name_2 16 rfl rfl)
theorem dX6_name_65 : decode cX6_name 65 = .ok (.iconst 3, 1) := dk_6 (dk_at dksX6_name_2 19 rfl rfl)
theorem dX6_name_66 : decode cX6_name 66 = .ok (.goto 4, 3) := dk_167 0 4 (dk_at dksX6_name_2 20 rfl rfl)
theorem dX6_name_69 : decode cX6_name 69 = .ok (.iconst 0, 1) := dk_3 (dk_at dksX6_name_2 23 rfl rfl)
theorem dX6_name_70 : decode cX6_name 70 = .ok (.ireturn, 1) := dk_172 (dk_at dksX6_name_3 0 rfl rfl)
abbrev cX6_takes : ByteArray := prog_30_method_33_code
def yX6_takes : MethodName := ⟨RX6, "takes", "(I)Z"⟩
def dkwX6_takes_1 : List UInt8 := [167, 0, 4, 3, 96, 181, 0, 121, 28, 172]
abbrev dktX6_takes_1 : List UInt8 := dkwX6_takes_1 ++ []
def dkwX6_takes_0 : List UInt8 := [42, 182, 0, 135, 27, 160, 0, 7, 4, 167, 0, 4, 3, 61, 42, 89, 180, 0, 121, 28, 153, 0, 7, 4]
abbrev dktX6_takes_0 : List UInt8 := dkwX6_takes_0 ++ dktX6_takes_1
theorem dksX6_takes_0 : cX6_takes.data.toList.drop 0 = dktX6_takes_0 := by decide +kernel
theorem dksX6_takes_1 : cX6_takes.data.toList.drop 24 = dktX6_takes_1 := dk_seg dksX6_takes_0 24 rfl rfl
theorem dX6_takes_0 : decode cX6_takes 0 = .ok (.aload_n 0, 1) := dk_42 (dk_at dksX6_takes_0 0 rfl rfl)
theorem dX6_takes_1 : decode cX6_takes 1 = .ok (.invokevirtual 135, 3) := dk_182 0 135 (dk_at dksX6_takes_0 1 rfl rfl)
theorem dX6_takes_4 : decode cX6_takes 4 = .ok (.iload_n 1, 1) := dk_27 (dk_at dksX6_takes_0 4 rfl rfl)
theorem dX6_takes_5 : decode cX6_takes 5 = .ok (.if_icmp .ne 7, 3) := dk_160 0 7 (dk_at dksX6_takes_0 5 rfl rfl)
theorem dX6_takes_8 : decode cX6_takes 8 = .ok (.iconst 1, 1) := dk_4 (dk_at dksX6_takes_0 8 rfl rfl)
theorem dX6_takes_9 : decode cX6_takes 9 = .ok (.goto 4, 3) := dk_167 0 4 (dk_at dksX6_takes_0 9 rfl rfl)
theorem dX6_takes_12 : decode cX6_takes 12 = .ok (.iconst 0, 1) := dk_3 (dk_at dksX6_takes_0 12 rfl rfl)
theorem dX6_takes_13 : decode cX6_takes 13 = .ok (.istore_n 2, 1) := dk_61 (dk_at dksX6_takes_0 13 rfl rfl)
theorem dX6_takes_14 : decode cX6_takes 14 = .ok (.aload_n 0, 1) := dk_42 (dk_at dksX6_takes_0 14 rfl rfl)
theorem dX6_takes_15 : decode cX6_takes 15 = .ok (.dup, 1) := dk_89 (dk_at dksX6_takes_0 15 rfl rfl)
theorem dX6_takes_16 : decode cX6_takes 16 = .ok (.getfield 121, 3) := dk_180 0 121 (dk_at dksX6_takes_0 16 rfl rfl)
theorem dX6_takes_19 : decode cX6_takes 19 = .ok (.iload_n 2, 1) := dk_28 (dk_at dksX6_takes_0 19 rfl rfl)
theorem dX6_takes_20 : decode cX6_takes 20 = .ok (.ifCond .eq 7, 3) := dk_153 0 7 (dk_at dksX6_takes_0 20 rfl rfl)
theorem dX6_takes_23 : decode cX6_takes 23 = .ok (.iconst 1, 1) := dk_4 (dk_at dksX6_takes_0 23 rfl rfl)
theorem dX6_takes_24 : decode cX6_takes 24 = .ok (.goto 4, 3) := dk_167 0 4 (dk_at dksX6_takes_1 0 rfl rfl)
theorem dX6_takes_27 : decode cX6_takes 27 = .ok (.iconst 0, 1) := dk_3 (dk_at dksX6_takes_1 3 rfl rfl)
theorem dX6_takes_28 : decode cX6_takes 28 = .ok (.iadd, 1) := dk_96 (dk_at dksX6_takes_1 4 rfl rfl)
theorem dX6_takes_29 : decode cX6_takes 29 = .ok (.putfield 121, 3) := dk_181 0 121 (dk_at dksX6_takes_1 5 rfl rfl)
theorem dX6_takes_32 : decode cX6_takes 32 = .ok (.iload_n 2, 1) := dk_28 (dk_at dksX6_takes_1 8 rfl rfl)
theorem dX6_takes_33 : decode cX6_takes 33 = .ok (.ireturn, 1) := dk_172 (dk_at dksX6_takes_1 9 rfl rfl)
abbrev cX6_held : ByteArray := prog_30_method_4_code
def yX6_held : MethodName := ⟨RX6, "held", "(III)I"⟩
def dkwX6_held_0 : List UInt8 := [26, 27, 162, 0, 7, 27, 167, 0, 13, 26, 28, 164, 0, 7, 28, 167, 0, 4, 26, 172]
abbrev dktX6_held_0 : List UInt8 := dkwX6_held_0 ++ []
theorem dksX6_held_0 : cX6_held.data.toList.drop 0 = dktX6_held_0 := by decide +kernel
theorem dX6_held_0 : decode cX6_held 0 = .ok (.iload_n 0, 1) := dk_26 (dk_at dksX6_held_0 0 rfl rfl)
theorem dX6_held_1 : decode cX6_held 1 = .ok (.iload_n 1, 1) := dk_27 (dk_at dksX6_held_0 1 rfl rfl)
theorem dX6_held_2 : decode cX6_held 2 = .ok (.if_icmp .ge 7, 3) := dk_162 0 7 (dk_at dksX6_held_0 2 rfl rfl)
theorem dX6_held_5 : decode cX6_held 5 = .ok (.iload_n 1, 1) := dk_27 (dk_at dksX6_held_0 5 rfl rfl)
theorem dX6_held_6 : decode cX6_held 6 = .ok (.goto 13, 3) := dk_167 0 13 (dk_at dksX6_held_0 6 rfl rfl)
theorem dX6_held_9 : decode cX6_held 9 = .ok (.iload_n 0, 1) := dk_26 (dk_at dksX6_held_0 9 rfl rfl)
theorem dX6_held_10 : decode cX6_held 10 = .ok (.iload_n 2, 1) := dk_28 (dk_at dksX6_held_0 10 rfl rfl)
theorem dX6_held_11 : decode cX6_held 11 = .ok (.if_icmp .le 7, 3) := dk_164 0 7 (dk_at dksX6_held_0 11 rfl rfl)
theorem dX6_held_14 : decode cX6_held 14 = .ok (.iload_n 2, 1) := dk_28 (dk_at dksX6_held_0 14 rfl rfl)
theorem dX6_held_15 : decode cX6_held 15 = .ok (.goto 4, 3) := dk_167 0 4 (dk_at dksX6_held_0 15 rfl rfl)
theorem dX6_held_18 : decode cX6_held 18 = .ok (.iload_n 0, 1) := dk_26 (dk_at dksX6_held_0 18 rfl rfl)
theorem dX6_held_19 : decode cX6_held 19 = .ok (.ireturn, 1) := dk_172 (dk_at dksX6_held_0 19 rfl rfl)
abbrev cX6_become : ByteArray := prog_30_method_28_code
def yX6_become : MethodName := ⟨RX6, "become", "(II)I"⟩
def dkwX6_become_2 : List UInt8 := [182, 0, 64, 172]
abbrev dktX6_become_2 : List UInt8 := dkwX6_become_2 ++ []
def dkwX6_become_1 : List UInt8 := [180, 0, 7, 27, 4, 184, 0, 54, 28, 16, 10, 112, 79, 42, 27, 3, 184, 0, 54, 28, 16, 10, 108]
abbrev dktX6_become_1 : List UInt8 := dkwX6_become_1 ++ dktX6_become_2
def dkwX6_become_0 : List UInt8 := [42, 27, 182, 0, 103, 153, 0, 10, 28, 184, 0, 95, 154, 0, 10, 42, 18, 67, 182, 0, 68, 172, 42]
abbrev dktX6_become_0 : List UInt8 := dkwX6_become_0 ++ dktX6_become_1
theorem dksX6_become_0 : cX6_become.data.toList.drop 0 = dktX6_become_0 := by decide +kernel
theorem dksX6_become_1 : cX6_become.data.toList.drop 23 = dktX6_become_1 := dk_seg dksX6_become_0 23 rfl rfl
theorem dksX6_become_2 : cX6_become.data.toList.drop 46 = dktX6_become_2 := dk_seg dksX6_become_1 23 rfl rfl
theorem dX6_become_0 : decode cX6_become 0 = .ok (.aload_n 0, 1) := dk_42 (dk_at dksX6_become_0 0 rfl rfl)
theorem dX6_become_1 : decode cX6_become 1 = .ok (.iload_n 1, 1) := dk_27 (dk_at dksX6_become_0 1 rfl rfl)
theorem dX6_become_2 : decode cX6_become 2 = .ok (.invokevirtual 103, 3) := dk_182 0 103 (dk_at dksX6_become_0 2 rfl rfl)
theorem dX6_become_5 : decode cX6_become 5 = .ok (.ifCond .eq 10, 3) := dk_153 0 10 (dk_at dksX6_become_0 5 rfl rfl)
theorem dX6_become_8 : decode cX6_become 8 = .ok (.iload_n 2, 1) := dk_28 (dk_at dksX6_become_0 8 rfl rfl)
theorem dX6_become_9 : decode cX6_become 9 = .ok (.invokestatic 95, 3) := dk_184 0 95 (dk_at dksX6_become_0 9 rfl rfl)
theorem dX6_become_12 : decode cX6_become 12 = .ok (.ifCond .ne 10, 3) := dk_154 0 10 (dk_at dksX6_become_0 12 rfl rfl)
theorem dX6_become_15 : decode cX6_become 15 = .ok (.aload_n 0, 1) := dk_42 (dk_at dksX6_become_0 15 rfl rfl)
theorem dX6_become_16 : decode cX6_become 16 = .ok (.ldc 67, 2) := dk_18 67 (dk_at dksX6_become_0 16 rfl rfl)
theorem dX6_become_18 : decode cX6_become 18 = .ok (.invokevirtual 68, 3) := dk_182 0 68 (dk_at dksX6_become_0 18 rfl rfl)
theorem dX6_become_21 : decode cX6_become 21 = .ok (.ireturn, 1) := dk_172 (dk_at dksX6_become_0 21 rfl rfl)
theorem dX6_become_22 : decode cX6_become 22 = .ok (.aload_n 0, 1) := dk_42 (dk_at dksX6_become_0 22 rfl rfl)
theorem dX6_become_23 : decode cX6_become 23 = .ok (.getfield 7, 3) := dk_180 0 7 (dk_at dksX6_become_1 0 rfl rfl)
theorem dX6_become_26 : decode cX6_become 26 = .ok (.iload_n 1, 1) := dk_27 (dk_at dksX6_become_1 3 rfl rfl)
theorem dX6_become_27 : decode cX6_become 27 = .ok (.iconst 1, 1) := dk_4 (dk_at dksX6_become_1 4 rfl rfl)
theorem dX6_become_28 : decode cX6_become 28 = .ok (.invokestatic 54, 3) := dk_184 0 54 (dk_at dksX6_become_1 5 rfl rfl)
theorem dX6_become_31 : decode cX6_become 31 = .ok (.iload_n 2, 1) := dk_28 (dk_at dksX6_become_1 8 rfl rfl)
theorem dX6_become_32 : decode cX6_become 32 = .ok (.bipush 10, 2) := dk_16 10 (dk_at dksX6_become_1 9 rfl rfl)
theorem dX6_become_34 : decode cX6_become 34 = .ok (.irem, 1) := dk_112 (dk_at dksX6_become_1 11 rfl rfl)
theorem dX6_become_35 : decode cX6_become 35 = .ok (.iastore, 1) := dk_79 (dk_at dksX6_become_1 12 rfl rfl)
theorem dX6_become_36 : decode cX6_become 36 = .ok (.aload_n 0, 1) := dk_42 (dk_at dksX6_become_1 13 rfl rfl)
theorem dX6_become_37 : decode cX6_become 37 = .ok (.iload_n 1, 1) := dk_27 (dk_at dksX6_become_1 14 rfl rfl)
theorem dX6_become_38 : decode cX6_become 38 = .ok (.iconst 0, 1) := dk_3 (dk_at dksX6_become_1 15 rfl rfl)
theorem dX6_become_39 : decode cX6_become 39 = .ok (.invokestatic 54, 3) := dk_184 0 54 (dk_at dksX6_become_1 16 rfl rfl)
theorem dX6_become_42 : decode cX6_become 42 = .ok (.iload_n 2, 1) := dk_28 (dk_at dksX6_become_1 19 rfl rfl)
theorem dX6_become_43 : decode cX6_become 43 = .ok (.bipush 10, 2) := dk_16 10 (dk_at dksX6_become_1 20 rfl rfl)
theorem dX6_become_45 : decode cX6_become 45 = .ok (.idiv, 1) := dk_108 (dk_at dksX6_become_1 22 rfl rfl)
theorem dX6_become_46 : decode cX6_become 46 = .ok (.invokevirtual 64, 3) := dk_182 0 64 (dk_at dksX6_become_2 0 rfl rfl)
theorem dX6_become_49 : decode cX6_become 49 = .ok (.ireturn, 1) := dk_172 (dk_at dksX6_become_2 3 rfl rfl)
abbrev cX6_as : ByteArray := prog_30_method_30_code
def yX6_as : MethodName := ⟨RX6, "as", "(II)I"⟩
def dkwX6_as_2 : List UInt8 := [167, 0, 9, 42, 18, 120, 182, 0, 68, 172]
abbrev dktX6_as_2 : List UInt8 := dkwX6_as_2 ++ []
def dkwX6_as_1 : List UInt8 := [182, 0, 68, 172, 42, 27, 3, 182, 0, 79, 28, 184, 0, 116, 153, 0, 12, 42, 27, 4, 182, 0, 79]
abbrev dktX6_as_1 : List UInt8 := dkwX6_as_1 ++ dktX6_as_2
def dkwX6_as_0 : List UInt8 := [42, 27, 182, 0, 103, 153, 0, 15, 28, 133, 9, 20, 0, 114, 184, 0, 46, 154, 0, 10, 42, 18, 67]
abbrev dktX6_as_0 : List UInt8 := dkwX6_as_0 ++ dktX6_as_1
theorem dksX6_as_0 : cX6_as.data.toList.drop 0 = dktX6_as_0 := by decide +kernel
theorem dksX6_as_1 : cX6_as.data.toList.drop 23 = dktX6_as_1 := dk_seg dksX6_as_0 23 rfl rfl
theorem dksX6_as_2 : cX6_as.data.toList.drop 46 = dktX6_as_2 := dk_seg dksX6_as_1 23 rfl rfl
theorem dX6_as_0 : decode cX6_as 0 = .ok (.aload_n 0, 1) := dk_42 (dk_at dksX6_as_0 0 rfl rfl)
theorem dX6_as_1 : decode cX6_as 1 = .ok (.iload_n 1, 1) := dk_27 (dk_at dksX6_as_0 1 rfl rfl)
theorem dX6_as_2 : decode cX6_as 2 = .ok (.invokevirtual 103, 3) := dk_182 0 103 (dk_at dksX6_as_0 2 rfl rfl)
theorem dX6_as_5 : decode cX6_as 5 = .ok (.ifCond .eq 15, 3) := dk_153 0 15 (dk_at dksX6_as_0 5 rfl rfl)
theorem dX6_as_8 : decode cX6_as 8 = .ok (.iload_n 2, 1) := dk_28 (dk_at dksX6_as_0 8 rfl rfl)
theorem dX6_as_9 : decode cX6_as 9 = .ok (.i2l, 1) := dk_133 (dk_at dksX6_as_0 9 rfl rfl)
theorem dX6_as_10 : decode cX6_as 10 = .ok (.lconst 0, 1) := dk_9 (dk_at dksX6_as_0 10 rfl rfl)
theorem dX6_as_11 : decode cX6_as 11 = .ok (.ldc2_w 114, 3) := dk_20 0 114 (dk_at dksX6_as_0 11 rfl rfl)
theorem dX6_as_14 : decode cX6_as 14 = .ok (.invokestatic 46, 3) := dk_184 0 46 (dk_at dksX6_as_0 14 rfl rfl)
theorem dX6_as_17 : decode cX6_as 17 = .ok (.ifCond .ne 10, 3) := dk_154 0 10 (dk_at dksX6_as_0 17 rfl rfl)
theorem dX6_as_20 : decode cX6_as 20 = .ok (.aload_n 0, 1) := dk_42 (dk_at dksX6_as_0 20 rfl rfl)
theorem dX6_as_21 : decode cX6_as 21 = .ok (.ldc 67, 2) := dk_18 67 (dk_at dksX6_as_0 21 rfl rfl)
theorem dX6_as_23 : decode cX6_as 23 = .ok (.invokevirtual 68, 3) := dk_182 0 68 (dk_at dksX6_as_1 0 rfl rfl)
theorem dX6_as_26 : decode cX6_as 26 = .ok (.ireturn, 1) := dk_172 (dk_at dksX6_as_1 3 rfl rfl)
theorem dX6_as_27 : decode cX6_as 27 = .ok (.aload_n 0, 1) := dk_42 (dk_at dksX6_as_1 4 rfl rfl)
theorem dX6_as_28 : decode cX6_as 28 = .ok (.iload_n 1, 1) := dk_27 (dk_at dksX6_as_1 5 rfl rfl)
theorem dX6_as_29 : decode cX6_as 29 = .ok (.iconst 0, 1) := dk_3 (dk_at dksX6_as_1 6 rfl rfl)
theorem dX6_as_30 : decode cX6_as 30 = .ok (.invokevirtual 79, 3) := dk_182 0 79 (dk_at dksX6_as_1 7 rfl rfl)
theorem dX6_as_33 : decode cX6_as 33 = .ok (.iload_n 2, 1) := dk_28 (dk_at dksX6_as_1 10 rfl rfl)
theorem dX6_as_34 : decode cX6_as 34 = .ok (.invokestatic 116, 3) := dk_184 0 116 (dk_at dksX6_as_1 11 rfl rfl)
theorem dX6_as_37 : decode cX6_as 37 = .ok (.ifCond .eq 12, 3) := dk_153 0 12 (dk_at dksX6_as_1 14 rfl rfl)
theorem dX6_as_40 : decode cX6_as 40 = .ok (.aload_n 0, 1) := dk_42 (dk_at dksX6_as_1 17 rfl rfl)
theorem dX6_as_41 : decode cX6_as 41 = .ok (.iload_n 1, 1) := dk_27 (dk_at dksX6_as_1 18 rfl rfl)
theorem dX6_as_42 : decode cX6_as 42 = .ok (.iconst 1, 1) := dk_4 (dk_at dksX6_as_1 19 rfl rfl)
theorem dX6_as_43 : decode cX6_as 43 = .ok (.invokevirtual 79, 3) := dk_182 0 79 (dk_at dksX6_as_1 20 rfl rfl)
theorem dX6_as_46 : decode cX6_as 46 = .ok (.goto 9, 3) := dk_167 0 9 (dk_at dksX6_as_2 0 rfl rfl)
theorem dX6_as_49 : decode cX6_as 49 = .ok (.aload_n 0, 1) := dk_42 (dk_at dksX6_as_2 3 rfl rfl)
theorem dX6_as_50 : decode cX6_as 50 = .ok (.ldc 120, 2) := dk_18 120 (dk_at dksX6_as_2 4 rfl rfl)
theorem dX6_as_52 : decode cX6_as 52 = .ok (.invokevirtual 68, 3) := dk_182 0 68 (dk_at dksX6_as_2 6 rfl rfl)
theorem dX6_as_55 : decode cX6_as 55 = .ok (.ireturn, 1) := dk_172 (dk_at dksX6_as_2 9 rfl rfl)
abbrev cX6_isUnder : ByteArray := prog_30_method_29_code
def yX6_isUnder : MethodName := ⟨RX6, "isUnder", "(II)Z"⟩
def dkwX6_isUnder_1 : List UInt8 := [167, 0, 4, 3, 172]
abbrev dktX6_isUnder_1 : List UInt8 := dkwX6_isUnder_1 ++ []
def dkwX6_isUnder_0 : List UInt8 := [27, 153, 0, 20, 26, 27, 159, 0, 15, 26, 6, 164, 0, 14, 26, 6, 100, 27, 160, 0, 7, 4]
abbrev dktX6_isUnder_0 : List UInt8 := dkwX6_isUnder_0 ++ dktX6_isUnder_1
theorem dksX6_isUnder_0 : cX6_isUnder.data.toList.drop 0 = dktX6_isUnder_0 := by decide +kernel
theorem dksX6_isUnder_1 : cX6_isUnder.data.toList.drop 22 = dktX6_isUnder_1 := dk_seg dksX6_isUnder_0 22 rfl rfl
theorem dX6_isUnder_0 : decode cX6_isUnder 0 = .ok (.iload_n 1, 1) := dk_27 (dk_at dksX6_isUnder_0 0 rfl rfl)
theorem dX6_isUnder_1 : decode cX6_isUnder 1 = .ok (.ifCond .eq 20, 3) := dk_153 0 20 (dk_at dksX6_isUnder_0 1 rfl rfl)
theorem dX6_isUnder_4 : decode cX6_isUnder 4 = .ok (.iload_n 0, 1) := dk_26 (dk_at dksX6_isUnder_0 4 rfl rfl)
theorem dX6_isUnder_5 : decode cX6_isUnder 5 = .ok (.iload_n 1, 1) := dk_27 (dk_at dksX6_isUnder_0 5 rfl rfl)
theorem dX6_isUnder_6 : decode cX6_isUnder 6 = .ok (.if_icmp .eq 15, 3) := dk_159 0 15 (dk_at dksX6_isUnder_0 6 rfl rfl)
theorem dX6_isUnder_9 : decode cX6_isUnder 9 = .ok (.iload_n 0, 1) := dk_26 (dk_at dksX6_isUnder_0 9 rfl rfl)
theorem dX6_isUnder_10 : decode cX6_isUnder 10 = .ok (.iconst 3, 1) := dk_6 (dk_at dksX6_isUnder_0 10 rfl rfl)
theorem dX6_isUnder_11 : decode cX6_isUnder 11 = .ok (.if_icmp .le 14, 3) := dk_164 0 14 (dk_at dksX6_isUnder_0 11 rfl rfl)
theorem dX6_isUnder_14 : decode cX6_isUnder 14 = .ok (.iload_n 0, 1) := dk_26 (dk_at dksX6_isUnder_0 14 rfl rfl)
theorem dX6_isUnder_15 : decode cX6_isUnder 15 = .ok (.iconst 3, 1) := dk_6 (dk_at dksX6_isUnder_0 15 rfl rfl)
theorem dX6_isUnder_16 : decode cX6_isUnder 16 = .ok (.isub, 1) := dk_100 (dk_at dksX6_isUnder_0 16 rfl rfl)
theorem dX6_isUnder_17 : decode cX6_isUnder 17 = .ok (.iload_n 1, 1) := dk_27 (dk_at dksX6_isUnder_0 17 rfl rfl)
theorem dX6_isUnder_18 : decode cX6_isUnder 18 = .ok (.if_icmp .ne 7, 3) := dk_160 0 7 (dk_at dksX6_isUnder_0 18 rfl rfl)
theorem dX6_isUnder_21 : decode cX6_isUnder 21 = .ok (.iconst 1, 1) := dk_4 (dk_at dksX6_isUnder_0 21 rfl rfl)
theorem dX6_isUnder_22 : decode cX6_isUnder 22 = .ok (.goto 4, 3) := dk_167 0 4 (dk_at dksX6_isUnder_1 0 rfl rfl)
theorem dX6_isUnder_25 : decode cX6_isUnder 25 = .ok (.iconst 0, 1) := dk_3 (dk_at dksX6_isUnder_1 3 rfl rfl)
theorem dX6_isUnder_26 : decode cX6_isUnder 26 = .ok (.ireturn, 1) := dk_172 (dk_at dksX6_isUnder_1 4 rfl rfl)
abbrev cX6_feed : ByteArray := prog_30_method_31_code
def yX6_feed : MethodName := ⟨RX6, "feed", "(JI)I"⟩
def dkwX6_feed_4 : List UInt8 := [167, 255, 206, 42, 180, 0, 7, 17, 0, 177, 46, 172]
abbrev dktX6_feed_4 : List UInt8 := dkwX6_feed_4 ++ []
def dkwX6_feed_3 : List UInt8 := [104, 123, 20, 0, 50, 127, 136, 79, 42, 180, 0, 7, 17, 0, 177, 92, 46, 4, 96, 79, 132, 4, 1]
abbrev dktX6_feed_3 : List UInt8 := dkwX6_feed_3 ++ dktX6_feed_4
def dkwX6_feed_2 : List UInt8 := [162, 0, 50, 42, 180, 0, 7, 17, 0, 181, 42, 180, 0, 7, 17, 0, 177, 46, 96, 31, 16, 8, 21, 4]
abbrev dktX6_feed_2 : List UInt8 := dkwX6_feed_2 ++ dktX6_feed_3
def dkwX6_feed_1 : List UInt8 := [17, 0, 177, 46, 29, 96, 16, 50, 164, 0, 10, 42, 18, 98, 182, 0, 68, 172, 3, 54, 4, 21, 4, 29]
abbrev dktX6_feed_1 : List UInt8 := dkwX6_feed_1 ++ dktX6_feed_2
def dkwX6_feed_0 : List UInt8 := [29, 133, 10, 20, 0, 106, 184, 0, 46, 154, 0, 10, 42, 18, 67, 182, 0, 68, 172, 42, 180, 0, 7]
abbrev dktX6_feed_0 : List UInt8 := dkwX6_feed_0 ++ dktX6_feed_1
theorem dksX6_feed_0 : cX6_feed.data.toList.drop 0 = dktX6_feed_0 := by decide +kernel
theorem dksX6_feed_1 : cX6_feed.data.toList.drop 23 = dktX6_feed_1 := dk_seg dksX6_feed_0 23 rfl rfl
theorem dksX6_feed_2 : cX6_feed.data.toList.drop 47 = dktX6_feed_2 := dk_seg dksX6_feed_1 24 rfl rfl
theorem dksX6_feed_3 : cX6_feed.data.toList.drop 71 = dktX6_feed_3 := dk_seg dksX6_feed_2 24 rfl rfl
theorem dksX6_feed_4 : cX6_feed.data.toList.drop 94 = dktX6_feed_4 := dk_seg dksX6_feed_3 23 rfl rfl
theorem dX6_feed_0 : decode cX6_feed 0 = .ok (.iload_n 3, 1) := dk_29 (dk_at dksX6_feed_0 0 rfl rfl)
theorem dX6_feed_1 : decode cX6_feed 1 = .ok (.i2l, 1) := dk_133 (dk_at dksX6_feed_0 1 rfl rfl)
theorem dX6_feed_2 : decode cX6_feed 2 = .ok (.lconst 1, 1) := dk_10 (dk_at dksX6_feed_0 2 rfl rfl)
theorem dX6_feed_3 : decode cX6_feed 3 = .ok (.ldc2_w 106, 3) := dk_20 0 106 (dk_at dksX6_feed_0 3 rfl rfl)
theorem dX6_feed_6 : decode cX6_feed 6 = .ok (.invokestatic 46, 3) := dk_184 0 46 (dk_at dksX6_feed_0 6 rfl rfl)
theorem dX6_feed_9 : decode cX6_feed 9 = .ok (.ifCond .ne 10, 3) := dk_154 0 10 (dk_at dksX6_feed_0 9 rfl rfl)
theorem dX6_feed_12 : decode cX6_feed 12 = .ok (.aload_n 0, 1) := dk_42 (dk_at dksX6_feed_0 12 rfl rfl)
theorem dX6_feed_13 : decode cX6_feed 13 = .ok (.ldc 67, 2) := dk_18 67 (dk_at dksX6_feed_0 13 rfl rfl)
theorem dX6_feed_15 : decode cX6_feed 15 = .ok (.invokevirtual 68, 3) := dk_182 0 68 (dk_at dksX6_feed_0 15 rfl rfl)
theorem dX6_feed_18 : decode cX6_feed 18 = .ok (.ireturn, 1) := dk_172 (dk_at dksX6_feed_0 18 rfl rfl)
theorem dX6_feed_19 : decode cX6_feed 19 = .ok (.aload_n 0, 1) := dk_42 (dk_at dksX6_feed_0 19 rfl rfl)
theorem dX6_feed_20 : decode cX6_feed 20 = .ok (.getfield 7, 3) := dk_180 0 7 (dk_at dksX6_feed_0 20 rfl rfl)
theorem dX6_feed_23 : decode cX6_feed 23 = .ok (.sipush 177, 3) := dk_17 0 177 (dk_at dksX6_feed_1 0 rfl rfl)
theorem dX6_feed_26 : decode cX6_feed 26 = .ok (.iaload, 1) := dk_46 (dk_at dksX6_feed_1 3 rfl rfl)
theorem dX6_feed_27 : decode cX6_feed 27 = .ok (.iload_n 3, 1) := dk_29 (dk_at dksX6_feed_1 4 rfl rfl)
theorem dX6_feed_28 : decode cX6_feed 28 = .ok (.iadd, 1) := dk_96 (dk_at dksX6_feed_1 5 rfl rfl)
theorem dX6_feed_29 : decode cX6_feed 29 = .ok (.bipush 50, 2) := dk_16 50 (dk_at dksX6_feed_1 6 rfl rfl)
theorem dX6_feed_31 : decode cX6_feed 31 = .ok (.if_icmp .le 10, 3) := dk_164 0 10 (dk_at dksX6_feed_1 8 rfl rfl)
theorem dX6_feed_34 : decode cX6_feed 34 = .ok (.aload_n 0, 1) := dk_42 (dk_at dksX6_feed_1 11 rfl rfl)
theorem dX6_feed_35 : decode cX6_feed 35 = .ok (.ldc 98, 2) := dk_18 98 (dk_at dksX6_feed_1 12 rfl rfl)
theorem dX6_feed_37 : decode cX6_feed 37 = .ok (.invokevirtual 68, 3) := dk_182 0 68 (dk_at dksX6_feed_1 14 rfl rfl)
theorem dX6_feed_40 : decode cX6_feed 40 = .ok (.ireturn, 1) := dk_172 (dk_at dksX6_feed_1 17 rfl rfl)
theorem dX6_feed_41 : decode cX6_feed 41 = .ok (.iconst 0, 1) := dk_3 (dk_at dksX6_feed_1 18 rfl rfl)
theorem dX6_feed_42 : decode cX6_feed 42 = .ok (.istore 4, 2) := dk_54 4 (dk_at dksX6_feed_1 19 rfl rfl)
theorem dX6_feed_44 : decode cX6_feed 44 = .ok (.iload 4, 2) := dk_21 4 (dk_at dksX6_feed_1 21 rfl rfl)
theorem dX6_feed_46 : decode cX6_feed 46 = .ok (.iload_n 3, 1) := dk_29 (dk_at dksX6_feed_1 23 rfl rfl)
theorem dX6_feed_47 : decode cX6_feed 47 = .ok (.if_icmp .ge 50, 3) := dk_162 0 50 (dk_at dksX6_feed_2 0 rfl rfl)
theorem dX6_feed_50 : decode cX6_feed 50 = .ok (.aload_n 0, 1) := dk_42 (dk_at dksX6_feed_2 3 rfl rfl)
theorem dX6_feed_51 : decode cX6_feed 51 = .ok (.getfield 7, 3) := dk_180 0 7 (dk_at dksX6_feed_2 4 rfl rfl)
theorem dX6_feed_54 : decode cX6_feed 54 = .ok (.sipush 181, 3) := dk_17 0 181 (dk_at dksX6_feed_2 7 rfl rfl)
theorem dX6_feed_57 : decode cX6_feed 57 = .ok (.aload_n 0, 1) := dk_42 (dk_at dksX6_feed_2 10 rfl rfl)
theorem dX6_feed_58 : decode cX6_feed 58 = .ok (.getfield 7, 3) := dk_180 0 7 (dk_at dksX6_feed_2 11 rfl rfl)
theorem dX6_feed_61 : decode cX6_feed 61 = .ok (.sipush 177, 3) := dk_17 0 177 (dk_at dksX6_feed_2 14 rfl rfl)
theorem dX6_feed_64 : decode cX6_feed 64 = .ok (.iaload, 1) := dk_46 (dk_at dksX6_feed_2 17 rfl rfl)
theorem dX6_feed_65 : decode cX6_feed 65 = .ok (.iadd, 1) := dk_96 (dk_at dksX6_feed_2 18 rfl rfl)
theorem dX6_feed_66 : decode cX6_feed 66 = .ok (.lload_n 1, 1) := dk_31 (dk_at dksX6_feed_2 19 rfl rfl)
theorem dX6_feed_67 : decode cX6_feed 67 = .ok (.bipush 8, 2) := dk_16 8 (dk_at dksX6_feed_2 20 rfl rfl)
theorem dX6_feed_69 : decode cX6_feed 69 = .ok (.iload 4, 2) := dk_21 4 (dk_at dksX6_feed_2 22 rfl rfl)
theorem dX6_feed_71 : decode cX6_feed 71 = .ok (.imul, 1) := dk_104 (dk_at dksX6_feed_3 0 rfl rfl)
theorem dX6_feed_72 : decode cX6_feed 72 = .ok (.lshr, 1) := dk_123 (dk_at dksX6_feed_3 1 rfl rfl)
theorem dX6_feed_73 : decode cX6_feed 73 = .ok (.ldc2_w 50, 3) := dk_20 0 50 (dk_at dksX6_feed_3 2 rfl rfl)
theorem dX6_feed_76 : decode cX6_feed 76 = .ok (.land, 1) := dk_127 (dk_at dksX6_feed_3 5 rfl rfl)
theorem dX6_feed_77 : decode cX6_feed 77 = .ok (.l2i, 1) := dk_136 (dk_at dksX6_feed_3 6 rfl rfl)
theorem dX6_feed_78 : decode cX6_feed 78 = .ok (.iastore, 1) := dk_79 (dk_at dksX6_feed_3 7 rfl rfl)
theorem dX6_feed_79 : decode cX6_feed 79 = .ok (.aload_n 0, 1) := dk_42 (dk_at dksX6_feed_3 8 rfl rfl)
theorem dX6_feed_80 : decode cX6_feed 80 = .ok (.getfield 7, 3) := dk_180 0 7 (dk_at dksX6_feed_3 9 rfl rfl)
theorem dX6_feed_83 : decode cX6_feed 83 = .ok (.sipush 177, 3) := dk_17 0 177 (dk_at dksX6_feed_3 12 rfl rfl)
theorem dX6_feed_86 : decode cX6_feed 86 = .ok (.dup2, 1) := dk_92 (dk_at dksX6_feed_3 15 rfl rfl)
theorem dX6_feed_87 : decode cX6_feed 87 = .ok (.iaload, 1) := dk_46 (dk_at dksX6_feed_3 16 rfl rfl)
theorem dX6_feed_88 : decode cX6_feed 88 = .ok (.iconst 1, 1) := dk_4 (dk_at dksX6_feed_3 17 rfl rfl)
theorem dX6_feed_89 : decode cX6_feed 89 = .ok (.iadd, 1) := dk_96 (dk_at dksX6_feed_3 18 rfl rfl)
theorem dX6_feed_90 : decode cX6_feed 90 = .ok (.iastore, 1) := dk_79 (dk_at dksX6_feed_3 19 rfl rfl)
theorem dX6_feed_91 : decode cX6_feed 91 = .ok (.iinc 4 1, 3) := dk_132 4 1 (dk_at dksX6_feed_3 20 rfl rfl)
theorem dX6_feed_94 : decode cX6_feed 94 = .ok (.goto (-50), 3) := dk_167 255 206 (dk_at dksX6_feed_4 0 rfl rfl)
theorem dX6_feed_97 : decode cX6_feed 97 = .ok (.aload_n 0, 1) := dk_42 (dk_at dksX6_feed_4 3 rfl rfl)
theorem dX6_feed_98 : decode cX6_feed 98 = .ok (.getfield 7, 3) := dk_180 0 7 (dk_at dksX6_feed_4 4 rfl rfl)
theorem dX6_feed_101 : decode cX6_feed 101 = .ok (.sipush 177, 3) := dk_17 0 177 (dk_at dksX6_feed_4 7 rfl rfl)
theorem dX6_feed_104 : decode cX6_feed 104 = .ok (.iaload, 1) := dk_46 (dk_at dksX6_feed_4 10 rfl rfl)
theorem dX6_feed_105 : decode cX6_feed 105 = .ok (.ireturn, 1) := dk_172 (dk_at dksX6_feed_4 11 rfl rfl)
abbrev cX6_text : ByteArray := prog_30_method_44_code
def yX6_text : MethodName := ⟨RX6, "text", "(I)I"⟩
def dkwX6_text_5 : List UInt8 := [180, 0, 128, 153, 0, 13, 16, 246, 42, 180, 0, 121, 100, 167, 0, 4, 4, 172]
abbrev dktX6_text_5 : List UInt8 := dkwX6_text_5 ++ []
def dkwX6_text_4 : List UInt8 := [17, 0, 179, 27, 96, 42, 180, 0, 7, 17, 0, 177, 46, 79, 42, 180, 0, 7, 17, 0, 177, 3, 79, 42]
abbrev dktX6_text_4 : List UInt8 := dkwX6_text_4 ++ dktX6_text_5
def dkwX6_text_3 : List UInt8 := [29, 96, 42, 180, 0, 7, 17, 0, 181, 29, 96, 46, 79, 132, 3, 1, 167, 255, 216, 42, 180, 0, 7]
abbrev dktX6_text_3 : List UInt8 := dkwX6_text_3 ++ dktX6_text_4
def dkwX6_text_2 : List UInt8 := [29, 42, 180, 0, 7, 17, 0, 177, 46, 162, 0, 34, 42, 180, 0, 7, 17, 0, 231, 16, 50, 27, 104, 96]
abbrev dktX6_text_2 : List UInt8 := dkwX6_text_2 ++ dktX6_text_3
def dkwX6_text_1 : List UInt8 := [180, 0, 7, 17, 0, 177, 46, 27, 3, 3, 3, 182, 0, 185, 61, 42, 180, 0, 128, 154, 0, 66, 3, 62]
abbrev dktX6_text_1 : List UInt8 := dkwX6_text_1 ++ dktX6_text_2
def dkwX6_text_0 : List UInt8 := [27, 133, 9, 10, 184, 0, 46, 154, 0, 10, 42, 18, 67, 182, 0, 68, 172, 42, 17, 0, 181, 42]
abbrev dktX6_text_0 : List UInt8 := dkwX6_text_0 ++ dktX6_text_1
theorem dksX6_text_0 : cX6_text.data.toList.drop 0 = dktX6_text_0 := by decide +kernel
theorem dksX6_text_1 : cX6_text.data.toList.drop 22 = dktX6_text_1 := dk_seg dksX6_text_0 22 rfl rfl
theorem dksX6_text_2 : cX6_text.data.toList.drop 46 = dktX6_text_2 := dk_seg dksX6_text_1 24 rfl rfl
theorem dksX6_text_3 : cX6_text.data.toList.drop 70 = dktX6_text_3 := dk_seg dksX6_text_2 24 rfl rfl
theorem dksX6_text_4 : cX6_text.data.toList.drop 93 = dktX6_text_4 := dk_seg dksX6_text_3 23 rfl rfl
theorem dksX6_text_5 : cX6_text.data.toList.drop 117 = dktX6_text_5 := dk_seg dksX6_text_4 24 rfl rfl
theorem dX6_text_0 : decode cX6_text 0 = .ok (.iload_n 1, 1) := dk_27 (dk_at dksX6_text_0 0 rfl rfl)
theorem dX6_text_1 : decode cX6_text 1 = .ok (.i2l, 1) := dk_133 (dk_at dksX6_text_0 1 rfl rfl)
theorem dX6_text_2 : decode cX6_text 2 = .ok (.lconst 0, 1) := dk_9 (dk_at dksX6_text_0 2 rfl rfl)
theorem dX6_text_3 : decode cX6_text 3 = .ok (.lconst 1, 1) := dk_10 (dk_at dksX6_text_0 3 rfl rfl)
theorem dX6_text_4 : decode cX6_text 4 = .ok (.invokestatic 46, 3) := dk_184 0 46 (dk_at dksX6_text_0 4 rfl rfl)
theorem dX6_text_7 : decode cX6_text 7 = .ok (.ifCond .ne 10, 3) := dk_154 0 10 (dk_at dksX6_text_0 7 rfl rfl)
theorem dX6_text_10 : decode cX6_text 10 = .ok (.aload_n 0, 1) := dk_42 (dk_at dksX6_text_0 10 rfl rfl)
theorem dX6_text_11 : decode cX6_text 11 = .ok (.ldc 67, 2) := dk_18 67 (dk_at dksX6_text_0 11 rfl rfl)
theorem dX6_text_13 : decode cX6_text 13 = .ok (.invokevirtual 68, 3) := dk_182 0 68 (dk_at dksX6_text_0 13 rfl rfl)
theorem dX6_text_16 : decode cX6_text 16 = .ok (.ireturn, 1) := dk_172 (dk_at dksX6_text_0 16 rfl rfl)
theorem dX6_text_17 : decode cX6_text 17 = .ok (.aload_n 0, 1) := dk_42 (dk_at dksX6_text_0 17 rfl rfl)
theorem dX6_text_18 : decode cX6_text 18 = .ok (.sipush 181, 3) := dk_17 0 181 (dk_at dksX6_text_0 18 rfl rfl)
theorem dX6_text_21 : decode cX6_text 21 = .ok (.aload_n 0, 1) := dk_42 (dk_at dksX6_text_0 21 rfl rfl)
theorem dX6_text_22 : decode cX6_text 22 = .ok (.getfield 7, 3) := dk_180 0 7 (dk_at dksX6_text_1 0 rfl rfl)
theorem dX6_text_25 : decode cX6_text 25 = .ok (.sipush 177, 3) := dk_17 0 177 (dk_at dksX6_text_1 3 rfl rfl)
theorem dX6_text_28 : decode cX6_text 28 = .ok (.iaload, 1) := dk_46 (dk_at dksX6_text_1 6 rfl rfl)
theorem dX6_text_29 : decode cX6_text 29 = .ok (.iload_n 1, 1) := dk_27 (dk_at dksX6_text_1 7 rfl rfl)
theorem dX6_text_30 : decode cX6_text 30 = .ok (.iconst 0, 1) := dk_3 (dk_at dksX6_text_1 8 rfl rfl)
theorem dX6_text_31 : decode cX6_text 31 = .ok (.iconst 0, 1) := dk_3 (dk_at dksX6_text_1 9 rfl rfl)
theorem dX6_text_32 : decode cX6_text 32 = .ok (.iconst 0, 1) := dk_3 (dk_at dksX6_text_1 10 rfl rfl)
theorem dX6_text_33 : decode cX6_text 33 = .ok (.invokevirtual 185, 3) := dk_182 0 185 (dk_at dksX6_text_1 11 rfl rfl)
theorem dX6_text_36 : decode cX6_text 36 = .ok (.istore_n 2, 1) := dk_61 (dk_at dksX6_text_1 14 rfl rfl)
theorem dX6_text_37 : decode cX6_text 37 = .ok (.aload_n 0, 1) := dk_42 (dk_at dksX6_text_1 15 rfl rfl)
theorem dX6_text_38 : decode cX6_text 38 = .ok (.getfield 128, 3) := dk_180 0 128 (dk_at dksX6_text_1 16 rfl rfl)
theorem dX6_text_41 : decode cX6_text 41 = .ok (.ifCond .ne 66, 3) := dk_154 0 66 (dk_at dksX6_text_1 19 rfl rfl)
theorem dX6_text_44 : decode cX6_text 44 = .ok (.iconst 0, 1) := dk_3 (dk_at dksX6_text_1 22 rfl rfl)
theorem dX6_text_45 : decode cX6_text 45 = .ok (.istore_n 3, 1) := dk_62 (dk_at dksX6_text_1 23 rfl rfl)
theorem dX6_text_46 : decode cX6_text 46 = .ok (.iload_n 3, 1) := dk_29 (dk_at dksX6_text_2 0 rfl rfl)
theorem dX6_text_47 : decode cX6_text 47 = .ok (.aload_n 0, 1) := dk_42 (dk_at dksX6_text_2 1 rfl rfl)
theorem dX6_text_48 : decode cX6_text 48 = .ok (.getfield 7, 3) := dk_180 0 7 (dk_at dksX6_text_2 2 rfl rfl)
theorem dX6_text_51 : decode cX6_text 51 = .ok (.sipush 177, 3) := dk_17 0 177 (dk_at dksX6_text_2 5 rfl rfl)
theorem dX6_text_54 : decode cX6_text 54 = .ok (.iaload, 1) := dk_46 (dk_at dksX6_text_2 8 rfl rfl)
theorem dX6_text_55 : decode cX6_text 55 = .ok (.if_icmp .ge 34, 3) := dk_162 0 34 (dk_at dksX6_text_2 9 rfl rfl)
theorem dX6_text_58 : decode cX6_text 58 = .ok (.aload_n 0, 1) := dk_42 (dk_at dksX6_text_2 12 rfl rfl)
theorem dX6_text_59 : decode cX6_text 59 = .ok (.getfield 7, 3) := dk_180 0 7 (dk_at dksX6_text_2 13 rfl rfl)
theorem dX6_text_62 : decode cX6_text 62 = .ok (.sipush 231, 3) := dk_17 0 231 (dk_at dksX6_text_2 16 rfl rfl)
theorem dX6_text_65 : decode cX6_text 65 = .ok (.bipush 50, 2) := dk_16 50 (dk_at dksX6_text_2 19 rfl rfl)
theorem dX6_text_67 : decode cX6_text 67 = .ok (.iload_n 1, 1) := dk_27 (dk_at dksX6_text_2 21 rfl rfl)
theorem dX6_text_68 : decode cX6_text 68 = .ok (.imul, 1) := dk_104 (dk_at dksX6_text_2 22 rfl rfl)
theorem dX6_text_69 : decode cX6_text 69 = .ok (.iadd, 1) := dk_96 (dk_at dksX6_text_2 23 rfl rfl)
theorem dX6_text_70 : decode cX6_text 70 = .ok (.iload_n 3, 1) := dk_29 (dk_at dksX6_text_3 0 rfl rfl)
theorem dX6_text_71 : decode cX6_text 71 = .ok (.iadd, 1) := dk_96 (dk_at dksX6_text_3 1 rfl rfl)
theorem dX6_text_72 : decode cX6_text 72 = .ok (.aload_n 0, 1) := dk_42 (dk_at dksX6_text_3 2 rfl rfl)
theorem dX6_text_73 : decode cX6_text 73 = .ok (.getfield 7, 3) := dk_180 0 7 (dk_at dksX6_text_3 3 rfl rfl)
theorem dX6_text_76 : decode cX6_text 76 = .ok (.sipush 181, 3) := dk_17 0 181 (dk_at dksX6_text_3 6 rfl rfl)
theorem dX6_text_79 : decode cX6_text 79 = .ok (.iload_n 3, 1) := dk_29 (dk_at dksX6_text_3 9 rfl rfl)
theorem dX6_text_80 : decode cX6_text 80 = .ok (.iadd, 1) := dk_96 (dk_at dksX6_text_3 10 rfl rfl)
theorem dX6_text_81 : decode cX6_text 81 = .ok (.iaload, 1) := dk_46 (dk_at dksX6_text_3 11 rfl rfl)
theorem dX6_text_82 : decode cX6_text 82 = .ok (.iastore, 1) := dk_79 (dk_at dksX6_text_3 12 rfl rfl)
theorem dX6_text_83 : decode cX6_text 83 = .ok (.iinc 3 1, 3) := dk_132 3 1 (dk_at dksX6_text_3 13 rfl rfl)
theorem dX6_text_86 : decode cX6_text 86 = .ok (.goto (-40), 3) := dk_167 255 216 (dk_at dksX6_text_3 16 rfl rfl)
theorem dX6_text_89 : decode cX6_text 89 = .ok (.aload_n 0, 1) := dk_42 (dk_at dksX6_text_3 19 rfl rfl)
theorem dX6_text_90 : decode cX6_text 90 = .ok (.getfield 7, 3) := dk_180 0 7 (dk_at dksX6_text_3 20 rfl rfl)
theorem dX6_text_93 : decode cX6_text 93 = .ok (.sipush 179, 3) := dk_17 0 179 (dk_at dksX6_text_4 0 rfl rfl)
theorem dX6_text_96 : decode cX6_text 96 = .ok (.iload_n 1, 1) := dk_27 (dk_at dksX6_text_4 3 rfl rfl)
theorem dX6_text_97 : decode cX6_text 97 = .ok (.iadd, 1) := dk_96 (dk_at dksX6_text_4 4 rfl rfl)
theorem dX6_text_98 : decode cX6_text 98 = .ok (.aload_n 0, 1) := dk_42 (dk_at dksX6_text_4 5 rfl rfl)
theorem dX6_text_99 : decode cX6_text 99 = .ok (.getfield 7, 3) := dk_180 0 7 (dk_at dksX6_text_4 6 rfl rfl)
theorem dX6_text_102 : decode cX6_text 102 = .ok (.sipush 177, 3) := dk_17 0 177 (dk_at dksX6_text_4 9 rfl rfl)
theorem dX6_text_105 : decode cX6_text 105 = .ok (.iaload, 1) := dk_46 (dk_at dksX6_text_4 12 rfl rfl)
theorem dX6_text_106 : decode cX6_text 106 = .ok (.iastore, 1) := dk_79 (dk_at dksX6_text_4 13 rfl rfl)
theorem dX6_text_107 : decode cX6_text 107 = .ok (.aload_n 0, 1) := dk_42 (dk_at dksX6_text_4 14 rfl rfl)
theorem dX6_text_108 : decode cX6_text 108 = .ok (.getfield 7, 3) := dk_180 0 7 (dk_at dksX6_text_4 15 rfl rfl)
theorem dX6_text_111 : decode cX6_text 111 = .ok (.sipush 177, 3) := dk_17 0 177 (dk_at dksX6_text_4 18 rfl rfl)
theorem dX6_text_114 : decode cX6_text 114 = .ok (.iconst 0, 1) := dk_3 (dk_at dksX6_text_4 21 rfl rfl)
theorem dX6_text_115 : decode cX6_text 115 = .ok (.iastore, 1) := dk_79 (dk_at dksX6_text_4 22 rfl rfl)
theorem dX6_text_116 : decode cX6_text 116 = .ok (.aload_n 0, 1) := dk_42 (dk_at dksX6_text_4 23 rfl rfl)
theorem dX6_text_117 : decode cX6_text 117 = .ok (.getfield 128, 3) := dk_180 0 128 (dk_at dksX6_text_5 0 rfl rfl)
theorem dX6_text_120 : decode cX6_text 120 = .ok (.ifCond .eq 13, 3) := dk_153 0 13 (dk_at dksX6_text_5 3 rfl rfl)
theorem dX6_text_123 : decode cX6_text 123 = .ok (.bipush (-10), 2) := dk_16 246 (dk_at dksX6_text_5 6 rfl rfl)
theorem dX6_text_125 : decode cX6_text 125 = .ok (.aload_n 0, 1) := dk_42 (dk_at dksX6_text_5 8 rfl rfl)
theorem dX6_text_126 : decode cX6_text 126 = .ok (.getfield 121, 3) := dk_180 0 121 (dk_at dksX6_text_5 9 rfl rfl)
theorem dX6_text_129 : decode cX6_text 129 = .ok (.isub, 1) := dk_100 (dk_at dksX6_text_5 12 rfl rfl)
theorem dX6_text_130 : decode cX6_text 130 = .ok (.goto 4, 3) := dk_167 0 4 (dk_at dksX6_text_5 13 rfl rfl)
theorem dX6_text_133 : decode cX6_text 133 = .ok (.iconst 1, 1) := dk_4 (dk_at dksX6_text_5 16 rfl rfl)
theorem dX6_text_134 : decode cX6_text 134 = .ok (.ireturn, 1) := dk_172 (dk_at dksX6_text_5 17 rfl rfl)
abbrev cX6_law : ByteArray := prog_30_method_47_code
def yX6_law : MethodName := ⟨RX6, "law", "(IIII)I"⟩
def dkwX6_law_1 : List UInt8 := [21, 4, 182, 0, 99, 167, 0, 11, 42, 28, 29, 21, 4, 182, 0, 196, 172]
abbrev dktX6_law_1 : List UInt8 := dkwX6_law_1 ++ []
def dkwX6_law_0 : List UInt8 := [27, 133, 9, 10, 184, 0, 46, 154, 0, 10, 42, 18, 67, 182, 0, 68, 172, 27, 154, 0, 14, 42, 28, 29]
abbrev dktX6_law_0 : List UInt8 := dkwX6_law_0 ++ dktX6_law_1
theorem dksX6_law_0 : cX6_law.data.toList.drop 0 = dktX6_law_0 := by decide +kernel
theorem dksX6_law_1 : cX6_law.data.toList.drop 24 = dktX6_law_1 := dk_seg dksX6_law_0 24 rfl rfl
theorem dX6_law_0 : decode cX6_law 0 = .ok (.iload_n 1, 1) := dk_27 (dk_at dksX6_law_0 0 rfl rfl)
theorem dX6_law_1 : decode cX6_law 1 = .ok (.i2l, 1) := dk_133 (dk_at dksX6_law_0 1 rfl rfl)
theorem dX6_law_2 : decode cX6_law 2 = .ok (.lconst 0, 1) := dk_9 (dk_at dksX6_law_0 2 rfl rfl)
theorem dX6_law_3 : decode cX6_law 3 = .ok (.lconst 1, 1) := dk_10 (dk_at dksX6_law_0 3 rfl rfl)
theorem dX6_law_4 : decode cX6_law 4 = .ok (.invokestatic 46, 3) := dk_184 0 46 (dk_at dksX6_law_0 4 rfl rfl)
theorem dX6_law_7 : decode cX6_law 7 = .ok (.ifCond .ne 10, 3) := dk_154 0 10 (dk_at dksX6_law_0 7 rfl rfl)
theorem dX6_law_10 : decode cX6_law 10 = .ok (.aload_n 0, 1) := dk_42 (dk_at dksX6_law_0 10 rfl rfl)
theorem dX6_law_11 : decode cX6_law 11 = .ok (.ldc 67, 2) := dk_18 67 (dk_at dksX6_law_0 11 rfl rfl)
theorem dX6_law_13 : decode cX6_law 13 = .ok (.invokevirtual 68, 3) := dk_182 0 68 (dk_at dksX6_law_0 13 rfl rfl)
theorem dX6_law_16 : decode cX6_law 16 = .ok (.ireturn, 1) := dk_172 (dk_at dksX6_law_0 16 rfl rfl)
theorem dX6_law_17 : decode cX6_law 17 = .ok (.iload_n 1, 1) := dk_27 (dk_at dksX6_law_0 17 rfl rfl)
theorem dX6_law_18 : decode cX6_law 18 = .ok (.ifCond .ne 14, 3) := dk_154 0 14 (dk_at dksX6_law_0 18 rfl rfl)
theorem dX6_law_21 : decode cX6_law 21 = .ok (.aload_n 0, 1) := dk_42 (dk_at dksX6_law_0 21 rfl rfl)
theorem dX6_law_22 : decode cX6_law 22 = .ok (.iload_n 2, 1) := dk_28 (dk_at dksX6_law_0 22 rfl rfl)
theorem dX6_law_23 : decode cX6_law 23 = .ok (.iload_n 3, 1) := dk_29 (dk_at dksX6_law_0 23 rfl rfl)
theorem dX6_law_24 : decode cX6_law 24 = .ok (.iload 4, 2) := dk_21 4 (dk_at dksX6_law_1 0 rfl rfl)
theorem dX6_law_26 : decode cX6_law 26 = .ok (.invokevirtual 99, 3) := dk_182 0 99 (dk_at dksX6_law_1 2 rfl rfl)
theorem dX6_law_29 : decode cX6_law 29 = .ok (.goto 11, 3) := dk_167 0 11 (dk_at dksX6_law_1 5 rfl rfl)
theorem dX6_law_32 : decode cX6_law 32 = .ok (.aload_n 0, 1) := dk_42 (dk_at dksX6_law_1 8 rfl rfl)
theorem dX6_law_33 : decode cX6_law 33 = .ok (.iload_n 2, 1) := dk_28 (dk_at dksX6_law_1 9 rfl rfl)
theorem dX6_law_34 : decode cX6_law 34 = .ok (.iload_n 3, 1) := dk_29 (dk_at dksX6_law_1 10 rfl rfl)
theorem dX6_law_35 : decode cX6_law 35 = .ok (.iload 4, 2) := dk_21 4 (dk_at dksX6_law_1 11 rfl rfl)
theorem dX6_law_37 : decode cX6_law 37 = .ok (.invokevirtual 196, 3) := dk_182 0 196 (dk_at dksX6_law_1 13 rfl rfl)
theorem dX6_law_40 : decode cX6_law 40 = .ok (.ireturn, 1) := dk_172 (dk_at dksX6_law_1 16 rfl rfl)
abbrev cX6_parched : ByteArray := prog_30_method_46_code
def yX6_parched : MethodName := ⟨RX6, "parched", "(III)I"⟩
def dkwX6_parched_1 : List UInt8 := [16, 99, 184, 0, 193, 172]
abbrev dktX6_parched_1 : List UInt8 := dkwX6_parched_1 ++ []
def dkwX6_parched_0 : List UInt8 := [42, 180, 0, 7, 17, 0, 180, 46, 156, 0, 7, 27, 167, 0, 11, 42, 4, 27, 28, 29, 182, 0, 189, 3]
abbrev dktX6_parched_0 : List UInt8 := dkwX6_parched_0 ++ dktX6_parched_1
theorem dksX6_parched_0 : cX6_parched.data.toList.drop 0 = dktX6_parched_0 := by decide +kernel
theorem dksX6_parched_1 : cX6_parched.data.toList.drop 24 = dktX6_parched_1 := dk_seg dksX6_parched_0 24 rfl rfl
theorem dX6_parched_0 : decode cX6_parched 0 = .ok (.aload_n 0, 1) := dk_42 (dk_at dksX6_parched_0 0 rfl rfl)
theorem dX6_parched_1 : decode cX6_parched 1 = .ok (.getfield 7, 3) := dk_180 0 7 (dk_at dksX6_parched_0 1 rfl rfl)
theorem dX6_parched_4 : decode cX6_parched 4 = .ok (.sipush 180, 3) := dk_17 0 180 (dk_at dksX6_parched_0 4 rfl rfl)
theorem dX6_parched_7 : decode cX6_parched 7 = .ok (.iaload, 1) := dk_46 (dk_at dksX6_parched_0 7 rfl rfl)
theorem dX6_parched_8 : decode cX6_parched 8 = .ok (.ifCond .ge 7, 3) := dk_156 0 7 (dk_at dksX6_parched_0 8 rfl rfl)
theorem dX6_parched_11 : decode cX6_parched 11 = .ok (.iload_n 1, 1) := dk_27 (dk_at dksX6_parched_0 11 rfl rfl)
theorem dX6_parched_12 : decode cX6_parched 12 = .ok (.goto 11, 3) := dk_167 0 11 (dk_at dksX6_parched_0 12 rfl rfl)
theorem dX6_parched_15 : decode cX6_parched 15 = .ok (.aload_n 0, 1) := dk_42 (dk_at dksX6_parched_0 15 rfl rfl)
theorem dX6_parched_16 : decode cX6_parched 16 = .ok (.iconst 1, 1) := dk_4 (dk_at dksX6_parched_0 16 rfl rfl)
theorem dX6_parched_17 : decode cX6_parched 17 = .ok (.iload_n 1, 1) := dk_27 (dk_at dksX6_parched_0 17 rfl rfl)
theorem dX6_parched_18 : decode cX6_parched 18 = .ok (.iload_n 2, 1) := dk_28 (dk_at dksX6_parched_0 18 rfl rfl)
theorem dX6_parched_19 : decode cX6_parched 19 = .ok (.iload_n 3, 1) := dk_29 (dk_at dksX6_parched_0 19 rfl rfl)
theorem dX6_parched_20 : decode cX6_parched 20 = .ok (.invokevirtual 189, 3) := dk_182 0 189 (dk_at dksX6_parched_0 20 rfl rfl)
theorem dX6_parched_23 : decode cX6_parched 23 = .ok (.iconst 0, 1) := dk_3 (dk_at dksX6_parched_0 23 rfl rfl)
theorem dX6_parched_24 : decode cX6_parched 24 = .ok (.bipush 99, 2) := dk_16 99 (dk_at dksX6_parched_1 0 rfl rfl)
theorem dX6_parched_26 : decode cX6_parched 26 = .ok (.invokestatic 193, 3) := dk_184 0 193 (dk_at dksX6_parched_1 2 rfl rfl)
theorem dX6_parched_29 : decode cX6_parched 29 = .ok (.ireturn, 1) := dk_172 (dk_at dksX6_parched_1 5 rfl rfl)
abbrev cX6_drink : ByteArray := prog_30_method_48_code
def yX6_drink : MethodName := ⟨RX6, "drink", "(I)I"⟩
def dkwX6_drink_4 : List UInt8 := [27, 28, 182, 0, 200, 79, 42, 27, 6, 182, 0, 79, 172]
abbrev dktX6_drink_4 : List UInt8 := dkwX6_drink_4 ++ []
def dkwX6_drink_3 : List UInt8 := [29, 100, 79, 42, 180, 0, 7, 27, 7, 184, 0, 54, 3, 79, 42, 180, 0, 7, 27, 6, 184, 0, 54, 42]
abbrev dktX6_drink_3 : List UInt8 := dkwX6_drink_3 ++ dktX6_drink_4
def dkwX6_drink_2 : List UInt8 := [3, 28, 96, 46, 29, 162, 0, 10, 42, 18, 199, 182, 0, 68, 172, 42, 180, 0, 7, 3, 28, 96, 92, 46]
abbrev dktX6_drink_2 : List UInt8 := dkwX6_drink_2 ++ dktX6_drink_3
def dkwX6_drink_1 : List UInt8 := [42, 27, 7, 182, 0, 79, 182, 0, 111, 62, 42, 27, 8, 182, 0, 79, 4, 159, 0, 15, 42, 180, 0, 7]
abbrev dktX6_drink_1 : List UInt8 := dkwX6_drink_1 ++ dktX6_drink_2
def dkwX6_drink_0 : List UInt8 := [42, 27, 182, 0, 103, 154, 0, 10, 42, 18, 67, 182, 0, 68, 172, 42, 27, 5, 182, 0, 79, 61, 42, 27]
abbrev dktX6_drink_0 : List UInt8 := dkwX6_drink_0 ++ dktX6_drink_1
theorem dksX6_drink_0 : cX6_drink.data.toList.drop 0 = dktX6_drink_0 := by decide +kernel
theorem dksX6_drink_1 : cX6_drink.data.toList.drop 24 = dktX6_drink_1 := dk_seg dksX6_drink_0 24 rfl rfl
theorem dksX6_drink_2 : cX6_drink.data.toList.drop 48 = dktX6_drink_2 := dk_seg dksX6_drink_1 24 rfl rfl
theorem dksX6_drink_3 : cX6_drink.data.toList.drop 72 = dktX6_drink_3 := dk_seg dksX6_drink_2 24 rfl rfl
theorem dksX6_drink_4 : cX6_drink.data.toList.drop 96 = dktX6_drink_4 := dk_seg dksX6_drink_3 24 rfl rfl
theorem dX6_drink_0 : decode cX6_drink 0 = .ok (.aload_n 0, 1) := dk_42 (dk_at dksX6_drink_0 0 rfl rfl)
theorem dX6_drink_1 : decode cX6_drink 1 = .ok (.iload_n 1, 1) := dk_27 (dk_at dksX6_drink_0 1 rfl rfl)
theorem dX6_drink_2 : decode cX6_drink 2 = .ok (.invokevirtual 103, 3) := dk_182 0 103 (dk_at dksX6_drink_0 2 rfl rfl)
theorem dX6_drink_5 : decode cX6_drink 5 = .ok (.ifCond .ne 10, 3) := dk_154 0 10 (dk_at dksX6_drink_0 5 rfl rfl)
theorem dX6_drink_8 : decode cX6_drink 8 = .ok (.aload_n 0, 1) := dk_42 (dk_at dksX6_drink_0 8 rfl rfl)
theorem dX6_drink_9 : decode cX6_drink 9 = .ok (.ldc 67, 2) := dk_18 67 (dk_at dksX6_drink_0 9 rfl rfl)
theorem dX6_drink_11 : decode cX6_drink 11 = .ok (.invokevirtual 68, 3) := dk_182 0 68 (dk_at dksX6_drink_0 11 rfl rfl)
theorem dX6_drink_14 : decode cX6_drink 14 = .ok (.ireturn, 1) := dk_172 (dk_at dksX6_drink_0 14 rfl rfl)
theorem dX6_drink_15 : decode cX6_drink 15 = .ok (.aload_n 0, 1) := dk_42 (dk_at dksX6_drink_0 15 rfl rfl)
theorem dX6_drink_16 : decode cX6_drink 16 = .ok (.iload_n 1, 1) := dk_27 (dk_at dksX6_drink_0 16 rfl rfl)
theorem dX6_drink_17 : decode cX6_drink 17 = .ok (.iconst 2, 1) := dk_5 (dk_at dksX6_drink_0 17 rfl rfl)
theorem dX6_drink_18 : decode cX6_drink 18 = .ok (.invokevirtual 79, 3) := dk_182 0 79 (dk_at dksX6_drink_0 18 rfl rfl)
theorem dX6_drink_21 : decode cX6_drink 21 = .ok (.istore_n 2, 1) := dk_61 (dk_at dksX6_drink_0 21 rfl rfl)
theorem dX6_drink_22 : decode cX6_drink 22 = .ok (.aload_n 0, 1) := dk_42 (dk_at dksX6_drink_0 22 rfl rfl)
theorem dX6_drink_23 : decode cX6_drink 23 = .ok (.iload_n 1, 1) := dk_27 (dk_at dksX6_drink_0 23 rfl rfl)
theorem dX6_drink_24 : decode cX6_drink 24 = .ok (.aload_n 0, 1) := dk_42 (dk_at dksX6_drink_1 0 rfl rfl)
theorem dX6_drink_25 : decode cX6_drink 25 = .ok (.iload_n 1, 1) := dk_27 (dk_at dksX6_drink_1 1 rfl rfl)
theorem dX6_drink_26 : decode cX6_drink 26 = .ok (.iconst 4, 1) := dk_7 (dk_at dksX6_drink_1 2 rfl rfl)
theorem dX6_drink_27 : decode cX6_drink 27 = .ok (.invokevirtual 79, 3) := dk_182 0 79 (dk_at dksX6_drink_1 3 rfl rfl)
theorem dX6_drink_30 : decode cX6_drink 30 = .ok (.invokevirtual 111, 3) := dk_182 0 111 (dk_at dksX6_drink_1 6 rfl rfl)
theorem dX6_drink_33 : decode cX6_drink 33 = .ok (.istore_n 3, 1) := dk_62 (dk_at dksX6_drink_1 9 rfl rfl)
theorem dX6_drink_34 : decode cX6_drink 34 = .ok (.aload_n 0, 1) := dk_42 (dk_at dksX6_drink_1 10 rfl rfl)
theorem dX6_drink_35 : decode cX6_drink 35 = .ok (.iload_n 1, 1) := dk_27 (dk_at dksX6_drink_1 11 rfl rfl)
theorem dX6_drink_36 : decode cX6_drink 36 = .ok (.iconst 5, 1) := dk_8 (dk_at dksX6_drink_1 12 rfl rfl)
theorem dX6_drink_37 : decode cX6_drink 37 = .ok (.invokevirtual 79, 3) := dk_182 0 79 (dk_at dksX6_drink_1 13 rfl rfl)
theorem dX6_drink_40 : decode cX6_drink 40 = .ok (.iconst 1, 1) := dk_4 (dk_at dksX6_drink_1 16 rfl rfl)
theorem dX6_drink_41 : decode cX6_drink 41 = .ok (.if_icmp .eq 15, 3) := dk_159 0 15 (dk_at dksX6_drink_1 17 rfl rfl)
theorem dX6_drink_44 : decode cX6_drink 44 = .ok (.aload_n 0, 1) := dk_42 (dk_at dksX6_drink_1 20 rfl rfl)
theorem dX6_drink_45 : decode cX6_drink 45 = .ok (.getfield 7, 3) := dk_180 0 7 (dk_at dksX6_drink_1 21 rfl rfl)
theorem dX6_drink_48 : decode cX6_drink 48 = .ok (.iconst 0, 1) := dk_3 (dk_at dksX6_drink_2 0 rfl rfl)
theorem dX6_drink_49 : decode cX6_drink 49 = .ok (.iload_n 2, 1) := dk_28 (dk_at dksX6_drink_2 1 rfl rfl)
theorem dX6_drink_50 : decode cX6_drink 50 = .ok (.iadd, 1) := dk_96 (dk_at dksX6_drink_2 2 rfl rfl)
theorem dX6_drink_51 : decode cX6_drink 51 = .ok (.iaload, 1) := dk_46 (dk_at dksX6_drink_2 3 rfl rfl)
theorem dX6_drink_52 : decode cX6_drink 52 = .ok (.iload_n 3, 1) := dk_29 (dk_at dksX6_drink_2 4 rfl rfl)
theorem dX6_drink_53 : decode cX6_drink 53 = .ok (.if_icmp .ge 10, 3) := dk_162 0 10 (dk_at dksX6_drink_2 5 rfl rfl)
theorem dX6_drink_56 : decode cX6_drink 56 = .ok (.aload_n 0, 1) := dk_42 (dk_at dksX6_drink_2 8 rfl rfl)
theorem dX6_drink_57 : decode cX6_drink 57 = .ok (.ldc 199, 2) := dk_18 199 (dk_at dksX6_drink_2 9 rfl rfl)
theorem dX6_drink_59 : decode cX6_drink 59 = .ok (.invokevirtual 68, 3) := dk_182 0 68 (dk_at dksX6_drink_2 11 rfl rfl)
theorem dX6_drink_62 : decode cX6_drink 62 = .ok (.ireturn, 1) := dk_172 (dk_at dksX6_drink_2 14 rfl rfl)
theorem dX6_drink_63 : decode cX6_drink 63 = .ok (.aload_n 0, 1) := dk_42 (dk_at dksX6_drink_2 15 rfl rfl)
theorem dX6_drink_64 : decode cX6_drink 64 = .ok (.getfield 7, 3) := dk_180 0 7 (dk_at dksX6_drink_2 16 rfl rfl)
theorem dX6_drink_67 : decode cX6_drink 67 = .ok (.iconst 0, 1) := dk_3 (dk_at dksX6_drink_2 19 rfl rfl)
theorem dX6_drink_68 : decode cX6_drink 68 = .ok (.iload_n 2, 1) := dk_28 (dk_at dksX6_drink_2 20 rfl rfl)
theorem dX6_drink_69 : decode cX6_drink 69 = .ok (.iadd, 1) := dk_96 (dk_at dksX6_drink_2 21 rfl rfl)
theorem dX6_drink_70 : decode cX6_drink 70 = .ok (.dup2, 1) := dk_92 (dk_at dksX6_drink_2 22 rfl rfl)
theorem dX6_drink_71 : decode cX6_drink 71 = .ok (.iaload, 1) := dk_46 (dk_at dksX6_drink_2 23 rfl rfl)
theorem dX6_drink_72 : decode cX6_drink 72 = .ok (.iload_n 3, 1) := dk_29 (dk_at dksX6_drink_3 0 rfl rfl)
theorem dX6_drink_73 : decode cX6_drink 73 = .ok (.isub, 1) := dk_100 (dk_at dksX6_drink_3 1 rfl rfl)
theorem dX6_drink_74 : decode cX6_drink 74 = .ok (.iastore, 1) := dk_79 (dk_at dksX6_drink_3 2 rfl rfl)
theorem dX6_drink_75 : decode cX6_drink 75 = .ok (.aload_n 0, 1) := dk_42 (dk_at dksX6_drink_3 3 rfl rfl)
theorem dX6_drink_76 : decode cX6_drink 76 = .ok (.getfield 7, 3) := dk_180 0 7 (dk_at dksX6_drink_3 4 rfl rfl)
theorem dX6_drink_79 : decode cX6_drink 79 = .ok (.iload_n 1, 1) := dk_27 (dk_at dksX6_drink_3 7 rfl rfl)
theorem dX6_drink_80 : decode cX6_drink 80 = .ok (.iconst 4, 1) := dk_7 (dk_at dksX6_drink_3 8 rfl rfl)
theorem dX6_drink_81 : decode cX6_drink 81 = .ok (.invokestatic 54, 3) := dk_184 0 54 (dk_at dksX6_drink_3 9 rfl rfl)
theorem dX6_drink_84 : decode cX6_drink 84 = .ok (.iconst 0, 1) := dk_3 (dk_at dksX6_drink_3 12 rfl rfl)
theorem dX6_drink_85 : decode cX6_drink 85 = .ok (.iastore, 1) := dk_79 (dk_at dksX6_drink_3 13 rfl rfl)
theorem dX6_drink_86 : decode cX6_drink 86 = .ok (.aload_n 0, 1) := dk_42 (dk_at dksX6_drink_3 14 rfl rfl)
theorem dX6_drink_87 : decode cX6_drink 87 = .ok (.getfield 7, 3) := dk_180 0 7 (dk_at dksX6_drink_3 15 rfl rfl)
theorem dX6_drink_90 : decode cX6_drink 90 = .ok (.iload_n 1, 1) := dk_27 (dk_at dksX6_drink_3 18 rfl rfl)
theorem dX6_drink_91 : decode cX6_drink 91 = .ok (.iconst 3, 1) := dk_6 (dk_at dksX6_drink_3 19 rfl rfl)
theorem dX6_drink_92 : decode cX6_drink 92 = .ok (.invokestatic 54, 3) := dk_184 0 54 (dk_at dksX6_drink_3 20 rfl rfl)
theorem dX6_drink_95 : decode cX6_drink 95 = .ok (.aload_n 0, 1) := dk_42 (dk_at dksX6_drink_3 23 rfl rfl)
theorem dX6_drink_96 : decode cX6_drink 96 = .ok (.iload_n 1, 1) := dk_27 (dk_at dksX6_drink_4 0 rfl rfl)
theorem dX6_drink_97 : decode cX6_drink 97 = .ok (.iload_n 2, 1) := dk_28 (dk_at dksX6_drink_4 1 rfl rfl)
theorem dX6_drink_98 : decode cX6_drink 98 = .ok (.invokevirtual 200, 3) := dk_182 0 200 (dk_at dksX6_drink_4 2 rfl rfl)
theorem dX6_drink_101 : decode cX6_drink 101 = .ok (.iastore, 1) := dk_79 (dk_at dksX6_drink_4 5 rfl rfl)
theorem dX6_drink_102 : decode cX6_drink 102 = .ok (.aload_n 0, 1) := dk_42 (dk_at dksX6_drink_4 6 rfl rfl)
theorem dX6_drink_103 : decode cX6_drink 103 = .ok (.iload_n 1, 1) := dk_27 (dk_at dksX6_drink_4 7 rfl rfl)
theorem dX6_drink_104 : decode cX6_drink 104 = .ok (.iconst 3, 1) := dk_6 (dk_at dksX6_drink_4 8 rfl rfl)
theorem dX6_drink_105 : decode cX6_drink 105 = .ok (.invokevirtual 79, 3) := dk_182 0 79 (dk_at dksX6_drink_4 9 rfl rfl)
theorem dX6_drink_108 : decode cX6_drink 108 = .ok (.ireturn, 1) := dk_172 (dk_at dksX6_drink_4 12 rfl rfl)
abbrev cX6_calledOf : ByteArray := prog_30_method_26_code
def yX6_calledOf : MethodName := ⟨RX6, "calledOf", "(II)I"⟩
def dkwX6_calledOf_3 : List UInt8 := [167, 0, 4, 29, 172, 29, 28, 160, 0, 7, 2, 167, 0, 4, 28, 172, 28, 172]
abbrev dktX6_calledOf_3 : List UInt8 := dkwX6_calledOf_3 ++ []
def dkwX6_calledOf_2 : List UInt8 := [29, 156, 0, 7, 28, 167, 0, 4, 29, 172, 42, 180, 0, 7, 17, 0, 137, 46, 5, 112, 154, 0, 7, 28]
abbrev dktX6_calledOf_2 : List UInt8 := dkwX6_calledOf_2 ++ dktX6_calledOf_3
def dkwX6_calledOf_1 : List UInt8 := [170, 0, 0, 0, 0, 0, 71, 0, 0, 0, 3, 0, 0, 0, 6, 0, 0, 0, 41, 0, 0, 0, 31, 0, 0, 0, 60, 0, 0, 0, 41]
abbrev dktX6_calledOf_1 : List UInt8 := dkwX6_calledOf_1 ++ dktX6_calledOf_2
def dkwX6_calledOf_0 : List UInt8 := [42, 27, 6, 182, 0, 79, 62, 42, 27, 3, 182, 0, 79]
abbrev dktX6_calledOf_0 : List UInt8 := dkwX6_calledOf_0 ++ dktX6_calledOf_1
theorem dksX6_calledOf_0 : cX6_calledOf.data.toList.drop 0 = dktX6_calledOf_0 := by decide +kernel
theorem dksX6_calledOf_1 : cX6_calledOf.data.toList.drop 13 = dktX6_calledOf_1 := dk_seg dksX6_calledOf_0 13 rfl rfl
theorem dksX6_calledOf_2 : cX6_calledOf.data.toList.drop 44 = dktX6_calledOf_2 := dk_seg dksX6_calledOf_1 31 rfl rfl
theorem dksX6_calledOf_3 : cX6_calledOf.data.toList.drop 68 = dktX6_calledOf_3 := dk_seg dksX6_calledOf_2 24 rfl rfl
theorem dX6_calledOf_0 : decode cX6_calledOf 0 = .ok (.aload_n 0, 1) := dk_42 (dk_at dksX6_calledOf_0 0 rfl rfl)
theorem dX6_calledOf_1 : decode cX6_calledOf 1 = .ok (.iload_n 1, 1) := dk_27 (dk_at dksX6_calledOf_0 1 rfl rfl)
theorem dX6_calledOf_2 : decode cX6_calledOf 2 = .ok (.iconst 3, 1) := dk_6 (dk_at dksX6_calledOf_0 2 rfl rfl)
theorem dX6_calledOf_3 : decode cX6_calledOf 3 = .ok (.invokevirtual 79, 3) := dk_182 0 79 (dk_at dksX6_calledOf_0 3 rfl rfl)
theorem dX6_calledOf_6 : decode cX6_calledOf 6 = .ok (.istore_n 3, 1) := dk_62 (dk_at dksX6_calledOf_0 6 rfl rfl)
theorem dX6_calledOf_7 : decode cX6_calledOf 7 = .ok (.aload_n 0, 1) := dk_42 (dk_at dksX6_calledOf_0 7 rfl rfl)
theorem dX6_calledOf_8 : decode cX6_calledOf 8 = .ok (.iload_n 1, 1) := dk_27 (dk_at dksX6_calledOf_0 8 rfl rfl)
theorem dX6_calledOf_9 : decode cX6_calledOf 9 = .ok (.iconst 0, 1) := dk_3 (dk_at dksX6_calledOf_0 9 rfl rfl)
theorem dX6_calledOf_10 : decode cX6_calledOf 10 = .ok (.invokevirtual 79, 3) := dk_182 0 79 (dk_at dksX6_calledOf_0 10 rfl rfl)
theorem dX6_calledOf_13 : decode cX6_calledOf 13 = .ok (.tableswitch 71 3 6 #[41, 31, 60, 41], 31) := by decide +kernel
theorem dX6_calledOf_44 : decode cX6_calledOf 44 = .ok (.iload_n 3, 1) := dk_29 (dk_at dksX6_calledOf_2 0 rfl rfl)
theorem dX6_calledOf_45 : decode cX6_calledOf 45 = .ok (.ifCond .ge 7, 3) := dk_156 0 7 (dk_at dksX6_calledOf_2 1 rfl rfl)
theorem dX6_calledOf_48 : decode cX6_calledOf 48 = .ok (.iload_n 2, 1) := dk_28 (dk_at dksX6_calledOf_2 4 rfl rfl)
theorem dX6_calledOf_49 : decode cX6_calledOf 49 = .ok (.goto 4, 3) := dk_167 0 4 (dk_at dksX6_calledOf_2 5 rfl rfl)
theorem dX6_calledOf_52 : decode cX6_calledOf 52 = .ok (.iload_n 3, 1) := dk_29 (dk_at dksX6_calledOf_2 8 rfl rfl)
theorem dX6_calledOf_53 : decode cX6_calledOf 53 = .ok (.ireturn, 1) := dk_172 (dk_at dksX6_calledOf_2 9 rfl rfl)
theorem dX6_calledOf_54 : decode cX6_calledOf 54 = .ok (.aload_n 0, 1) := dk_42 (dk_at dksX6_calledOf_2 10 rfl rfl)
theorem dX6_calledOf_55 : decode cX6_calledOf 55 = .ok (.getfield 7, 3) := dk_180 0 7 (dk_at dksX6_calledOf_2 11 rfl rfl)
theorem dX6_calledOf_58 : decode cX6_calledOf 58 = .ok (.sipush 137, 3) := dk_17 0 137 (dk_at dksX6_calledOf_2 14 rfl rfl)
theorem dX6_calledOf_61 : decode cX6_calledOf 61 = .ok (.iaload, 1) := dk_46 (dk_at dksX6_calledOf_2 17 rfl rfl)
theorem dX6_calledOf_62 : decode cX6_calledOf 62 = .ok (.iconst 2, 1) := dk_5 (dk_at dksX6_calledOf_2 18 rfl rfl)
theorem dX6_calledOf_63 : decode cX6_calledOf 63 = .ok (.irem, 1) := dk_112 (dk_at dksX6_calledOf_2 19 rfl rfl)
theorem dX6_calledOf_64 : decode cX6_calledOf 64 = .ok (.ifCond .ne 7, 3) := dk_154 0 7 (dk_at dksX6_calledOf_2 20 rfl rfl)
theorem dX6_calledOf_67 : decode cX6_calledOf 67 = .ok (.iload_n 2, 1) := dk_28 (dk_at dksX6_calledOf_2 23 rfl rfl)
theorem dX6_calledOf_68 : decode cX6_calledOf 68 = .ok (.goto 4, 3) := dk_167 0 4 (dk_at dksX6_calledOf_3 0 rfl rfl)
theorem dX6_calledOf_71 : decode cX6_calledOf 71 = .ok (.iload_n 3, 1) := dk_29 (dk_at dksX6_calledOf_3 3 rfl rfl)
theorem dX6_calledOf_72 : decode cX6_calledOf 72 = .ok (.ireturn, 1) := dk_172 (dk_at dksX6_calledOf_3 4 rfl rfl)
theorem dX6_calledOf_73 : decode cX6_calledOf 73 = .ok (.iload_n 3, 1) := dk_29 (dk_at dksX6_calledOf_3 5 rfl rfl)
theorem dX6_calledOf_74 : decode cX6_calledOf 74 = .ok (.iload_n 2, 1) := dk_28 (dk_at dksX6_calledOf_3 6 rfl rfl)
theorem dX6_calledOf_75 : decode cX6_calledOf 75 = .ok (.if_icmp .ne 7, 3) := dk_160 0 7 (dk_at dksX6_calledOf_3 7 rfl rfl)
theorem dX6_calledOf_78 : decode cX6_calledOf 78 = .ok (.iconst (-1), 1) := dk_2 (dk_at dksX6_calledOf_3 10 rfl rfl)
theorem dX6_calledOf_79 : decode cX6_calledOf 79 = .ok (.goto 4, 3) := dk_167 0 4 (dk_at dksX6_calledOf_3 11 rfl rfl)
theorem dX6_calledOf_82 : decode cX6_calledOf 82 = .ok (.iload_n 2, 1) := dk_28 (dk_at dksX6_calledOf_3 14 rfl rfl)
theorem dX6_calledOf_83 : decode cX6_calledOf 83 = .ok (.ireturn, 1) := dk_172 (dk_at dksX6_calledOf_3 15 rfl rfl)
theorem dX6_calledOf_84 : decode cX6_calledOf 84 = .ok (.iload_n 2, 1) := dk_28 (dk_at dksX6_calledOf_3 16 rfl rfl)
theorem dX6_calledOf_85 : decode cX6_calledOf 85 = .ok (.ireturn, 1) := dk_172 (dk_at dksX6_calledOf_3 17 rfl rfl)
abbrev cX6_go : ByteArray := prog_30_method_51_code
def yX6_go : MethodName := ⟨RX6, "go", "(II)I"⟩
def dkwX6_go_5 : List UInt8 := [46, 29, 96, 79, 42, 27, 182, 0, 207, 42, 27, 7, 182, 0, 79, 172]
abbrev dktX6_go_5 : List UInt8 := dkwX6_go_5 ++ []
def dkwX6_go_4 : List UInt8 := [182, 0, 204, 96, 79, 42, 180, 0, 7, 27, 5, 184, 0, 54, 28, 79, 42, 180, 0, 7, 17, 0, 137, 92]
abbrev dktX6_go_4 : List UInt8 := dkwX6_go_4 ++ dktX6_go_5
def dkwX6_go_3 : List UInt8 := [164, 0, 10, 42, 18, 199, 182, 0, 68, 172, 42, 180, 0, 7, 27, 7, 184, 0, 54, 92, 46, 42, 27, 29]
abbrev dktX6_go_3 : List UInt8 := dkwX6_go_3 ++ dktX6_go_4
def dkwX6_go_2 : List UInt8 := [8, 182, 0, 79, 4, 159, 0, 22, 29, 153, 0, 18, 42, 180, 0, 7, 17, 0, 137, 46, 29, 96, 18, 203]
abbrev dktX6_go_2 : List UInt8 := dkwX6_go_2 ++ dktX6_go_3
def dkwX6_go_1 : List UInt8 := [160, 0, 10, 42, 18, 67, 182, 0, 68, 172, 42, 42, 27, 5, 182, 0, 79, 28, 182, 0, 76, 62, 42, 27]
abbrev dktX6_go_1 : List UInt8 := dkwX6_go_1 ++ dktX6_go_2
def dkwX6_go_0 : List UInt8 := [42, 27, 182, 0, 103, 153, 0, 20, 28, 184, 0, 58, 153, 0, 13, 28, 42, 27, 5, 182, 0, 79]
abbrev dktX6_go_0 : List UInt8 := dkwX6_go_0 ++ dktX6_go_1
theorem dksX6_go_0 : cX6_go.data.toList.drop 0 = dktX6_go_0 := by decide +kernel
theorem dksX6_go_1 : cX6_go.data.toList.drop 22 = dktX6_go_1 := dk_seg dksX6_go_0 22 rfl rfl
theorem dksX6_go_2 : cX6_go.data.toList.drop 46 = dktX6_go_2 := dk_seg dksX6_go_1 24 rfl rfl
theorem dksX6_go_3 : cX6_go.data.toList.drop 70 = dktX6_go_3 := dk_seg dksX6_go_2 24 rfl rfl
theorem dksX6_go_4 : cX6_go.data.toList.drop 94 = dktX6_go_4 := dk_seg dksX6_go_3 24 rfl rfl
theorem dksX6_go_5 : cX6_go.data.toList.drop 118 = dktX6_go_5 := dk_seg dksX6_go_4 24 rfl rfl
theorem dX6_go_0 : decode cX6_go 0 = .ok (.aload_n 0, 1) := dk_42 (dk_at dksX6_go_0 0 rfl rfl)
theorem dX6_go_1 : decode cX6_go 1 = .ok (.iload_n 1, 1) := dk_27 (dk_at dksX6_go_0 1 rfl rfl)
theorem dX6_go_2 : decode cX6_go 2 = .ok (.invokevirtual 103, 3) := dk_182 0 103 (dk_at dksX6_go_0 2 rfl rfl)
theorem dX6_go_5 : decode cX6_go 5 = .ok (.ifCond .eq 20, 3) := dk_153 0 20 (dk_at dksX6_go_0 5 rfl rfl)
theorem dX6_go_8 : decode cX6_go 8 = .ok (.iload_n 2, 1) := dk_28 (dk_at dksX6_go_0 8 rfl rfl)
theorem dX6_go_9 : decode cX6_go 9 = .ok (.invokestatic 58, 3) := dk_184 0 58 (dk_at dksX6_go_0 9 rfl rfl)
theorem dX6_go_12 : decode cX6_go 12 = .ok (.ifCond .eq 13, 3) := dk_153 0 13 (dk_at dksX6_go_0 12 rfl rfl)
theorem dX6_go_15 : decode cX6_go 15 = .ok (.iload_n 2, 1) := dk_28 (dk_at dksX6_go_0 15 rfl rfl)
theorem dX6_go_16 : decode cX6_go 16 = .ok (.aload_n 0, 1) := dk_42 (dk_at dksX6_go_0 16 rfl rfl)
theorem dX6_go_17 : decode cX6_go 17 = .ok (.iload_n 1, 1) := dk_27 (dk_at dksX6_go_0 17 rfl rfl)
theorem dX6_go_18 : decode cX6_go 18 = .ok (.iconst 2, 1) := dk_5 (dk_at dksX6_go_0 18 rfl rfl)
theorem dX6_go_19 : decode cX6_go 19 = .ok (.invokevirtual 79, 3) := dk_182 0 79 (dk_at dksX6_go_0 19 rfl rfl)
theorem dX6_go_22 : decode cX6_go 22 = .ok (.if_icmp .ne 10, 3) := dk_160 0 10 (dk_at dksX6_go_1 0 rfl rfl)
theorem dX6_go_25 : decode cX6_go 25 = .ok (.aload_n 0, 1) := dk_42 (dk_at dksX6_go_1 3 rfl rfl)
theorem dX6_go_26 : decode cX6_go 26 = .ok (.ldc 67, 2) := dk_18 67 (dk_at dksX6_go_1 4 rfl rfl)
theorem dX6_go_28 : decode cX6_go 28 = .ok (.invokevirtual 68, 3) := dk_182 0 68 (dk_at dksX6_go_1 6 rfl rfl)
theorem dX6_go_31 : decode cX6_go 31 = .ok (.ireturn, 1) := dk_172 (dk_at dksX6_go_1 9 rfl rfl)
theorem dX6_go_32 : decode cX6_go 32 = .ok (.aload_n 0, 1) := dk_42 (dk_at dksX6_go_1 10 rfl rfl)
theorem dX6_go_33 : decode cX6_go 33 = .ok (.aload_n 0, 1) := dk_42 (dk_at dksX6_go_1 11 rfl rfl)
theorem dX6_go_34 : decode cX6_go 34 = .ok (.iload_n 1, 1) := dk_27 (dk_at dksX6_go_1 12 rfl rfl)
theorem dX6_go_35 : decode cX6_go 35 = .ok (.iconst 2, 1) := dk_5 (dk_at dksX6_go_1 13 rfl rfl)
theorem dX6_go_36 : decode cX6_go 36 = .ok (.invokevirtual 79, 3) := dk_182 0 79 (dk_at dksX6_go_1 14 rfl rfl)
theorem dX6_go_39 : decode cX6_go 39 = .ok (.iload_n 2, 1) := dk_28 (dk_at dksX6_go_1 17 rfl rfl)
theorem dX6_go_40 : decode cX6_go 40 = .ok (.invokevirtual 76, 3) := dk_182 0 76 (dk_at dksX6_go_1 18 rfl rfl)
theorem dX6_go_43 : decode cX6_go 43 = .ok (.istore_n 3, 1) := dk_62 (dk_at dksX6_go_1 21 rfl rfl)
theorem dX6_go_44 : decode cX6_go 44 = .ok (.aload_n 0, 1) := dk_42 (dk_at dksX6_go_1 22 rfl rfl)
theorem dX6_go_45 : decode cX6_go 45 = .ok (.iload_n 1, 1) := dk_27 (dk_at dksX6_go_1 23 rfl rfl)
theorem dX6_go_46 : decode cX6_go 46 = .ok (.iconst 5, 1) := dk_8 (dk_at dksX6_go_2 0 rfl rfl)
theorem dX6_go_47 : decode cX6_go 47 = .ok (.invokevirtual 79, 3) := dk_182 0 79 (dk_at dksX6_go_2 1 rfl rfl)
theorem dX6_go_50 : decode cX6_go 50 = .ok (.iconst 1, 1) := dk_4 (dk_at dksX6_go_2 4 rfl rfl)
theorem dX6_go_51 : decode cX6_go 51 = .ok (.if_icmp .eq 22, 3) := dk_159 0 22 (dk_at dksX6_go_2 5 rfl rfl)
theorem dX6_go_54 : decode cX6_go 54 = .ok (.iload_n 3, 1) := dk_29 (dk_at dksX6_go_2 8 rfl rfl)
theorem dX6_go_55 : decode cX6_go 55 = .ok (.ifCond .eq 18, 3) := dk_153 0 18 (dk_at dksX6_go_2 9 rfl rfl)
theorem dX6_go_58 : decode cX6_go 58 = .ok (.aload_n 0, 1) := dk_42 (dk_at dksX6_go_2 12 rfl rfl)
theorem dX6_go_59 : decode cX6_go 59 = .ok (.getfield 7, 3) := dk_180 0 7 (dk_at dksX6_go_2 13 rfl rfl)
theorem dX6_go_62 : decode cX6_go 62 = .ok (.sipush 137, 3) := dk_17 0 137 (dk_at dksX6_go_2 16 rfl rfl)
theorem dX6_go_65 : decode cX6_go 65 = .ok (.iaload, 1) := dk_46 (dk_at dksX6_go_2 19 rfl rfl)
theorem dX6_go_66 : decode cX6_go 66 = .ok (.iload_n 3, 1) := dk_29 (dk_at dksX6_go_2 20 rfl rfl)
theorem dX6_go_67 : decode cX6_go 67 = .ok (.iadd, 1) := dk_96 (dk_at dksX6_go_2 21 rfl rfl)
theorem dX6_go_68 : decode cX6_go 68 = .ok (.ldc 203, 2) := dk_18 203 (dk_at dksX6_go_2 22 rfl rfl)
theorem dX6_go_70 : decode cX6_go 70 = .ok (.if_icmp .le 10, 3) := dk_164 0 10 (dk_at dksX6_go_3 0 rfl rfl)
theorem dX6_go_73 : decode cX6_go 73 = .ok (.aload_n 0, 1) := dk_42 (dk_at dksX6_go_3 3 rfl rfl)
theorem dX6_go_74 : decode cX6_go 74 = .ok (.ldc 199, 2) := dk_18 199 (dk_at dksX6_go_3 4 rfl rfl)
theorem dX6_go_76 : decode cX6_go 76 = .ok (.invokevirtual 68, 3) := dk_182 0 68 (dk_at dksX6_go_3 6 rfl rfl)
theorem dX6_go_79 : decode cX6_go 79 = .ok (.ireturn, 1) := dk_172 (dk_at dksX6_go_3 9 rfl rfl)
theorem dX6_go_80 : decode cX6_go 80 = .ok (.aload_n 0, 1) := dk_42 (dk_at dksX6_go_3 10 rfl rfl)
theorem dX6_go_81 : decode cX6_go 81 = .ok (.getfield 7, 3) := dk_180 0 7 (dk_at dksX6_go_3 11 rfl rfl)
theorem dX6_go_84 : decode cX6_go 84 = .ok (.iload_n 1, 1) := dk_27 (dk_at dksX6_go_3 14 rfl rfl)
theorem dX6_go_85 : decode cX6_go 85 = .ok (.iconst 4, 1) := dk_7 (dk_at dksX6_go_3 15 rfl rfl)
theorem dX6_go_86 : decode cX6_go 86 = .ok (.invokestatic 54, 3) := dk_184 0 54 (dk_at dksX6_go_3 16 rfl rfl)
theorem dX6_go_89 : decode cX6_go 89 = .ok (.dup2, 1) := dk_92 (dk_at dksX6_go_3 19 rfl rfl)
theorem dX6_go_90 : decode cX6_go 90 = .ok (.iaload, 1) := dk_46 (dk_at dksX6_go_3 20 rfl rfl)
theorem dX6_go_91 : decode cX6_go 91 = .ok (.aload_n 0, 1) := dk_42 (dk_at dksX6_go_3 21 rfl rfl)
theorem dX6_go_92 : decode cX6_go 92 = .ok (.iload_n 1, 1) := dk_27 (dk_at dksX6_go_3 22 rfl rfl)
theorem dX6_go_93 : decode cX6_go 93 = .ok (.iload_n 3, 1) := dk_29 (dk_at dksX6_go_3 23 rfl rfl)
theorem dX6_go_94 : decode cX6_go 94 = .ok (.invokevirtual 204, 3) := dk_182 0 204 (dk_at dksX6_go_4 0 rfl rfl)
theorem dX6_go_97 : decode cX6_go 97 = .ok (.iadd, 1) := dk_96 (dk_at dksX6_go_4 3 rfl rfl)
theorem dX6_go_98 : decode cX6_go 98 = .ok (.iastore, 1) := dk_79 (dk_at dksX6_go_4 4 rfl rfl)
theorem dX6_go_99 : decode cX6_go 99 = .ok (.aload_n 0, 1) := dk_42 (dk_at dksX6_go_4 5 rfl rfl)
theorem dX6_go_100 : decode cX6_go 100 = .ok (.getfield 7, 3) := dk_180 0 7 (dk_at dksX6_go_4 6 rfl rfl)
theorem dX6_go_103 : decode cX6_go 103 = .ok (.iload_n 1, 1) := dk_27 (dk_at dksX6_go_4 9 rfl rfl)
theorem dX6_go_104 : decode cX6_go 104 = .ok (.iconst 2, 1) := dk_5 (dk_at dksX6_go_4 10 rfl rfl)
theorem dX6_go_105 : decode cX6_go 105 = .ok (.invokestatic 54, 3) := dk_184 0 54 (dk_at dksX6_go_4 11 rfl rfl)
theorem dX6_go_108 : decode cX6_go 108 = .ok (.iload_n 2, 1) := dk_28 (dk_at dksX6_go_4 14 rfl rfl)
theorem dX6_go_109 : decode cX6_go 109 = .ok (.iastore, 1) := dk_79 (dk_at dksX6_go_4 15 rfl rfl)
theorem dX6_go_110 : decode cX6_go 110 = .ok (.aload_n 0, 1) := dk_42 (dk_at dksX6_go_4 16 rfl rfl)
theorem dX6_go_111 : decode cX6_go 111 = .ok (.getfield 7, 3) := dk_180 0 7 (dk_at dksX6_go_4 17 rfl rfl)
theorem dX6_go_114 : decode cX6_go 114 = .ok (.sipush 137, 3) := dk_17 0 137 (dk_at dksX6_go_4 20 rfl rfl)
theorem dX6_go_117 : decode cX6_go 117 = .ok (.dup2, 1) := dk_92 (dk_at dksX6_go_4 23 rfl rfl)
theorem dX6_go_118 : decode cX6_go 118 = .ok (.iaload, 1) := dk_46 (dk_at dksX6_go_5 0 rfl rfl)
theorem dX6_go_119 : decode cX6_go 119 = .ok (.iload_n 3, 1) := dk_29 (dk_at dksX6_go_5 1 rfl rfl)
theorem dX6_go_120 : decode cX6_go 120 = .ok (.iadd, 1) := dk_96 (dk_at dksX6_go_5 2 rfl rfl)
theorem dX6_go_121 : decode cX6_go 121 = .ok (.iastore, 1) := dk_79 (dk_at dksX6_go_5 3 rfl rfl)
theorem dX6_go_122 : decode cX6_go 122 = .ok (.aload_n 0, 1) := dk_42 (dk_at dksX6_go_5 4 rfl rfl)
theorem dX6_go_123 : decode cX6_go 123 = .ok (.iload_n 1, 1) := dk_27 (dk_at dksX6_go_5 5 rfl rfl)
theorem dX6_go_124 : decode cX6_go 124 = .ok (.invokevirtual 207, 3) := dk_182 0 207 (dk_at dksX6_go_5 6 rfl rfl)
theorem dX6_go_127 : decode cX6_go 127 = .ok (.aload_n 0, 1) := dk_42 (dk_at dksX6_go_5 9 rfl rfl)
theorem dX6_go_128 : decode cX6_go 128 = .ok (.iload_n 1, 1) := dk_27 (dk_at dksX6_go_5 10 rfl rfl)
theorem dX6_go_129 : decode cX6_go 129 = .ok (.iconst 4, 1) := dk_7 (dk_at dksX6_go_5 11 rfl rfl)
theorem dX6_go_130 : decode cX6_go 130 = .ok (.invokevirtual 79, 3) := dk_182 0 79 (dk_at dksX6_go_5 12 rfl rfl)
theorem dX6_go_133 : decode cX6_go 133 = .ok (.ireturn, 1) := dk_172 (dk_at dksX6_go_5 15 rfl rfl)
abbrev cX6_thirstBy : ByteArray := prog_30_method_49_code
def yX6_thirstBy : MethodName := ⟨RX6, "thirstBy", "(II)I"⟩
def dkwX6_thirstBy_0 : List UInt8 := [42, 28, 42, 27, 4, 182, 0, 79, 42, 180, 0, 7, 17, 0, 138, 46, 182, 0, 196, 172]
abbrev dktX6_thirstBy_0 : List UInt8 := dkwX6_thirstBy_0 ++ []
theorem dksX6_thirstBy_0 : cX6_thirstBy.data.toList.drop 0 = dktX6_thirstBy_0 := by decide +kernel
theorem dX6_thirstBy_0 : decode cX6_thirstBy 0 = .ok (.aload_n 0, 1) := dk_42 (dk_at dksX6_thirstBy_0 0 rfl rfl)
theorem dX6_thirstBy_1 : decode cX6_thirstBy 1 = .ok (.iload_n 2, 1) := dk_28 (dk_at dksX6_thirstBy_0 1 rfl rfl)
theorem dX6_thirstBy_2 : decode cX6_thirstBy 2 = .ok (.aload_n 0, 1) := dk_42 (dk_at dksX6_thirstBy_0 2 rfl rfl)
theorem dX6_thirstBy_3 : decode cX6_thirstBy 3 = .ok (.iload_n 1, 1) := dk_27 (dk_at dksX6_thirstBy_0 3 rfl rfl)
theorem dX6_thirstBy_4 : decode cX6_thirstBy 4 = .ok (.iconst 1, 1) := dk_4 (dk_at dksX6_thirstBy_0 4 rfl rfl)
theorem dX6_thirstBy_5 : decode cX6_thirstBy 5 = .ok (.invokevirtual 79, 3) := dk_182 0 79 (dk_at dksX6_thirstBy_0 5 rfl rfl)
theorem dX6_thirstBy_8 : decode cX6_thirstBy 8 = .ok (.aload_n 0, 1) := dk_42 (dk_at dksX6_thirstBy_0 8 rfl rfl)
theorem dX6_thirstBy_9 : decode cX6_thirstBy 9 = .ok (.getfield 7, 3) := dk_180 0 7 (dk_at dksX6_thirstBy_0 9 rfl rfl)
theorem dX6_thirstBy_12 : decode cX6_thirstBy 12 = .ok (.sipush 138, 3) := dk_17 0 138 (dk_at dksX6_thirstBy_0 12 rfl rfl)
theorem dX6_thirstBy_15 : decode cX6_thirstBy 15 = .ok (.iaload, 1) := dk_46 (dk_at dksX6_thirstBy_0 15 rfl rfl)
theorem dX6_thirstBy_16 : decode cX6_thirstBy 16 = .ok (.invokevirtual 196, 3) := dk_182 0 196 (dk_at dksX6_thirstBy_0 16 rfl rfl)
theorem dX6_thirstBy_19 : decode cX6_thirstBy 19 = .ok (.ireturn, 1) := dk_172 (dk_at dksX6_thirstBy_0 19 rfl rfl)
abbrev cX6_dies : ByteArray := prog_30_method_50_code
def yX6_dies : MethodName := ⟨RX6, "dies", "(I)V"⟩
def dkwX6_dies_1 : List UInt8 := [167, 0, 9, 42, 27, 8, 182, 0, 79, 79, 177]
abbrev dktX6_dies_1 : List UInt8 := dkwX6_dies_1 ++ []
def dkwX6_dies_0 : List UInt8 := [42, 180, 0, 7, 27, 8, 184, 0, 54, 42, 27, 7, 182, 0, 79, 42, 27, 182, 0, 108, 164, 0, 7, 4]
abbrev dktX6_dies_0 : List UInt8 := dkwX6_dies_0 ++ dktX6_dies_1
theorem dksX6_dies_0 : cX6_dies.data.toList.drop 0 = dktX6_dies_0 := by decide +kernel
theorem dksX6_dies_1 : cX6_dies.data.toList.drop 24 = dktX6_dies_1 := dk_seg dksX6_dies_0 24 rfl rfl
theorem dX6_dies_0 : decode cX6_dies 0 = .ok (.aload_n 0, 1) := dk_42 (dk_at dksX6_dies_0 0 rfl rfl)
theorem dX6_dies_1 : decode cX6_dies 1 = .ok (.getfield 7, 3) := dk_180 0 7 (dk_at dksX6_dies_0 1 rfl rfl)
theorem dX6_dies_4 : decode cX6_dies 4 = .ok (.iload_n 1, 1) := dk_27 (dk_at dksX6_dies_0 4 rfl rfl)
theorem dX6_dies_5 : decode cX6_dies 5 = .ok (.iconst 5, 1) := dk_8 (dk_at dksX6_dies_0 5 rfl rfl)
theorem dX6_dies_6 : decode cX6_dies 6 = .ok (.invokestatic 54, 3) := dk_184 0 54 (dk_at dksX6_dies_0 6 rfl rfl)
theorem dX6_dies_9 : decode cX6_dies 9 = .ok (.aload_n 0, 1) := dk_42 (dk_at dksX6_dies_0 9 rfl rfl)
theorem dX6_dies_10 : decode cX6_dies 10 = .ok (.iload_n 1, 1) := dk_27 (dk_at dksX6_dies_0 10 rfl rfl)
theorem dX6_dies_11 : decode cX6_dies 11 = .ok (.iconst 4, 1) := dk_7 (dk_at dksX6_dies_0 11 rfl rfl)
theorem dX6_dies_12 : decode cX6_dies 12 = .ok (.invokevirtual 79, 3) := dk_182 0 79 (dk_at dksX6_dies_0 12 rfl rfl)
theorem dX6_dies_15 : decode cX6_dies 15 = .ok (.aload_n 0, 1) := dk_42 (dk_at dksX6_dies_0 15 rfl rfl)
theorem dX6_dies_16 : decode cX6_dies 16 = .ok (.iload_n 1, 1) := dk_27 (dk_at dksX6_dies_0 16 rfl rfl)
theorem dX6_dies_17 : decode cX6_dies 17 = .ok (.invokevirtual 108, 3) := dk_182 0 108 (dk_at dksX6_dies_0 17 rfl rfl)
theorem dX6_dies_20 : decode cX6_dies 20 = .ok (.if_icmp .le 7, 3) := dk_164 0 7 (dk_at dksX6_dies_0 20 rfl rfl)
theorem dX6_dies_23 : decode cX6_dies 23 = .ok (.iconst 1, 1) := dk_4 (dk_at dksX6_dies_0 23 rfl rfl)
theorem dX6_dies_24 : decode cX6_dies 24 = .ok (.goto 9, 3) := dk_167 0 9 (dk_at dksX6_dies_1 0 rfl rfl)
theorem dX6_dies_27 : decode cX6_dies 27 = .ok (.aload_n 0, 1) := dk_42 (dk_at dksX6_dies_1 3 rfl rfl)
theorem dX6_dies_28 : decode cX6_dies 28 = .ok (.iload_n 1, 1) := dk_27 (dk_at dksX6_dies_1 4 rfl rfl)
theorem dX6_dies_29 : decode cX6_dies 29 = .ok (.iconst 5, 1) := dk_8 (dk_at dksX6_dies_1 5 rfl rfl)
theorem dX6_dies_30 : decode cX6_dies 30 = .ok (.invokevirtual 79, 3) := dk_182 0 79 (dk_at dksX6_dies_1 6 rfl rfl)
theorem dX6_dies_33 : decode cX6_dies 33 = .ok (.iastore, 1) := dk_79 (dk_at dksX6_dies_1 9 rfl rfl)
theorem dX6_dies_34 : decode cX6_dies 34 = .ok (.return_, 1) := dk_177 (dk_at dksX6_dies_1 10 rfl rfl)
abbrev cX6_pay : ByteArray := prog_30_method_52_code
def yX6_pay : MethodName := ⟨RX6, "pay", "(III)I"⟩
def dkwX6_pay_5 : List UInt8 := [16, 72, 16, 8, 21, 4, 104, 96, 28, 96, 46, 172]
abbrev dktX6_pay_5 : List UInt8 := dkwX6_pay_5 ++ []
def dkwX6_pay_4 : List UInt8 := [172, 42, 180, 0, 7, 16, 72, 16, 8, 21, 4, 104, 96, 28, 96, 92, 46, 29, 100, 79, 42, 180, 0, 7]
abbrev dktX6_pay_4 : List UInt8 := dkwX6_pay_4 ++ dktX6_pay_5
def dkwX6_pay_3 : List UInt8 := [180, 0, 7, 16, 72, 16, 8, 21, 4, 104, 96, 28, 96, 46, 29, 162, 0, 10, 42, 18, 199, 182, 0, 68]
abbrev dktX6_pay_3 : List UInt8 := dkwX6_pay_3 ++ dktX6_pay_4
def dkwX6_pay_2 : List UInt8 := [6, 182, 0, 79, 54, 4, 42, 27, 8, 182, 0, 79, 4, 159, 0, 27, 21, 4, 155, 0, 22, 42]
abbrev dktX6_pay_2 : List UInt8 := dkwX6_pay_2 ++ dktX6_pay_3
def dkwX6_pay_1 : List UInt8 := [159, 0, 15, 29, 133, 10, 20, 0, 74, 184, 0, 46, 154, 0, 10, 42, 18, 67, 182, 0, 68, 172, 42, 27]
abbrev dktX6_pay_1 : List UInt8 := dkwX6_pay_1 ++ dktX6_pay_2
def dkwX6_pay_0 : List UInt8 := [42, 27, 182, 0, 103, 153, 0, 32, 28, 184, 0, 58, 153, 0, 25, 28, 42, 27, 6, 182, 0, 79]
abbrev dktX6_pay_0 : List UInt8 := dkwX6_pay_0 ++ dktX6_pay_1
theorem dksX6_pay_0 : cX6_pay.data.toList.drop 0 = dktX6_pay_0 := by decide +kernel
theorem dksX6_pay_1 : cX6_pay.data.toList.drop 22 = dktX6_pay_1 := dk_seg dksX6_pay_0 22 rfl rfl
theorem dksX6_pay_2 : cX6_pay.data.toList.drop 46 = dktX6_pay_2 := dk_seg dksX6_pay_1 24 rfl rfl
theorem dksX6_pay_3 : cX6_pay.data.toList.drop 68 = dktX6_pay_3 := dk_seg dksX6_pay_2 22 rfl rfl
theorem dksX6_pay_4 : cX6_pay.data.toList.drop 92 = dktX6_pay_4 := dk_seg dksX6_pay_3 24 rfl rfl
theorem dksX6_pay_5 : cX6_pay.data.toList.drop 116 = dktX6_pay_5 := dk_seg dksX6_pay_4 24 rfl rfl
theorem dX6_pay_0 : decode cX6_pay 0 = .ok (.aload_n 0, 1) := dk_42 (dk_at dksX6_pay_0 0 rfl rfl)
theorem dX6_pay_1 : decode cX6_pay 1 = .ok (.iload_n 1, 1) := dk_27 (dk_at dksX6_pay_0 1 rfl rfl)
theorem dX6_pay_2 : decode cX6_pay 2 = .ok (.invokevirtual 103, 3) := dk_182 0 103 (dk_at dksX6_pay_0 2 rfl rfl)
theorem dX6_pay_5 : decode cX6_pay 5 = .ok (.ifCond .eq 32, 3) := dk_153 0 32 (dk_at dksX6_pay_0 5 rfl rfl)
theorem dX6_pay_8 : decode cX6_pay 8 = .ok (.iload_n 2, 1) := dk_28 (dk_at dksX6_pay_0 8 rfl rfl)
theorem dX6_pay_9 : decode cX6_pay 9 = .ok (.invokestatic 58, 3) := dk_184 0 58 (dk_at dksX6_pay_0 9 rfl rfl)
theorem dX6_pay_12 : decode cX6_pay 12 = .ok (.ifCond .eq 25, 3) := dk_153 0 25 (dk_at dksX6_pay_0 12 rfl rfl)
theorem dX6_pay_15 : decode cX6_pay 15 = .ok (.iload_n 2, 1) := dk_28 (dk_at dksX6_pay_0 15 rfl rfl)
theorem dX6_pay_16 : decode cX6_pay 16 = .ok (.aload_n 0, 1) := dk_42 (dk_at dksX6_pay_0 16 rfl rfl)
theorem dX6_pay_17 : decode cX6_pay 17 = .ok (.iload_n 1, 1) := dk_27 (dk_at dksX6_pay_0 17 rfl rfl)
theorem dX6_pay_18 : decode cX6_pay 18 = .ok (.iconst 3, 1) := dk_6 (dk_at dksX6_pay_0 18 rfl rfl)
theorem dX6_pay_19 : decode cX6_pay 19 = .ok (.invokevirtual 79, 3) := dk_182 0 79 (dk_at dksX6_pay_0 19 rfl rfl)
theorem dX6_pay_22 : decode cX6_pay 22 = .ok (.if_icmp .eq 15, 3) := dk_159 0 15 (dk_at dksX6_pay_1 0 rfl rfl)
theorem dX6_pay_25 : decode cX6_pay 25 = .ok (.iload_n 3, 1) := dk_29 (dk_at dksX6_pay_1 3 rfl rfl)
theorem dX6_pay_26 : decode cX6_pay 26 = .ok (.i2l, 1) := dk_133 (dk_at dksX6_pay_1 4 rfl rfl)
theorem dX6_pay_27 : decode cX6_pay 27 = .ok (.lconst 1, 1) := dk_10 (dk_at dksX6_pay_1 5 rfl rfl)
theorem dX6_pay_28 : decode cX6_pay 28 = .ok (.ldc2_w 74, 3) := dk_20 0 74 (dk_at dksX6_pay_1 6 rfl rfl)
theorem dX6_pay_31 : decode cX6_pay 31 = .ok (.invokestatic 46, 3) := dk_184 0 46 (dk_at dksX6_pay_1 9 rfl rfl)
theorem dX6_pay_34 : decode cX6_pay 34 = .ok (.ifCond .ne 10, 3) := dk_154 0 10 (dk_at dksX6_pay_1 12 rfl rfl)
theorem dX6_pay_37 : decode cX6_pay 37 = .ok (.aload_n 0, 1) := dk_42 (dk_at dksX6_pay_1 15 rfl rfl)
theorem dX6_pay_38 : decode cX6_pay 38 = .ok (.ldc 67, 2) := dk_18 67 (dk_at dksX6_pay_1 16 rfl rfl)
theorem dX6_pay_40 : decode cX6_pay 40 = .ok (.invokevirtual 68, 3) := dk_182 0 68 (dk_at dksX6_pay_1 18 rfl rfl)
theorem dX6_pay_43 : decode cX6_pay 43 = .ok (.ireturn, 1) := dk_172 (dk_at dksX6_pay_1 21 rfl rfl)
theorem dX6_pay_44 : decode cX6_pay 44 = .ok (.aload_n 0, 1) := dk_42 (dk_at dksX6_pay_1 22 rfl rfl)
theorem dX6_pay_45 : decode cX6_pay 45 = .ok (.iload_n 1, 1) := dk_27 (dk_at dksX6_pay_1 23 rfl rfl)
theorem dX6_pay_46 : decode cX6_pay 46 = .ok (.iconst 3, 1) := dk_6 (dk_at dksX6_pay_2 0 rfl rfl)
theorem dX6_pay_47 : decode cX6_pay 47 = .ok (.invokevirtual 79, 3) := dk_182 0 79 (dk_at dksX6_pay_2 1 rfl rfl)
theorem dX6_pay_50 : decode cX6_pay 50 = .ok (.istore 4, 2) := dk_54 4 (dk_at dksX6_pay_2 4 rfl rfl)
theorem dX6_pay_52 : decode cX6_pay 52 = .ok (.aload_n 0, 1) := dk_42 (dk_at dksX6_pay_2 6 rfl rfl)
theorem dX6_pay_53 : decode cX6_pay 53 = .ok (.iload_n 1, 1) := dk_27 (dk_at dksX6_pay_2 7 rfl rfl)
theorem dX6_pay_54 : decode cX6_pay 54 = .ok (.iconst 5, 1) := dk_8 (dk_at dksX6_pay_2 8 rfl rfl)
theorem dX6_pay_55 : decode cX6_pay 55 = .ok (.invokevirtual 79, 3) := dk_182 0 79 (dk_at dksX6_pay_2 9 rfl rfl)
theorem dX6_pay_58 : decode cX6_pay 58 = .ok (.iconst 1, 1) := dk_4 (dk_at dksX6_pay_2 12 rfl rfl)
theorem dX6_pay_59 : decode cX6_pay 59 = .ok (.if_icmp .eq 27, 3) := dk_159 0 27 (dk_at dksX6_pay_2 13 rfl rfl)
theorem dX6_pay_62 : decode cX6_pay 62 = .ok (.iload 4, 2) := dk_21 4 (dk_at dksX6_pay_2 16 rfl rfl)
theorem dX6_pay_64 : decode cX6_pay 64 = .ok (.ifCond .lt 22, 3) := dk_155 0 22 (dk_at dksX6_pay_2 18 rfl rfl)
theorem dX6_pay_67 : decode cX6_pay 67 = .ok (.aload_n 0, 1) := dk_42 (dk_at dksX6_pay_2 21 rfl rfl)
theorem dX6_pay_68 : decode cX6_pay 68 = .ok (.getfield 7, 3) := dk_180 0 7 (dk_at dksX6_pay_3 0 rfl rfl)
theorem dX6_pay_71 : decode cX6_pay 71 = .ok (.bipush 72, 2) := dk_16 72 (dk_at dksX6_pay_3 3 rfl rfl)
theorem dX6_pay_73 : decode cX6_pay 73 = .ok (.bipush 8, 2) := dk_16 8 (dk_at dksX6_pay_3 5 rfl rfl)
theorem dX6_pay_75 : decode cX6_pay 75 = .ok (.iload 4, 2) := dk_21 4 (dk_at dksX6_pay_3 7 rfl rfl)
theorem dX6_pay_77 : decode cX6_pay 77 = .ok (.imul, 1) := dk_104 (dk_at dksX6_pay_3 9 rfl rfl)
theorem dX6_pay_78 : decode cX6_pay 78 = .ok (.iadd, 1) := dk_96 (dk_at dksX6_pay_3 10 rfl rfl)
theorem dX6_pay_79 : decode cX6_pay 79 = .ok (.iload_n 2, 1) := dk_28 (dk_at dksX6_pay_3 11 rfl rfl)
theorem dX6_pay_80 : decode cX6_pay 80 = .ok (.iadd, 1) := dk_96 (dk_at dksX6_pay_3 12 rfl rfl)
theorem dX6_pay_81 : decode cX6_pay 81 = .ok (.iaload, 1) := dk_46 (dk_at dksX6_pay_3 13 rfl rfl)
theorem dX6_pay_82 : decode cX6_pay 82 = .ok (.iload_n 3, 1) := dk_29 (dk_at dksX6_pay_3 14 rfl rfl)
theorem dX6_pay_83 : decode cX6_pay 83 = .ok (.if_icmp .ge 10, 3) := dk_162 0 10 (dk_at dksX6_pay_3 15 rfl rfl)
theorem dX6_pay_86 : decode cX6_pay 86 = .ok (.aload_n 0, 1) := dk_42 (dk_at dksX6_pay_3 18 rfl rfl)
theorem dX6_pay_87 : decode cX6_pay 87 = .ok (.ldc 199, 2) := dk_18 199 (dk_at dksX6_pay_3 19 rfl rfl)
theorem dX6_pay_89 : decode cX6_pay 89 = .ok (.invokevirtual 68, 3) := dk_182 0 68 (dk_at dksX6_pay_3 21 rfl rfl)
theorem dX6_pay_92 : decode cX6_pay 92 = .ok (.ireturn, 1) := dk_172 (dk_at dksX6_pay_4 0 rfl rfl)
theorem dX6_pay_93 : decode cX6_pay 93 = .ok (.aload_n 0, 1) := dk_42 (dk_at dksX6_pay_4 1 rfl rfl)
theorem dX6_pay_94 : decode cX6_pay 94 = .ok (.getfield 7, 3) := dk_180 0 7 (dk_at dksX6_pay_4 2 rfl rfl)
theorem dX6_pay_97 : decode cX6_pay 97 = .ok (.bipush 72, 2) := dk_16 72 (dk_at dksX6_pay_4 5 rfl rfl)
theorem dX6_pay_99 : decode cX6_pay 99 = .ok (.bipush 8, 2) := dk_16 8 (dk_at dksX6_pay_4 7 rfl rfl)
theorem dX6_pay_101 : decode cX6_pay 101 = .ok (.iload 4, 2) := dk_21 4 (dk_at dksX6_pay_4 9 rfl rfl)
theorem dX6_pay_103 : decode cX6_pay 103 = .ok (.imul, 1) := dk_104 (dk_at dksX6_pay_4 11 rfl rfl)
theorem dX6_pay_104 : decode cX6_pay 104 = .ok (.iadd, 1) := dk_96 (dk_at dksX6_pay_4 12 rfl rfl)
theorem dX6_pay_105 : decode cX6_pay 105 = .ok (.iload_n 2, 1) := dk_28 (dk_at dksX6_pay_4 13 rfl rfl)
theorem dX6_pay_106 : decode cX6_pay 106 = .ok (.iadd, 1) := dk_96 (dk_at dksX6_pay_4 14 rfl rfl)
theorem dX6_pay_107 : decode cX6_pay 107 = .ok (.dup2, 1) := dk_92 (dk_at dksX6_pay_4 15 rfl rfl)
theorem dX6_pay_108 : decode cX6_pay 108 = .ok (.iaload, 1) := dk_46 (dk_at dksX6_pay_4 16 rfl rfl)
theorem dX6_pay_109 : decode cX6_pay 109 = .ok (.iload_n 3, 1) := dk_29 (dk_at dksX6_pay_4 17 rfl rfl)
theorem dX6_pay_110 : decode cX6_pay 110 = .ok (.isub, 1) := dk_100 (dk_at dksX6_pay_4 18 rfl rfl)
theorem dX6_pay_111 : decode cX6_pay 111 = .ok (.iastore, 1) := dk_79 (dk_at dksX6_pay_4 19 rfl rfl)
theorem dX6_pay_112 : decode cX6_pay 112 = .ok (.aload_n 0, 1) := dk_42 (dk_at dksX6_pay_4 20 rfl rfl)
theorem dX6_pay_113 : decode cX6_pay 113 = .ok (.getfield 7, 3) := dk_180 0 7 (dk_at dksX6_pay_4 21 rfl rfl)
theorem dX6_pay_116 : decode cX6_pay 116 = .ok (.bipush 72, 2) := dk_16 72 (dk_at dksX6_pay_5 0 rfl rfl)
theorem dX6_pay_118 : decode cX6_pay 118 = .ok (.bipush 8, 2) := dk_16 8 (dk_at dksX6_pay_5 2 rfl rfl)
theorem dX6_pay_120 : decode cX6_pay 120 = .ok (.iload 4, 2) := dk_21 4 (dk_at dksX6_pay_5 4 rfl rfl)
theorem dX6_pay_122 : decode cX6_pay 122 = .ok (.imul, 1) := dk_104 (dk_at dksX6_pay_5 6 rfl rfl)
theorem dX6_pay_123 : decode cX6_pay 123 = .ok (.iadd, 1) := dk_96 (dk_at dksX6_pay_5 7 rfl rfl)
theorem dX6_pay_124 : decode cX6_pay 124 = .ok (.iload_n 2, 1) := dk_28 (dk_at dksX6_pay_5 8 rfl rfl)
theorem dX6_pay_125 : decode cX6_pay 125 = .ok (.iadd, 1) := dk_96 (dk_at dksX6_pay_5 9 rfl rfl)
theorem dX6_pay_126 : decode cX6_pay 126 = .ok (.iaload, 1) := dk_46 (dk_at dksX6_pay_5 10 rfl rfl)
theorem dX6_pay_127 : decode cX6_pay 127 = .ok (.ireturn, 1) := dk_172 (dk_at dksX6_pay_5 11 rfl rfl)
abbrev cX6_days : ByteArray := prog_30_method_56_code
def yX6_days : MethodName := ⟨RX6, "days", "(I)I"⟩
def dkwX6_days_1 : List UInt8 := [162, 0, 13, 42, 182, 0, 214, 132, 3, 1, 167, 255, 244, 42, 182, 0, 217, 172]
abbrev dktX6_days_1 : List UInt8 := dkwX6_days_1 ++ []
def dkwX6_days_0 : List UInt8 := [42, 27, 16, 60, 182, 0, 211, 61, 28, 153, 0, 9, 42, 28, 182, 0, 68, 172, 3, 62, 29, 27]
abbrev dktX6_days_0 : List UInt8 := dkwX6_days_0 ++ dktX6_days_1
theorem dksX6_days_0 : cX6_days.data.toList.drop 0 = dktX6_days_0 := by decide +kernel
theorem dksX6_days_1 : cX6_days.data.toList.drop 22 = dktX6_days_1 := dk_seg dksX6_days_0 22 rfl rfl
theorem dX6_days_0 : decode cX6_days 0 = .ok (.aload_n 0, 1) := dk_42 (dk_at dksX6_days_0 0 rfl rfl)
theorem dX6_days_1 : decode cX6_days 1 = .ok (.iload_n 1, 1) := dk_27 (dk_at dksX6_days_0 1 rfl rfl)
theorem dX6_days_2 : decode cX6_days 2 = .ok (.bipush 60, 2) := dk_16 60 (dk_at dksX6_days_0 2 rfl rfl)
theorem dX6_days_4 : decode cX6_days 4 = .ok (.invokevirtual 211, 3) := dk_182 0 211 (dk_at dksX6_days_0 4 rfl rfl)
theorem dX6_days_7 : decode cX6_days 7 = .ok (.istore_n 2, 1) := dk_61 (dk_at dksX6_days_0 7 rfl rfl)
theorem dX6_days_8 : decode cX6_days 8 = .ok (.iload_n 2, 1) := dk_28 (dk_at dksX6_days_0 8 rfl rfl)
theorem dX6_days_9 : decode cX6_days 9 = .ok (.ifCond .eq 9, 3) := dk_153 0 9 (dk_at dksX6_days_0 9 rfl rfl)
theorem dX6_days_12 : decode cX6_days 12 = .ok (.aload_n 0, 1) := dk_42 (dk_at dksX6_days_0 12 rfl rfl)
theorem dX6_days_13 : decode cX6_days 13 = .ok (.iload_n 2, 1) := dk_28 (dk_at dksX6_days_0 13 rfl rfl)
theorem dX6_days_14 : decode cX6_days 14 = .ok (.invokevirtual 68, 3) := dk_182 0 68 (dk_at dksX6_days_0 14 rfl rfl)
theorem dX6_days_17 : decode cX6_days 17 = .ok (.ireturn, 1) := dk_172 (dk_at dksX6_days_0 17 rfl rfl)
theorem dX6_days_18 : decode cX6_days 18 = .ok (.iconst 0, 1) := dk_3 (dk_at dksX6_days_0 18 rfl rfl)
theorem dX6_days_19 : decode cX6_days 19 = .ok (.istore_n 3, 1) := dk_62 (dk_at dksX6_days_0 19 rfl rfl)
theorem dX6_days_20 : decode cX6_days 20 = .ok (.iload_n 3, 1) := dk_29 (dk_at dksX6_days_0 20 rfl rfl)
theorem dX6_days_21 : decode cX6_days 21 = .ok (.iload_n 1, 1) := dk_27 (dk_at dksX6_days_0 21 rfl rfl)
theorem dX6_days_22 : decode cX6_days 22 = .ok (.if_icmp .ge 13, 3) := dk_162 0 13 (dk_at dksX6_days_1 0 rfl rfl)
theorem dX6_days_25 : decode cX6_days 25 = .ok (.aload_n 0, 1) := dk_42 (dk_at dksX6_days_1 3 rfl rfl)
theorem dX6_days_26 : decode cX6_days 26 = .ok (.invokevirtual 214, 3) := dk_182 0 214 (dk_at dksX6_days_1 4 rfl rfl)
theorem dX6_days_29 : decode cX6_days 29 = .ok (.iinc 3 1, 3) := dk_132 3 1 (dk_at dksX6_days_1 7 rfl rfl)
theorem dX6_days_32 : decode cX6_days 32 = .ok (.goto (-12), 3) := dk_167 255 244 (dk_at dksX6_days_1 10 rfl rfl)
theorem dX6_days_35 : decode cX6_days 35 = .ok (.aload_n 0, 1) := dk_42 (dk_at dksX6_days_1 13 rfl rfl)
theorem dX6_days_36 : decode cX6_days 36 = .ok (.invokevirtual 217, 3) := dk_182 0 217 (dk_at dksX6_days_1 14 rfl rfl)
theorem dX6_days_39 : decode cX6_days 39 = .ok (.ireturn, 1) := dk_172 (dk_at dksX6_days_1 17 rfl rfl)
abbrev cX6_wrongDays : ByteArray := prog_30_method_55_code
def yX6_wrongDays : MethodName := ⟨RX6, "wrongDays", "(II)I"⟩
def dkwX6_wrongDays_2 : List UInt8 := [18, 199, 167, 0, 4, 3, 172]
abbrev dktX6_wrongDays_2 : List UInt8 := dkwX6_wrongDays_2 ++ []
def dkwX6_wrongDays_1 : List UInt8 := [27, 96, 17, 39, 15, 163, 0, 18, 42, 180, 0, 7, 17, 0, 137, 46, 27, 96, 18, 203, 164, 0, 8]
abbrev dktX6_wrongDays_1 : List UInt8 := dkwX6_wrongDays_1 ++ dktX6_wrongDays_2
def dkwX6_wrongDays_0 : List UInt8 := [27, 133, 10, 28, 133, 184, 0, 46, 154, 0, 8, 18, 67, 167, 0, 40, 42, 180, 0, 7, 17, 0, 138, 46]
abbrev dktX6_wrongDays_0 : List UInt8 := dkwX6_wrongDays_0 ++ dktX6_wrongDays_1
theorem dksX6_wrongDays_0 : cX6_wrongDays.data.toList.drop 0 = dktX6_wrongDays_0 := by decide +kernel
theorem dksX6_wrongDays_1 : cX6_wrongDays.data.toList.drop 24 = dktX6_wrongDays_1 := dk_seg dksX6_wrongDays_0 24 rfl rfl
theorem dksX6_wrongDays_2 : cX6_wrongDays.data.toList.drop 47 = dktX6_wrongDays_2 := dk_seg dksX6_wrongDays_1 23 rfl rfl
theorem dX6_wrongDays_0 : decode cX6_wrongDays 0 = .ok (.iload_n 1, 1) := dk_27 (dk_at dksX6_wrongDays_0 0 rfl rfl)
theorem dX6_wrongDays_1 : decode cX6_wrongDays 1 = .ok (.i2l, 1) := dk_133 (dk_at dksX6_wrongDays_0 1 rfl rfl)
theorem dX6_wrongDays_2 : decode cX6_wrongDays 2 = .ok (.lconst 1, 1) := dk_10 (dk_at dksX6_wrongDays_0 2 rfl rfl)
theorem dX6_wrongDays_3 : decode cX6_wrongDays 3 = .ok (.iload_n 2, 1) := dk_28 (dk_at dksX6_wrongDays_0 3 rfl rfl)
theorem dX6_wrongDays_4 : decode cX6_wrongDays 4 = .ok (.i2l, 1) := dk_133 (dk_at dksX6_wrongDays_0 4 rfl rfl)
theorem dX6_wrongDays_5 : decode cX6_wrongDays 5 = .ok (.invokestatic 46, 3) := dk_184 0 46 (dk_at dksX6_wrongDays_0 5 rfl rfl)
theorem dX6_wrongDays_8 : decode cX6_wrongDays 8 = .ok (.ifCond .ne 8, 3) := dk_154 0 8 (dk_at dksX6_wrongDays_0 8 rfl rfl)
theorem dX6_wrongDays_11 : decode cX6_wrongDays 11 = .ok (.ldc 67, 2) := dk_18 67 (dk_at dksX6_wrongDays_0 11 rfl rfl)
theorem dX6_wrongDays_13 : decode cX6_wrongDays 13 = .ok (.goto 40, 3) := dk_167 0 40 (dk_at dksX6_wrongDays_0 13 rfl rfl)
theorem dX6_wrongDays_16 : decode cX6_wrongDays 16 = .ok (.aload_n 0, 1) := dk_42 (dk_at dksX6_wrongDays_0 16 rfl rfl)
theorem dX6_wrongDays_17 : decode cX6_wrongDays 17 = .ok (.getfield 7, 3) := dk_180 0 7 (dk_at dksX6_wrongDays_0 17 rfl rfl)
theorem dX6_wrongDays_20 : decode cX6_wrongDays 20 = .ok (.sipush 138, 3) := dk_17 0 138 (dk_at dksX6_wrongDays_0 20 rfl rfl)
theorem dX6_wrongDays_23 : decode cX6_wrongDays 23 = .ok (.iaload, 1) := dk_46 (dk_at dksX6_wrongDays_0 23 rfl rfl)
theorem dX6_wrongDays_24 : decode cX6_wrongDays 24 = .ok (.iload_n 1, 1) := dk_27 (dk_at dksX6_wrongDays_1 0 rfl rfl)
theorem dX6_wrongDays_25 : decode cX6_wrongDays 25 = .ok (.iadd, 1) := dk_96 (dk_at dksX6_wrongDays_1 1 rfl rfl)
theorem dX6_wrongDays_26 : decode cX6_wrongDays 26 = .ok (.sipush 9999, 3) := dk_17 39 15 (dk_at dksX6_wrongDays_1 2 rfl rfl)
theorem dX6_wrongDays_29 : decode cX6_wrongDays 29 = .ok (.if_icmp .gt 18, 3) := dk_163 0 18 (dk_at dksX6_wrongDays_1 5 rfl rfl)
theorem dX6_wrongDays_32 : decode cX6_wrongDays 32 = .ok (.aload_n 0, 1) := dk_42 (dk_at dksX6_wrongDays_1 8 rfl rfl)
theorem dX6_wrongDays_33 : decode cX6_wrongDays 33 = .ok (.getfield 7, 3) := dk_180 0 7 (dk_at dksX6_wrongDays_1 9 rfl rfl)
theorem dX6_wrongDays_36 : decode cX6_wrongDays 36 = .ok (.sipush 137, 3) := dk_17 0 137 (dk_at dksX6_wrongDays_1 12 rfl rfl)
theorem dX6_wrongDays_39 : decode cX6_wrongDays 39 = .ok (.iaload, 1) := dk_46 (dk_at dksX6_wrongDays_1 15 rfl rfl)
theorem dX6_wrongDays_40 : decode cX6_wrongDays 40 = .ok (.iload_n 1, 1) := dk_27 (dk_at dksX6_wrongDays_1 16 rfl rfl)
theorem dX6_wrongDays_41 : decode cX6_wrongDays 41 = .ok (.iadd, 1) := dk_96 (dk_at dksX6_wrongDays_1 17 rfl rfl)
theorem dX6_wrongDays_42 : decode cX6_wrongDays 42 = .ok (.ldc 203, 2) := dk_18 203 (dk_at dksX6_wrongDays_1 18 rfl rfl)
theorem dX6_wrongDays_44 : decode cX6_wrongDays 44 = .ok (.if_icmp .le 8, 3) := dk_164 0 8 (dk_at dksX6_wrongDays_1 20 rfl rfl)
theorem dX6_wrongDays_47 : decode cX6_wrongDays 47 = .ok (.ldc 199, 2) := dk_18 199 (dk_at dksX6_wrongDays_2 0 rfl rfl)
theorem dX6_wrongDays_49 : decode cX6_wrongDays 49 = .ok (.goto 4, 3) := dk_167 0 4 (dk_at dksX6_wrongDays_2 2 rfl rfl)
theorem dX6_wrongDays_52 : decode cX6_wrongDays 52 = .ok (.iconst 0, 1) := dk_3 (dk_at dksX6_wrongDays_2 5 rfl rfl)
theorem dX6_wrongDays_53 : decode cX6_wrongDays 53 = .ok (.ireturn, 1) := dk_172 (dk_at dksX6_wrongDays_2 6 rfl rfl)
abbrev cX6_day : ByteArray := prog_30_method_53_code
def yX6_day : MethodName := ⟨RX6, "day", "()V"⟩
def dkwX6_day_4 : List UInt8 := [180, 0, 7, 17, 0, 138, 92, 46, 4, 96, 79, 42, 180, 0, 7, 17, 0, 137, 92, 46, 4, 96, 79, 177]
abbrev dktX6_day_4 : List UInt8 := dkwX6_day_4 ++ []
def dkwX6_day_3 : List UInt8 := [27, 7, 184, 0, 54, 92, 46, 4, 96, 79, 42, 27, 182, 0, 207, 132, 1, 1, 167, 255, 213, 42]
abbrev dktX6_day_3 : List UInt8 := dkwX6_day_3 ++ dktX6_day_4
def dkwX6_day_2 : List UInt8 := [42, 180, 0, 7, 17, 0, 139, 46, 162, 0, 37, 42, 27, 8, 182, 0, 79, 154, 0, 22, 42, 180, 0, 7]
abbrev dktX6_day_2 : List UInt8 := dkwX6_day_2 ++ dktX6_day_3
def dkwX6_day_1 : List UInt8 := [180, 0, 7, 17, 0, 136, 46, 96, 3, 16, 99, 184, 0, 193, 79, 132, 1, 1, 167, 255, 216, 3, 60, 27]
abbrev dktX6_day_1 : List UInt8 := dkwX6_day_1 ++ dktX6_day_2
def dkwX6_day_0 : List UInt8 := [3, 60, 27, 16, 8, 162, 0, 40, 42, 180, 0, 7, 3, 27, 96, 42, 180, 0, 7, 3, 27, 96, 46, 42]
abbrev dktX6_day_0 : List UInt8 := dkwX6_day_0 ++ dktX6_day_1
theorem dksX6_day_0 : cX6_day.data.toList.drop 0 = dktX6_day_0 := by decide +kernel
theorem dksX6_day_1 : cX6_day.data.toList.drop 24 = dktX6_day_1 := dk_seg dksX6_day_0 24 rfl rfl
theorem dksX6_day_2 : cX6_day.data.toList.drop 48 = dktX6_day_2 := dk_seg dksX6_day_1 24 rfl rfl
theorem dksX6_day_3 : cX6_day.data.toList.drop 72 = dktX6_day_3 := dk_seg dksX6_day_2 24 rfl rfl
theorem dksX6_day_4 : cX6_day.data.toList.drop 94 = dktX6_day_4 := dk_seg dksX6_day_3 22 rfl rfl
theorem dX6_day_0 : decode cX6_day 0 = .ok (.iconst 0, 1) := dk_3 (dk_at dksX6_day_0 0 rfl rfl)
theorem dX6_day_1 : decode cX6_day 1 = .ok (.istore_n 1, 1) := dk_60 (dk_at dksX6_day_0 1 rfl rfl)
theorem dX6_day_2 : decode cX6_day 2 = .ok (.iload_n 1, 1) := dk_27 (dk_at dksX6_day_0 2 rfl rfl)
theorem dX6_day_3 : decode cX6_day 3 = .ok (.bipush 8, 2) := dk_16 8 (dk_at dksX6_day_0 3 rfl rfl)
theorem dX6_day_5 : decode cX6_day 5 = .ok (.if_icmp .ge 40, 3) := dk_162 0 40 (dk_at dksX6_day_0 5 rfl rfl)
theorem dX6_day_8 : decode cX6_day 8 = .ok (.aload_n 0, 1) := dk_42 (dk_at dksX6_day_0 8 rfl rfl)
theorem dX6_day_9 : decode cX6_day 9 = .ok (.getfield 7, 3) := dk_180 0 7 (dk_at dksX6_day_0 9 rfl rfl)
theorem dX6_day_12 : decode cX6_day 12 = .ok (.iconst 0, 1) := dk_3 (dk_at dksX6_day_0 12 rfl rfl)
theorem dX6_day_13 : decode cX6_day 13 = .ok (.iload_n 1, 1) := dk_27 (dk_at dksX6_day_0 13 rfl rfl)
theorem dX6_day_14 : decode cX6_day 14 = .ok (.iadd, 1) := dk_96 (dk_at dksX6_day_0 14 rfl rfl)
theorem dX6_day_15 : decode cX6_day 15 = .ok (.aload_n 0, 1) := dk_42 (dk_at dksX6_day_0 15 rfl rfl)
theorem dX6_day_16 : decode cX6_day 16 = .ok (.getfield 7, 3) := dk_180 0 7 (dk_at dksX6_day_0 16 rfl rfl)
theorem dX6_day_19 : decode cX6_day 19 = .ok (.iconst 0, 1) := dk_3 (dk_at dksX6_day_0 19 rfl rfl)
theorem dX6_day_20 : decode cX6_day 20 = .ok (.iload_n 1, 1) := dk_27 (dk_at dksX6_day_0 20 rfl rfl)
theorem dX6_day_21 : decode cX6_day 21 = .ok (.iadd, 1) := dk_96 (dk_at dksX6_day_0 21 rfl rfl)
theorem dX6_day_22 : decode cX6_day 22 = .ok (.iaload, 1) := dk_46 (dk_at dksX6_day_0 22 rfl rfl)
theorem dX6_day_23 : decode cX6_day 23 = .ok (.aload_n 0, 1) := dk_42 (dk_at dksX6_day_0 23 rfl rfl)
theorem dX6_day_24 : decode cX6_day 24 = .ok (.getfield 7, 3) := dk_180 0 7 (dk_at dksX6_day_1 0 rfl rfl)
theorem dX6_day_27 : decode cX6_day 27 = .ok (.sipush 136, 3) := dk_17 0 136 (dk_at dksX6_day_1 3 rfl rfl)
theorem dX6_day_30 : decode cX6_day 30 = .ok (.iaload, 1) := dk_46 (dk_at dksX6_day_1 6 rfl rfl)
theorem dX6_day_31 : decode cX6_day 31 = .ok (.iadd, 1) := dk_96 (dk_at dksX6_day_1 7 rfl rfl)
theorem dX6_day_32 : decode cX6_day 32 = .ok (.iconst 0, 1) := dk_3 (dk_at dksX6_day_1 8 rfl rfl)
theorem dX6_day_33 : decode cX6_day 33 = .ok (.bipush 99, 2) := dk_16 99 (dk_at dksX6_day_1 9 rfl rfl)
theorem dX6_day_35 : decode cX6_day 35 = .ok (.invokestatic 193, 3) := dk_184 0 193 (dk_at dksX6_day_1 11 rfl rfl)
theorem dX6_day_38 : decode cX6_day 38 = .ok (.iastore, 1) := dk_79 (dk_at dksX6_day_1 14 rfl rfl)
theorem dX6_day_39 : decode cX6_day 39 = .ok (.iinc 1 1, 3) := dk_132 1 1 (dk_at dksX6_day_1 15 rfl rfl)
theorem dX6_day_42 : decode cX6_day 42 = .ok (.goto (-40), 3) := dk_167 255 216 (dk_at dksX6_day_1 18 rfl rfl)
theorem dX6_day_45 : decode cX6_day 45 = .ok (.iconst 0, 1) := dk_3 (dk_at dksX6_day_1 21 rfl rfl)
theorem dX6_day_46 : decode cX6_day 46 = .ok (.istore_n 1, 1) := dk_60 (dk_at dksX6_day_1 22 rfl rfl)
theorem dX6_day_47 : decode cX6_day 47 = .ok (.iload_n 1, 1) := dk_27 (dk_at dksX6_day_1 23 rfl rfl)
theorem dX6_day_48 : decode cX6_day 48 = .ok (.aload_n 0, 1) := dk_42 (dk_at dksX6_day_2 0 rfl rfl)
theorem dX6_day_49 : decode cX6_day 49 = .ok (.getfield 7, 3) := dk_180 0 7 (dk_at dksX6_day_2 1 rfl rfl)
theorem dX6_day_52 : decode cX6_day 52 = .ok (.sipush 139, 3) := dk_17 0 139 (dk_at dksX6_day_2 4 rfl rfl)
theorem dX6_day_55 : decode cX6_day 55 = .ok (.iaload, 1) := dk_46 (dk_at dksX6_day_2 7 rfl rfl)
theorem dX6_day_56 : decode cX6_day 56 = .ok (.if_icmp .ge 37, 3) := dk_162 0 37 (dk_at dksX6_day_2 8 rfl rfl)
theorem dX6_day_59 : decode cX6_day 59 = .ok (.aload_n 0, 1) := dk_42 (dk_at dksX6_day_2 11 rfl rfl)
theorem dX6_day_60 : decode cX6_day 60 = .ok (.iload_n 1, 1) := dk_27 (dk_at dksX6_day_2 12 rfl rfl)
theorem dX6_day_61 : decode cX6_day 61 = .ok (.iconst 5, 1) := dk_8 (dk_at dksX6_day_2 13 rfl rfl)
theorem dX6_day_62 : decode cX6_day 62 = .ok (.invokevirtual 79, 3) := dk_182 0 79 (dk_at dksX6_day_2 14 rfl rfl)
theorem dX6_day_65 : decode cX6_day 65 = .ok (.ifCond .ne 22, 3) := dk_154 0 22 (dk_at dksX6_day_2 17 rfl rfl)
theorem dX6_day_68 : decode cX6_day 68 = .ok (.aload_n 0, 1) := dk_42 (dk_at dksX6_day_2 20 rfl rfl)
theorem dX6_day_69 : decode cX6_day 69 = .ok (.getfield 7, 3) := dk_180 0 7 (dk_at dksX6_day_2 21 rfl rfl)
theorem dX6_day_72 : decode cX6_day 72 = .ok (.iload_n 1, 1) := dk_27 (dk_at dksX6_day_3 0 rfl rfl)
theorem dX6_day_73 : decode cX6_day 73 = .ok (.iconst 4, 1) := dk_7 (dk_at dksX6_day_3 1 rfl rfl)
theorem dX6_day_74 : decode cX6_day 74 = .ok (.invokestatic 54, 3) := dk_184 0 54 (dk_at dksX6_day_3 2 rfl rfl)
theorem dX6_day_77 : decode cX6_day 77 = .ok (.dup2, 1) := dk_92 (dk_at dksX6_day_3 5 rfl rfl)
theorem dX6_day_78 : decode cX6_day 78 = .ok (.iaload, 1) := dk_46 (dk_at dksX6_day_3 6 rfl rfl)
theorem dX6_day_79 : decode cX6_day 79 = .ok (.iconst 1, 1) := dk_4 (dk_at dksX6_day_3 7 rfl rfl)
theorem dX6_day_80 : decode cX6_day 80 = .ok (.iadd, 1) := dk_96 (dk_at dksX6_day_3 8 rfl rfl)
theorem dX6_day_81 : decode cX6_day 81 = .ok (.iastore, 1) := dk_79 (dk_at dksX6_day_3 9 rfl rfl)
theorem dX6_day_82 : decode cX6_day 82 = .ok (.aload_n 0, 1) := dk_42 (dk_at dksX6_day_3 10 rfl rfl)
theorem dX6_day_83 : decode cX6_day 83 = .ok (.iload_n 1, 1) := dk_27 (dk_at dksX6_day_3 11 rfl rfl)
theorem dX6_day_84 : decode cX6_day 84 = .ok (.invokevirtual 207, 3) := dk_182 0 207 (dk_at dksX6_day_3 12 rfl rfl)
theorem dX6_day_87 : decode cX6_day 87 = .ok (.iinc 1 1, 3) := dk_132 1 1 (dk_at dksX6_day_3 15 rfl rfl)
theorem dX6_day_90 : decode cX6_day 90 = .ok (.goto (-43), 3) := dk_167 255 213 (dk_at dksX6_day_3 18 rfl rfl)
theorem dX6_day_93 : decode cX6_day 93 = .ok (.aload_n 0, 1) := dk_42 (dk_at dksX6_day_3 21 rfl rfl)
theorem dX6_day_94 : decode cX6_day 94 = .ok (.getfield 7, 3) := dk_180 0 7 (dk_at dksX6_day_4 0 rfl rfl)
theorem dX6_day_97 : decode cX6_day 97 = .ok (.sipush 138, 3) := dk_17 0 138 (dk_at dksX6_day_4 3 rfl rfl)
theorem dX6_day_100 : decode cX6_day 100 = .ok (.dup2, 1) := dk_92 (dk_at dksX6_day_4 6 rfl rfl)
theorem dX6_day_101 : decode cX6_day 101 = .ok (.iaload, 1) := dk_46 (dk_at dksX6_day_4 7 rfl rfl)
theorem dX6_day_102 : decode cX6_day 102 = .ok (.iconst 1, 1) := dk_4 (dk_at dksX6_day_4 8 rfl rfl)
theorem dX6_day_103 : decode cX6_day 103 = .ok (.iadd, 1) := dk_96 (dk_at dksX6_day_4 9 rfl rfl)
theorem dX6_day_104 : decode cX6_day 104 = .ok (.iastore, 1) := dk_79 (dk_at dksX6_day_4 10 rfl rfl)
theorem dX6_day_105 : decode cX6_day 105 = .ok (.aload_n 0, 1) := dk_42 (dk_at dksX6_day_4 11 rfl rfl)
theorem dX6_day_106 : decode cX6_day 106 = .ok (.getfield 7, 3) := dk_180 0 7 (dk_at dksX6_day_4 12 rfl rfl)
theorem dX6_day_109 : decode cX6_day 109 = .ok (.sipush 137, 3) := dk_17 0 137 (dk_at dksX6_day_4 15 rfl rfl)
theorem dX6_day_112 : decode cX6_day 112 = .ok (.dup2, 1) := dk_92 (dk_at dksX6_day_4 18 rfl rfl)
theorem dX6_day_113 : decode cX6_day 113 = .ok (.iaload, 1) := dk_46 (dk_at dksX6_day_4 19 rfl rfl)
theorem dX6_day_114 : decode cX6_day 114 = .ok (.iconst 1, 1) := dk_4 (dk_at dksX6_day_4 20 rfl rfl)
theorem dX6_day_115 : decode cX6_day 115 = .ok (.iadd, 1) := dk_96 (dk_at dksX6_day_4 21 rfl rfl)
theorem dX6_day_116 : decode cX6_day 116 = .ok (.iastore, 1) := dk_79 (dk_at dksX6_day_4 22 rfl rfl)
theorem dX6_day_117 : decode cX6_day 117 = .ok (.return_, 1) := dk_177 (dk_at dksX6_day_4 23 rfl rfl)
abbrev cX6_dead : ByteArray := prog_30_method_54_code
def yX6_dead : MethodName := ⟨RX6, "dead", "()I"⟩
def dkwX6_dead_1 : List UInt8 := [60, 132, 2, 1, 167, 255, 232, 27, 172]
abbrev dktX6_dead_1 : List UInt8 := dkwX6_dead_1 ++ []
def dkwX6_dead_0 : List UInt8 := [3, 60, 3, 61, 28, 42, 180, 0, 7, 17, 0, 139, 46, 162, 0, 18, 27, 42, 28, 8, 182, 0, 79, 96]
abbrev dktX6_dead_0 : List UInt8 := dkwX6_dead_0 ++ dktX6_dead_1
theorem dksX6_dead_0 : cX6_dead.data.toList.drop 0 = dktX6_dead_0 := by decide +kernel
theorem dksX6_dead_1 : cX6_dead.data.toList.drop 24 = dktX6_dead_1 := dk_seg dksX6_dead_0 24 rfl rfl
theorem dX6_dead_0 : decode cX6_dead 0 = .ok (.iconst 0, 1) := dk_3 (dk_at dksX6_dead_0 0 rfl rfl)
theorem dX6_dead_1 : decode cX6_dead 1 = .ok (.istore_n 1, 1) := dk_60 (dk_at dksX6_dead_0 1 rfl rfl)
theorem dX6_dead_2 : decode cX6_dead 2 = .ok (.iconst 0, 1) := dk_3 (dk_at dksX6_dead_0 2 rfl rfl)
theorem dX6_dead_3 : decode cX6_dead 3 = .ok (.istore_n 2, 1) := dk_61 (dk_at dksX6_dead_0 3 rfl rfl)
theorem dX6_dead_4 : decode cX6_dead 4 = .ok (.iload_n 2, 1) := dk_28 (dk_at dksX6_dead_0 4 rfl rfl)
theorem dX6_dead_5 : decode cX6_dead 5 = .ok (.aload_n 0, 1) := dk_42 (dk_at dksX6_dead_0 5 rfl rfl)
theorem dX6_dead_6 : decode cX6_dead 6 = .ok (.getfield 7, 3) := dk_180 0 7 (dk_at dksX6_dead_0 6 rfl rfl)
theorem dX6_dead_9 : decode cX6_dead 9 = .ok (.sipush 139, 3) := dk_17 0 139 (dk_at dksX6_dead_0 9 rfl rfl)
theorem dX6_dead_12 : decode cX6_dead 12 = .ok (.iaload, 1) := dk_46 (dk_at dksX6_dead_0 12 rfl rfl)
theorem dX6_dead_13 : decode cX6_dead 13 = .ok (.if_icmp .ge 18, 3) := dk_162 0 18 (dk_at dksX6_dead_0 13 rfl rfl)
theorem dX6_dead_16 : decode cX6_dead 16 = .ok (.iload_n 1, 1) := dk_27 (dk_at dksX6_dead_0 16 rfl rfl)
theorem dX6_dead_17 : decode cX6_dead 17 = .ok (.aload_n 0, 1) := dk_42 (dk_at dksX6_dead_0 17 rfl rfl)
theorem dX6_dead_18 : decode cX6_dead 18 = .ok (.iload_n 2, 1) := dk_28 (dk_at dksX6_dead_0 18 rfl rfl)
theorem dX6_dead_19 : decode cX6_dead 19 = .ok (.iconst 5, 1) := dk_8 (dk_at dksX6_dead_0 19 rfl rfl)
theorem dX6_dead_20 : decode cX6_dead 20 = .ok (.invokevirtual 79, 3) := dk_182 0 79 (dk_at dksX6_dead_0 20 rfl rfl)
theorem dX6_dead_23 : decode cX6_dead 23 = .ok (.iadd, 1) := dk_96 (dk_at dksX6_dead_0 23 rfl rfl)
theorem dX6_dead_24 : decode cX6_dead 24 = .ok (.istore_n 1, 1) := dk_60 (dk_at dksX6_dead_1 0 rfl rfl)
theorem dX6_dead_25 : decode cX6_dead 25 = .ok (.iinc 2 1, 3) := dk_132 2 1 (dk_at dksX6_dead_1 1 rfl rfl)
theorem dX6_dead_28 : decode cX6_dead 28 = .ok (.goto (-24), 3) := dk_167 255 232 (dk_at dksX6_dead_1 4 rfl rfl)
theorem dX6_dead_31 : decode cX6_dead 31 = .ok (.iload_n 1, 1) := dk_27 (dk_at dksX6_dead_1 7 rfl rfl)
theorem dX6_dead_32 : decode cX6_dead 32 = .ok (.ireturn, 1) := dk_172 (dk_at dksX6_dead_1 8 rfl rfl)
abbrev cX6_loose : ByteArray := prog_30_method_58_code
def yX6_loose : MethodName := ⟨RX6, "loose", "(I)I"⟩
def dkwX6_loose_2 : List UInt8 := [16, 20, 112, 79, 42, 182, 0, 214, 132, 3, 1, 167, 255, 219, 42, 182, 0, 217, 172]
abbrev dktX6_loose_2 : List UInt8 := dkwX6_loose_2 ++ []
def dkwX6_loose_1 : List UInt8 := [162, 0, 38, 42, 182, 0, 221, 16, 8, 112, 54, 4, 42, 180, 0, 7, 3, 21, 4, 96, 42, 182, 0, 221]
abbrev dktX6_loose_1 : List UInt8 := dkwX6_loose_1 ++ dktX6_loose_2
def dkwX6_loose_0 : List UInt8 := [42, 27, 16, 40, 182, 0, 211, 61, 28, 153, 0, 9, 42, 28, 182, 0, 68, 172, 3, 62, 29, 27]
abbrev dktX6_loose_0 : List UInt8 := dkwX6_loose_0 ++ dktX6_loose_1
theorem dksX6_loose_0 : cX6_loose.data.toList.drop 0 = dktX6_loose_0 := by decide +kernel
theorem dksX6_loose_1 : cX6_loose.data.toList.drop 22 = dktX6_loose_1 := dk_seg dksX6_loose_0 22 rfl rfl
theorem dksX6_loose_2 : cX6_loose.data.toList.drop 46 = dktX6_loose_2 := dk_seg dksX6_loose_1 24 rfl rfl
theorem dX6_loose_0 : decode cX6_loose 0 = .ok (.aload_n 0, 1) := dk_42 (dk_at dksX6_loose_0 0 rfl rfl)
theorem dX6_loose_1 : decode cX6_loose 1 = .ok (.iload_n 1, 1) := dk_27 (dk_at dksX6_loose_0 1 rfl rfl)
theorem dX6_loose_2 : decode cX6_loose 2 = .ok (.bipush 40, 2) := dk_16 40 (dk_at dksX6_loose_0 2 rfl rfl)
theorem dX6_loose_4 : decode cX6_loose 4 = .ok (.invokevirtual 211, 3) := dk_182 0 211 (dk_at dksX6_loose_0 4 rfl rfl)
theorem dX6_loose_7 : decode cX6_loose 7 = .ok (.istore_n 2, 1) := dk_61 (dk_at dksX6_loose_0 7 rfl rfl)
theorem dX6_loose_8 : decode cX6_loose 8 = .ok (.iload_n 2, 1) := dk_28 (dk_at dksX6_loose_0 8 rfl rfl)
theorem dX6_loose_9 : decode cX6_loose 9 = .ok (.ifCond .eq 9, 3) := dk_153 0 9 (dk_at dksX6_loose_0 9 rfl rfl)
theorem dX6_loose_12 : decode cX6_loose 12 = .ok (.aload_n 0, 1) := dk_42 (dk_at dksX6_loose_0 12 rfl rfl)
theorem dX6_loose_13 : decode cX6_loose 13 = .ok (.iload_n 2, 1) := dk_28 (dk_at dksX6_loose_0 13 rfl rfl)
theorem dX6_loose_14 : decode cX6_loose 14 = .ok (.invokevirtual 68, 3) := dk_182 0 68 (dk_at dksX6_loose_0 14 rfl rfl)
theorem dX6_loose_17 : decode cX6_loose 17 = .ok (.ireturn, 1) := dk_172 (dk_at dksX6_loose_0 17 rfl rfl)
theorem dX6_loose_18 : decode cX6_loose 18 = .ok (.iconst 0, 1) := dk_3 (dk_at dksX6_loose_0 18 rfl rfl)
theorem dX6_loose_19 : decode cX6_loose 19 = .ok (.istore_n 3, 1) := dk_62 (dk_at dksX6_loose_0 19 rfl rfl)
theorem dX6_loose_20 : decode cX6_loose 20 = .ok (.iload_n 3, 1) := dk_29 (dk_at dksX6_loose_0 20 rfl rfl)
theorem dX6_loose_21 : decode cX6_loose 21 = .ok (.iload_n 1, 1) := dk_27 (dk_at dksX6_loose_0 21 rfl rfl)
theorem dX6_loose_22 : decode cX6_loose 22 = .ok (.if_icmp .ge 38, 3) := dk_162 0 38 (dk_at dksX6_loose_1 0 rfl rfl)
theorem dX6_loose_25 : decode cX6_loose 25 = .ok (.aload_n 0, 1) := dk_42 (dk_at dksX6_loose_1 3 rfl rfl)
theorem dX6_loose_26 : decode cX6_loose 26 = .ok (.invokevirtual 221, 3) := dk_182 0 221 (dk_at dksX6_loose_1 4 rfl rfl)
theorem dX6_loose_29 : decode cX6_loose 29 = .ok (.bipush 8, 2) := dk_16 8 (dk_at dksX6_loose_1 7 rfl rfl)
theorem dX6_loose_31 : decode cX6_loose 31 = .ok (.irem, 1) := dk_112 (dk_at dksX6_loose_1 9 rfl rfl)
theorem dX6_loose_32 : decode cX6_loose 32 = .ok (.istore 4, 2) := dk_54 4 (dk_at dksX6_loose_1 10 rfl rfl)
theorem dX6_loose_34 : decode cX6_loose 34 = .ok (.aload_n 0, 1) := dk_42 (dk_at dksX6_loose_1 12 rfl rfl)
theorem dX6_loose_35 : decode cX6_loose 35 = .ok (.getfield 7, 3) := dk_180 0 7 (dk_at dksX6_loose_1 13 rfl rfl)
theorem dX6_loose_38 : decode cX6_loose 38 = .ok (.iconst 0, 1) := dk_3 (dk_at dksX6_loose_1 16 rfl rfl)
theorem dX6_loose_39 : decode cX6_loose 39 = .ok (.iload 4, 2) := dk_21 4 (dk_at dksX6_loose_1 17 rfl rfl)
theorem dX6_loose_41 : decode cX6_loose 41 = .ok (.iadd, 1) := dk_96 (dk_at dksX6_loose_1 19 rfl rfl)
theorem dX6_loose_42 : decode cX6_loose 42 = .ok (.aload_n 0, 1) := dk_42 (dk_at dksX6_loose_1 20 rfl rfl)
theorem dX6_loose_43 : decode cX6_loose 43 = .ok (.invokevirtual 221, 3) := dk_182 0 221 (dk_at dksX6_loose_1 21 rfl rfl)
theorem dX6_loose_46 : decode cX6_loose 46 = .ok (.bipush 20, 2) := dk_16 20 (dk_at dksX6_loose_2 0 rfl rfl)
theorem dX6_loose_48 : decode cX6_loose 48 = .ok (.irem, 1) := dk_112 (dk_at dksX6_loose_2 2 rfl rfl)
theorem dX6_loose_49 : decode cX6_loose 49 = .ok (.iastore, 1) := dk_79 (dk_at dksX6_loose_2 3 rfl rfl)
theorem dX6_loose_50 : decode cX6_loose 50 = .ok (.aload_n 0, 1) := dk_42 (dk_at dksX6_loose_2 4 rfl rfl)
theorem dX6_loose_51 : decode cX6_loose 51 = .ok (.invokevirtual 214, 3) := dk_182 0 214 (dk_at dksX6_loose_2 5 rfl rfl)
theorem dX6_loose_54 : decode cX6_loose 54 = .ok (.iinc 3 1, 3) := dk_132 3 1 (dk_at dksX6_loose_2 8 rfl rfl)
theorem dX6_loose_57 : decode cX6_loose 57 = .ok (.goto (-37), 3) := dk_167 255 219 (dk_at dksX6_loose_2 11 rfl rfl)
theorem dX6_loose_60 : decode cX6_loose 60 = .ok (.aload_n 0, 1) := dk_42 (dk_at dksX6_loose_2 14 rfl rfl)
theorem dX6_loose_61 : decode cX6_loose 61 = .ok (.invokevirtual 217, 3) := dk_182 0 217 (dk_at dksX6_loose_2 15 rfl rfl)
theorem dX6_loose_64 : decode cX6_loose 64 = .ok (.ireturn, 1) := dk_172 (dk_at dksX6_loose_2 18 rfl rfl)
abbrev cX6_draw : ByteArray := prog_30_method_57_code
def yX6_draw : MethodName := ⟨RX6, "draw", "()I"⟩
def dkwX6_draw_1 : List UInt8 := [180, 0, 7, 17, 0, 176, 46, 16, 8, 124, 172]
abbrev dktX6_draw_1 : List UInt8 := dkwX6_draw_1 ++ []
def dkwX6_draw_0 : List UInt8 := [42, 180, 0, 7, 17, 0, 176, 42, 180, 0, 7, 17, 0, 176, 46, 18, 220, 104, 17, 48, 57, 96, 79, 42]
abbrev dktX6_draw_0 : List UInt8 := dkwX6_draw_0 ++ dktX6_draw_1
theorem dksX6_draw_0 : cX6_draw.data.toList.drop 0 = dktX6_draw_0 := by decide +kernel
theorem dksX6_draw_1 : cX6_draw.data.toList.drop 24 = dktX6_draw_1 := dk_seg dksX6_draw_0 24 rfl rfl
theorem dX6_draw_0 : decode cX6_draw 0 = .ok (.aload_n 0, 1) := dk_42 (dk_at dksX6_draw_0 0 rfl rfl)
theorem dX6_draw_1 : decode cX6_draw 1 = .ok (.getfield 7, 3) := dk_180 0 7 (dk_at dksX6_draw_0 1 rfl rfl)
theorem dX6_draw_4 : decode cX6_draw 4 = .ok (.sipush 176, 3) := dk_17 0 176 (dk_at dksX6_draw_0 4 rfl rfl)
theorem dX6_draw_7 : decode cX6_draw 7 = .ok (.aload_n 0, 1) := dk_42 (dk_at dksX6_draw_0 7 rfl rfl)
theorem dX6_draw_8 : decode cX6_draw 8 = .ok (.getfield 7, 3) := dk_180 0 7 (dk_at dksX6_draw_0 8 rfl rfl)
theorem dX6_draw_11 : decode cX6_draw 11 = .ok (.sipush 176, 3) := dk_17 0 176 (dk_at dksX6_draw_0 11 rfl rfl)
theorem dX6_draw_14 : decode cX6_draw 14 = .ok (.iaload, 1) := dk_46 (dk_at dksX6_draw_0 14 rfl rfl)
theorem dX6_draw_15 : decode cX6_draw 15 = .ok (.ldc 220, 2) := dk_18 220 (dk_at dksX6_draw_0 15 rfl rfl)
theorem dX6_draw_17 : decode cX6_draw 17 = .ok (.imul, 1) := dk_104 (dk_at dksX6_draw_0 17 rfl rfl)
theorem dX6_draw_18 : decode cX6_draw 18 = .ok (.sipush 12345, 3) := dk_17 48 57 (dk_at dksX6_draw_0 18 rfl rfl)
theorem dX6_draw_21 : decode cX6_draw 21 = .ok (.iadd, 1) := dk_96 (dk_at dksX6_draw_0 21 rfl rfl)
theorem dX6_draw_22 : decode cX6_draw 22 = .ok (.iastore, 1) := dk_79 (dk_at dksX6_draw_0 22 rfl rfl)
theorem dX6_draw_23 : decode cX6_draw 23 = .ok (.aload_n 0, 1) := dk_42 (dk_at dksX6_draw_0 23 rfl rfl)
theorem dX6_draw_24 : decode cX6_draw 24 = .ok (.getfield 7, 3) := dk_180 0 7 (dk_at dksX6_draw_1 0 rfl rfl)
theorem dX6_draw_27 : decode cX6_draw 27 = .ok (.sipush 176, 3) := dk_17 0 176 (dk_at dksX6_draw_1 3 rfl rfl)
theorem dX6_draw_30 : decode cX6_draw 30 = .ok (.iaload, 1) := dk_46 (dk_at dksX6_draw_1 6 rfl rfl)
theorem dX6_draw_31 : decode cX6_draw 31 = .ok (.bipush 8, 2) := dk_16 8 (dk_at dksX6_draw_1 7 rfl rfl)
theorem dX6_draw_33 : decode cX6_draw 33 = .ok (.iushr, 1) := dk_124 (dk_at dksX6_draw_1 9 rfl rfl)
theorem dX6_draw_34 : decode cX6_draw 34 = .ok (.ireturn, 1) := dk_172 (dk_at dksX6_draw_1 10 rfl rfl)
abbrev cX6_same : ByteArray := prog_30_method_59_code
def yX6_same : MethodName := ⟨RX6, "same", "()I"⟩
def dkwX6_same_1 : List UInt8 := [100, 104, 5, 108, 96, 60, 132, 2, 1, 167, 255, 227, 27, 172]
abbrev dktX6_same_1 : List UInt8 := dkwX6_same_1 ++ []
def dkwX6_same_0 : List UInt8 := [3, 60, 3, 61, 28, 16, 8, 162, 0, 29, 42, 6, 28, 182, 0, 87, 184, 0, 224, 62, 27, 29, 29, 4]
abbrev dktX6_same_0 : List UInt8 := dkwX6_same_0 ++ dktX6_same_1
theorem dksX6_same_0 : cX6_same.data.toList.drop 0 = dktX6_same_0 := by decide +kernel
theorem dksX6_same_1 : cX6_same.data.toList.drop 24 = dktX6_same_1 := dk_seg dksX6_same_0 24 rfl rfl
theorem dX6_same_0 : decode cX6_same 0 = .ok (.iconst 0, 1) := dk_3 (dk_at dksX6_same_0 0 rfl rfl)
theorem dX6_same_1 : decode cX6_same 1 = .ok (.istore_n 1, 1) := dk_60 (dk_at dksX6_same_0 1 rfl rfl)
theorem dX6_same_2 : decode cX6_same 2 = .ok (.iconst 0, 1) := dk_3 (dk_at dksX6_same_0 2 rfl rfl)
theorem dX6_same_3 : decode cX6_same 3 = .ok (.istore_n 2, 1) := dk_61 (dk_at dksX6_same_0 3 rfl rfl)
theorem dX6_same_4 : decode cX6_same 4 = .ok (.iload_n 2, 1) := dk_28 (dk_at dksX6_same_0 4 rfl rfl)
theorem dX6_same_5 : decode cX6_same 5 = .ok (.bipush 8, 2) := dk_16 8 (dk_at dksX6_same_0 5 rfl rfl)
theorem dX6_same_7 : decode cX6_same 7 = .ok (.if_icmp .ge 29, 3) := dk_162 0 29 (dk_at dksX6_same_0 7 rfl rfl)
theorem dX6_same_10 : decode cX6_same 10 = .ok (.aload_n 0, 1) := dk_42 (dk_at dksX6_same_0 10 rfl rfl)
theorem dX6_same_11 : decode cX6_same 11 = .ok (.iconst 3, 1) := dk_6 (dk_at dksX6_same_0 11 rfl rfl)
theorem dX6_same_12 : decode cX6_same 12 = .ok (.iload_n 2, 1) := dk_28 (dk_at dksX6_same_0 12 rfl rfl)
theorem dX6_same_13 : decode cX6_same 13 = .ok (.invokevirtual 87, 3) := dk_182 0 87 (dk_at dksX6_same_0 13 rfl rfl)
theorem dX6_same_16 : decode cX6_same 16 = .ok (.invokestatic 224, 3) := dk_184 0 224 (dk_at dksX6_same_0 16 rfl rfl)
theorem dX6_same_19 : decode cX6_same 19 = .ok (.istore_n 3, 1) := dk_62 (dk_at dksX6_same_0 19 rfl rfl)
theorem dX6_same_20 : decode cX6_same 20 = .ok (.iload_n 1, 1) := dk_27 (dk_at dksX6_same_0 20 rfl rfl)
theorem dX6_same_21 : decode cX6_same 21 = .ok (.iload_n 3, 1) := dk_29 (dk_at dksX6_same_0 21 rfl rfl)
theorem dX6_same_22 : decode cX6_same 22 = .ok (.iload_n 3, 1) := dk_29 (dk_at dksX6_same_0 22 rfl rfl)
theorem dX6_same_23 : decode cX6_same 23 = .ok (.iconst 1, 1) := dk_4 (dk_at dksX6_same_0 23 rfl rfl)
theorem dX6_same_24 : decode cX6_same 24 = .ok (.isub, 1) := dk_100 (dk_at dksX6_same_1 0 rfl rfl)
theorem dX6_same_25 : decode cX6_same 25 = .ok (.imul, 1) := dk_104 (dk_at dksX6_same_1 1 rfl rfl)
theorem dX6_same_26 : decode cX6_same 26 = .ok (.iconst 2, 1) := dk_5 (dk_at dksX6_same_1 2 rfl rfl)
theorem dX6_same_27 : decode cX6_same 27 = .ok (.idiv, 1) := dk_108 (dk_at dksX6_same_1 3 rfl rfl)
theorem dX6_same_28 : decode cX6_same 28 = .ok (.iadd, 1) := dk_96 (dk_at dksX6_same_1 4 rfl rfl)
theorem dX6_same_29 : decode cX6_same 29 = .ok (.istore_n 1, 1) := dk_60 (dk_at dksX6_same_1 5 rfl rfl)
theorem dX6_same_30 : decode cX6_same 30 = .ok (.iinc 2 1, 3) := dk_132 2 1 (dk_at dksX6_same_1 6 rfl rfl)
theorem dX6_same_33 : decode cX6_same 33 = .ok (.goto (-29), 3) := dk_167 255 227 (dk_at dksX6_same_1 9 rfl rfl)
theorem dX6_same_36 : decode cX6_same 36 = .ok (.iload_n 1, 1) := dk_27 (dk_at dksX6_same_1 12 rfl rfl)
theorem dX6_same_37 : decode cX6_same 37 = .ok (.ireturn, 1) := dk_172 (dk_at dksX6_same_1 13 rfl rfl)
abbrev cX6_ones : ByteArray := prog_30_method_60_code
def yX6_ones : MethodName := ⟨RX6, "ones", "(I)I"⟩
def dkwX6_ones_0 : List UInt8 := [3, 60, 26, 61, 28, 153, 0, 15, 132, 1, 1, 28, 28, 4, 100, 126, 61, 167, 255, 243, 27, 172]
abbrev dktX6_ones_0 : List UInt8 := dkwX6_ones_0 ++ []
theorem dksX6_ones_0 : cX6_ones.data.toList.drop 0 = dktX6_ones_0 := by decide +kernel
theorem dX6_ones_0 : decode cX6_ones 0 = .ok (.iconst 0, 1) := dk_3 (dk_at dksX6_ones_0 0 rfl rfl)
theorem dX6_ones_1 : decode cX6_ones 1 = .ok (.istore_n 1, 1) := dk_60 (dk_at dksX6_ones_0 1 rfl rfl)
theorem dX6_ones_2 : decode cX6_ones 2 = .ok (.iload_n 0, 1) := dk_26 (dk_at dksX6_ones_0 2 rfl rfl)
theorem dX6_ones_3 : decode cX6_ones 3 = .ok (.istore_n 2, 1) := dk_61 (dk_at dksX6_ones_0 3 rfl rfl)
theorem dX6_ones_4 : decode cX6_ones 4 = .ok (.iload_n 2, 1) := dk_28 (dk_at dksX6_ones_0 4 rfl rfl)
theorem dX6_ones_5 : decode cX6_ones 5 = .ok (.ifCond .eq 15, 3) := dk_153 0 15 (dk_at dksX6_ones_0 5 rfl rfl)
theorem dX6_ones_8 : decode cX6_ones 8 = .ok (.iinc 1 1, 3) := dk_132 1 1 (dk_at dksX6_ones_0 8 rfl rfl)
theorem dX6_ones_11 : decode cX6_ones 11 = .ok (.iload_n 2, 1) := dk_28 (dk_at dksX6_ones_0 11 rfl rfl)
theorem dX6_ones_12 : decode cX6_ones 12 = .ok (.iload_n 2, 1) := dk_28 (dk_at dksX6_ones_0 12 rfl rfl)
theorem dX6_ones_13 : decode cX6_ones 13 = .ok (.iconst 1, 1) := dk_4 (dk_at dksX6_ones_0 13 rfl rfl)
theorem dX6_ones_14 : decode cX6_ones 14 = .ok (.isub, 1) := dk_100 (dk_at dksX6_ones_0 14 rfl rfl)
theorem dX6_ones_15 : decode cX6_ones 15 = .ok (.iand, 1) := dk_126 (dk_at dksX6_ones_0 15 rfl rfl)
theorem dX6_ones_16 : decode cX6_ones 16 = .ok (.istore_n 2, 1) := dk_61 (dk_at dksX6_ones_0 16 rfl rfl)
theorem dX6_ones_17 : decode cX6_ones 17 = .ok (.goto (-13), 3) := dk_167 255 243 (dk_at dksX6_ones_0 17 rfl rfl)
theorem dX6_ones_20 : decode cX6_ones 20 = .ok (.iload_n 1, 1) := dk_27 (dk_at dksX6_ones_0 20 rfl rfl)
theorem dX6_ones_21 : decode cX6_ones 21 = .ok (.ireturn, 1) := dk_172 (dk_at dksX6_ones_0 21 rfl rfl)
abbrev cX6_soonest : ByteArray := prog_30_method_67_code
def yX6_soonest : MethodName := ⟨RX6, "soonest", "(III)I"⟩
def dkwX6_soonest_0 : List UInt8 := [42, 27, 28, 29, 4, 182, 0, 250, 172]
abbrev dktX6_soonest_0 : List UInt8 := dkwX6_soonest_0 ++ []
theorem dksX6_soonest_0 : cX6_soonest.data.toList.drop 0 = dktX6_soonest_0 := by decide +kernel
theorem dX6_soonest_0 : decode cX6_soonest 0 = .ok (.aload_n 0, 1) := dk_42 (dk_at dksX6_soonest_0 0 rfl rfl)
theorem dX6_soonest_1 : decode cX6_soonest 1 = .ok (.iload_n 1, 1) := dk_27 (dk_at dksX6_soonest_0 1 rfl rfl)
theorem dX6_soonest_2 : decode cX6_soonest 2 = .ok (.iload_n 2, 1) := dk_28 (dk_at dksX6_soonest_0 2 rfl rfl)
theorem dX6_soonest_3 : decode cX6_soonest 3 = .ok (.iload_n 3, 1) := dk_29 (dk_at dksX6_soonest_0 3 rfl rfl)
theorem dX6_soonest_4 : decode cX6_soonest 4 = .ok (.iconst 1, 1) := dk_4 (dk_at dksX6_soonest_0 4 rfl rfl)
theorem dX6_soonest_5 : decode cX6_soonest 5 = .ok (.invokevirtual 250, 3) := dk_182 0 250 (dk_at dksX6_soonest_0 5 rfl rfl)
theorem dX6_soonest_8 : decode cX6_soonest 8 = .ok (.ireturn, 1) := dk_172 (dk_at dksX6_soonest_0 8 rfl rfl)
abbrev cX6_way : ByteArray := prog_30_method_66_code
def yX6_way : MethodName := ⟨RX6, "way", "(IIIZ)I"⟩
def dkwX6_way_4 : List UInt8 := [167, 0, 7, 21, 6, 4, 96, 172]
abbrev dktX6_way_4 : List UInt8 := dkwX6_way_4 ++ []
def dkwX6_way_3 : List UInt8 := [42, 27, 28, 29, 182, 0, 232, 154, 0, 10, 42, 18, 249, 182, 0, 68, 172, 21, 4, 153, 0, 8, 21, 6]
abbrev dktX6_way_3 : List UInt8 := dkwX6_way_3 ++ dktX6_way_4
def dkwX6_way_2 : List UInt8 := [3, 172, 42, 27, 29, 21, 4, 182, 0, 242, 42, 28, 182, 0, 246, 54, 6, 21, 6, 18, 227, 159, 0, 13]
abbrev dktX6_way_2 : List UInt8 := dkwX6_way_2 ++ dktX6_way_3
def dkwX6_way_1 : List UInt8 := [54, 5, 21, 5, 153, 0, 10, 42, 21, 5, 182, 0, 68, 172, 42, 27, 6, 182, 0, 79, 28, 160, 0, 5]
abbrev dktX6_way_1 : List UInt8 := dkwX6_way_1 ++ dktX6_way_2
def dkwX6_way_0 : List UInt8 := [42, 27, 28, 184, 0, 58, 153, 0, 14, 29, 184, 0, 235, 153, 0, 7, 4, 167, 0, 4, 3, 182, 0, 238]
abbrev dktX6_way_0 : List UInt8 := dkwX6_way_0 ++ dktX6_way_1
theorem dksX6_way_0 : cX6_way.data.toList.drop 0 = dktX6_way_0 := by decide +kernel
theorem dksX6_way_1 : cX6_way.data.toList.drop 24 = dktX6_way_1 := dk_seg dksX6_way_0 24 rfl rfl
theorem dksX6_way_2 : cX6_way.data.toList.drop 48 = dktX6_way_2 := dk_seg dksX6_way_1 24 rfl rfl
theorem dksX6_way_3 : cX6_way.data.toList.drop 72 = dktX6_way_3 := dk_seg dksX6_way_2 24 rfl rfl
theorem dksX6_way_4 : cX6_way.data.toList.drop 96 = dktX6_way_4 := dk_seg dksX6_way_3 24 rfl rfl
theorem dX6_way_0 : decode cX6_way 0 = .ok (.aload_n 0, 1) := dk_42 (dk_at dksX6_way_0 0 rfl rfl)
theorem dX6_way_1 : decode cX6_way 1 = .ok (.iload_n 1, 1) := dk_27 (dk_at dksX6_way_0 1 rfl rfl)
theorem dX6_way_2 : decode cX6_way 2 = .ok (.iload_n 2, 1) := dk_28 (dk_at dksX6_way_0 2 rfl rfl)
theorem dX6_way_3 : decode cX6_way 3 = .ok (.invokestatic 58, 3) := dk_184 0 58 (dk_at dksX6_way_0 3 rfl rfl)
theorem dX6_way_6 : decode cX6_way 6 = .ok (.ifCond .eq 14, 3) := dk_153 0 14 (dk_at dksX6_way_0 6 rfl rfl)
theorem dX6_way_9 : decode cX6_way 9 = .ok (.iload_n 3, 1) := dk_29 (dk_at dksX6_way_0 9 rfl rfl)
theorem dX6_way_10 : decode cX6_way 10 = .ok (.invokestatic 235, 3) := dk_184 0 235 (dk_at dksX6_way_0 10 rfl rfl)
theorem dX6_way_13 : decode cX6_way 13 = .ok (.ifCond .eq 7, 3) := dk_153 0 7 (dk_at dksX6_way_0 13 rfl rfl)
theorem dX6_way_16 : decode cX6_way 16 = .ok (.iconst 1, 1) := dk_4 (dk_at dksX6_way_0 16 rfl rfl)
theorem dX6_way_17 : decode cX6_way 17 = .ok (.goto 4, 3) := dk_167 0 4 (dk_at dksX6_way_0 17 rfl rfl)
theorem dX6_way_20 : decode cX6_way 20 = .ok (.iconst 0, 1) := dk_3 (dk_at dksX6_way_0 20 rfl rfl)
theorem dX6_way_21 : decode cX6_way 21 = .ok (.invokevirtual 238, 3) := dk_182 0 238 (dk_at dksX6_way_0 21 rfl rfl)
theorem dX6_way_24 : decode cX6_way 24 = .ok (.istore 5, 2) := dk_54 5 (dk_at dksX6_way_1 0 rfl rfl)
theorem dX6_way_26 : decode cX6_way 26 = .ok (.iload 5, 2) := dk_21 5 (dk_at dksX6_way_1 2 rfl rfl)
theorem dX6_way_28 : decode cX6_way 28 = .ok (.ifCond .eq 10, 3) := dk_153 0 10 (dk_at dksX6_way_1 4 rfl rfl)
theorem dX6_way_31 : decode cX6_way 31 = .ok (.aload_n 0, 1) := dk_42 (dk_at dksX6_way_1 7 rfl rfl)
theorem dX6_way_32 : decode cX6_way 32 = .ok (.iload 5, 2) := dk_21 5 (dk_at dksX6_way_1 8 rfl rfl)
theorem dX6_way_34 : decode cX6_way 34 = .ok (.invokevirtual 68, 3) := dk_182 0 68 (dk_at dksX6_way_1 10 rfl rfl)
theorem dX6_way_37 : decode cX6_way 37 = .ok (.ireturn, 1) := dk_172 (dk_at dksX6_way_1 13 rfl rfl)
theorem dX6_way_38 : decode cX6_way 38 = .ok (.aload_n 0, 1) := dk_42 (dk_at dksX6_way_1 14 rfl rfl)
theorem dX6_way_39 : decode cX6_way 39 = .ok (.iload_n 1, 1) := dk_27 (dk_at dksX6_way_1 15 rfl rfl)
theorem dX6_way_40 : decode cX6_way 40 = .ok (.iconst 3, 1) := dk_6 (dk_at dksX6_way_1 16 rfl rfl)
theorem dX6_way_41 : decode cX6_way 41 = .ok (.invokevirtual 79, 3) := dk_182 0 79 (dk_at dksX6_way_1 17 rfl rfl)
theorem dX6_way_44 : decode cX6_way 44 = .ok (.iload_n 2, 1) := dk_28 (dk_at dksX6_way_1 20 rfl rfl)
theorem dX6_way_45 : decode cX6_way 45 = .ok (.if_icmp .ne 5, 3) := dk_160 0 5 (dk_at dksX6_way_1 21 rfl rfl)
theorem dX6_way_48 : decode cX6_way 48 = .ok (.iconst 0, 1) := dk_3 (dk_at dksX6_way_2 0 rfl rfl)
theorem dX6_way_49 : decode cX6_way 49 = .ok (.ireturn, 1) := dk_172 (dk_at dksX6_way_2 1 rfl rfl)
theorem dX6_way_50 : decode cX6_way 50 = .ok (.aload_n 0, 1) := dk_42 (dk_at dksX6_way_2 2 rfl rfl)
theorem dX6_way_51 : decode cX6_way 51 = .ok (.iload_n 1, 1) := dk_27 (dk_at dksX6_way_2 3 rfl rfl)
theorem dX6_way_52 : decode cX6_way 52 = .ok (.iload_n 3, 1) := dk_29 (dk_at dksX6_way_2 4 rfl rfl)
theorem dX6_way_53 : decode cX6_way 53 = .ok (.iload 4, 2) := dk_21 4 (dk_at dksX6_way_2 5 rfl rfl)
theorem dX6_way_55 : decode cX6_way 55 = .ok (.invokevirtual 242, 3) := dk_182 0 242 (dk_at dksX6_way_2 7 rfl rfl)
theorem dX6_way_58 : decode cX6_way 58 = .ok (.aload_n 0, 1) := dk_42 (dk_at dksX6_way_2 10 rfl rfl)
theorem dX6_way_59 : decode cX6_way 59 = .ok (.iload_n 2, 1) := dk_28 (dk_at dksX6_way_2 11 rfl rfl)
theorem dX6_way_60 : decode cX6_way 60 = .ok (.invokevirtual 246, 3) := dk_182 0 246 (dk_at dksX6_way_2 12 rfl rfl)
theorem dX6_way_63 : decode cX6_way 63 = .ok (.istore 6, 2) := dk_54 6 (dk_at dksX6_way_2 15 rfl rfl)
theorem dX6_way_65 : decode cX6_way 65 = .ok (.iload 6, 2) := dk_21 6 (dk_at dksX6_way_2 17 rfl rfl)
theorem dX6_way_67 : decode cX6_way 67 = .ok (.ldc 227, 2) := dk_18 227 (dk_at dksX6_way_2 19 rfl rfl)
theorem dX6_way_69 : decode cX6_way 69 = .ok (.if_icmp .eq 13, 3) := dk_159 0 13 (dk_at dksX6_way_2 21 rfl rfl)
theorem dX6_way_72 : decode cX6_way 72 = .ok (.aload_n 0, 1) := dk_42 (dk_at dksX6_way_3 0 rfl rfl)
theorem dX6_way_73 : decode cX6_way 73 = .ok (.iload_n 1, 1) := dk_27 (dk_at dksX6_way_3 1 rfl rfl)
theorem dX6_way_74 : decode cX6_way 74 = .ok (.iload_n 2, 1) := dk_28 (dk_at dksX6_way_3 2 rfl rfl)
theorem dX6_way_75 : decode cX6_way 75 = .ok (.iload_n 3, 1) := dk_29 (dk_at dksX6_way_3 3 rfl rfl)
theorem dX6_way_76 : decode cX6_way 76 = .ok (.invokevirtual 232, 3) := dk_182 0 232 (dk_at dksX6_way_3 4 rfl rfl)
theorem dX6_way_79 : decode cX6_way 79 = .ok (.ifCond .ne 10, 3) := dk_154 0 10 (dk_at dksX6_way_3 7 rfl rfl)
theorem dX6_way_82 : decode cX6_way 82 = .ok (.aload_n 0, 1) := dk_42 (dk_at dksX6_way_3 10 rfl rfl)
theorem dX6_way_83 : decode cX6_way 83 = .ok (.ldc 249, 2) := dk_18 249 (dk_at dksX6_way_3 11 rfl rfl)
theorem dX6_way_85 : decode cX6_way 85 = .ok (.invokevirtual 68, 3) := dk_182 0 68 (dk_at dksX6_way_3 13 rfl rfl)
theorem dX6_way_88 : decode cX6_way 88 = .ok (.ireturn, 1) := dk_172 (dk_at dksX6_way_3 16 rfl rfl)
theorem dX6_way_89 : decode cX6_way 89 = .ok (.iload 4, 2) := dk_21 4 (dk_at dksX6_way_3 17 rfl rfl)
theorem dX6_way_91 : decode cX6_way 91 = .ok (.ifCond .eq 8, 3) := dk_153 0 8 (dk_at dksX6_way_3 19 rfl rfl)
theorem dX6_way_94 : decode cX6_way 94 = .ok (.iload 6, 2) := dk_21 6 (dk_at dksX6_way_3 22 rfl rfl)
theorem dX6_way_96 : decode cX6_way 96 = .ok (.goto 7, 3) := dk_167 0 7 (dk_at dksX6_way_4 0 rfl rfl)
theorem dX6_way_99 : decode cX6_way 99 = .ok (.iload 6, 2) := dk_21 6 (dk_at dksX6_way_4 3 rfl rfl)
theorem dX6_way_101 : decode cX6_way 101 = .ok (.iconst 1, 1) := dk_4 (dk_at dksX6_way_4 5 rfl rfl)
theorem dX6_way_102 : decode cX6_way 102 = .ok (.iadd, 1) := dk_96 (dk_at dksX6_way_4 6 rfl rfl)
theorem dX6_way_103 : decode cX6_way 103 = .ok (.ireturn, 1) := dk_172 (dk_at dksX6_way_4 7 rfl rfl)
abbrev cX6_isSet : ByteArray := prog_30_method_9_code
def yX6_isSet : MethodName := ⟨RX6, "isSet", "(I)Z"⟩
def dkwX6_isSet_0 : List UInt8 := [26, 133, 9, 20, 0, 50, 184, 0, 46, 172]
abbrev dktX6_isSet_0 : List UInt8 := dkwX6_isSet_0 ++ []
theorem dksX6_isSet_0 : cX6_isSet.data.toList.drop 0 = dktX6_isSet_0 := by decide +kernel
theorem dX6_isSet_0 : decode cX6_isSet 0 = .ok (.iload_n 0, 1) := dk_26 (dk_at dksX6_isSet_0 0 rfl rfl)
theorem dX6_isSet_1 : decode cX6_isSet 1 = .ok (.i2l, 1) := dk_133 (dk_at dksX6_isSet_0 1 rfl rfl)
theorem dX6_isSet_2 : decode cX6_isSet 2 = .ok (.lconst 0, 1) := dk_9 (dk_at dksX6_isSet_0 2 rfl rfl)
theorem dX6_isSet_3 : decode cX6_isSet 3 = .ok (.ldc2_w 50, 3) := dk_20 0 50 (dk_at dksX6_isSet_0 3 rfl rfl)
theorem dX6_isSet_6 : decode cX6_isSet 6 = .ok (.invokestatic 46, 3) := dk_184 0 46 (dk_at dksX6_isSet_0 6 rfl rfl)
theorem dX6_isSet_9 : decode cX6_isSet 9 = .ok (.ireturn, 1) := dk_172 (dk_at dksX6_isSet_0 9 rfl rfl)
abbrev cX6_wrongWay : ByteArray := prog_30_method_65_code
def yX6_wrongWay : MethodName := ⟨RX6, "wrongWay", "(IZ)I"⟩
def dkwX6_wrongWay_1 : List UInt8 := [160, 0, 8, 18, 199, 167, 0, 4, 3, 172]
abbrev dktX6_wrongWay_1 : List UInt8 := dkwX6_wrongWay_1 ++ []
def dkwX6_wrongWay_0 : List UInt8 := [42, 27, 182, 0, 103, 153, 0, 7, 28, 154, 0, 8, 18, 67, 167, 0, 19, 42, 27, 8, 182, 0, 79, 4]
abbrev dktX6_wrongWay_0 : List UInt8 := dkwX6_wrongWay_0 ++ dktX6_wrongWay_1
theorem dksX6_wrongWay_0 : cX6_wrongWay.data.toList.drop 0 = dktX6_wrongWay_0 := by decide +kernel
theorem dksX6_wrongWay_1 : cX6_wrongWay.data.toList.drop 24 = dktX6_wrongWay_1 := dk_seg dksX6_wrongWay_0 24 rfl rfl
theorem dX6_wrongWay_0 : decode cX6_wrongWay 0 = .ok (.aload_n 0, 1) := dk_42 (dk_at dksX6_wrongWay_0 0 rfl rfl)
theorem dX6_wrongWay_1 : decode cX6_wrongWay 1 = .ok (.iload_n 1, 1) := dk_27 (dk_at dksX6_wrongWay_0 1 rfl rfl)
theorem dX6_wrongWay_2 : decode cX6_wrongWay 2 = .ok (.invokevirtual 103, 3) := dk_182 0 103 (dk_at dksX6_wrongWay_0 2 rfl rfl)
theorem dX6_wrongWay_5 : decode cX6_wrongWay 5 = .ok (.ifCond .eq 7, 3) := dk_153 0 7 (dk_at dksX6_wrongWay_0 5 rfl rfl)
theorem dX6_wrongWay_8 : decode cX6_wrongWay 8 = .ok (.iload_n 2, 1) := dk_28 (dk_at dksX6_wrongWay_0 8 rfl rfl)
theorem dX6_wrongWay_9 : decode cX6_wrongWay 9 = .ok (.ifCond .ne 8, 3) := dk_154 0 8 (dk_at dksX6_wrongWay_0 9 rfl rfl)
theorem dX6_wrongWay_12 : decode cX6_wrongWay 12 = .ok (.ldc 67, 2) := dk_18 67 (dk_at dksX6_wrongWay_0 12 rfl rfl)
theorem dX6_wrongWay_14 : decode cX6_wrongWay 14 = .ok (.goto 19, 3) := dk_167 0 19 (dk_at dksX6_wrongWay_0 14 rfl rfl)
theorem dX6_wrongWay_17 : decode cX6_wrongWay 17 = .ok (.aload_n 0, 1) := dk_42 (dk_at dksX6_wrongWay_0 17 rfl rfl)
theorem dX6_wrongWay_18 : decode cX6_wrongWay 18 = .ok (.iload_n 1, 1) := dk_27 (dk_at dksX6_wrongWay_0 18 rfl rfl)
theorem dX6_wrongWay_19 : decode cX6_wrongWay 19 = .ok (.iconst 5, 1) := dk_8 (dk_at dksX6_wrongWay_0 19 rfl rfl)
theorem dX6_wrongWay_20 : decode cX6_wrongWay 20 = .ok (.invokevirtual 79, 3) := dk_182 0 79 (dk_at dksX6_wrongWay_0 20 rfl rfl)
theorem dX6_wrongWay_23 : decode cX6_wrongWay 23 = .ok (.iconst 1, 1) := dk_4 (dk_at dksX6_wrongWay_0 23 rfl rfl)
theorem dX6_wrongWay_24 : decode cX6_wrongWay 24 = .ok (.if_icmp .ne 8, 3) := dk_160 0 8 (dk_at dksX6_wrongWay_1 0 rfl rfl)
theorem dX6_wrongWay_27 : decode cX6_wrongWay 27 = .ok (.ldc 199, 2) := dk_18 199 (dk_at dksX6_wrongWay_1 3 rfl rfl)
theorem dX6_wrongWay_29 : decode cX6_wrongWay 29 = .ok (.goto 4, 3) := dk_167 0 4 (dk_at dksX6_wrongWay_1 5 rfl rfl)
theorem dX6_wrongWay_32 : decode cX6_wrongWay 32 = .ok (.iconst 0, 1) := dk_3 (dk_at dksX6_wrongWay_1 8 rfl rfl)
theorem dX6_wrongWay_33 : decode cX6_wrongWay 33 = .ok (.ireturn, 1) := dk_172 (dk_at dksX6_wrongWay_1 9 rfl rfl)
abbrev cX6_spreads : ByteArray := prog_30_method_63_code
def yX6_spreads : MethodName := ⟨RX6, "spreads", "(IIZ)V"⟩
def dkwX6_spreads_12 : List UInt8 := [132, 6, 1, 167, 255, 94, 167, 255, 80, 177]
abbrev dktX6_spreads_12 : List UInt8 := dkwX6_spreads_12 ++ []
def dkwX6_spreads_11 : List UInt8 := [21, 9, 96, 46, 96, 167, 0, 5, 21, 7, 182, 0, 228, 128, 54, 5, 132, 9, 1, 167, 255, 170]
abbrev dktX6_spreads_11 : List UInt8 := dkwX6_spreads_11 ++ dktX6_spreads_12
def dkwX6_spreads_10 : List UInt8 := [42, 21, 9, 21, 10, 29, 153, 0, 25, 21, 7, 42, 180, 0, 7, 16, 8, 16, 8, 21, 8, 104, 96]
abbrev dktX6_spreads_10 : List UInt8 := dkwX6_spreads_10 ++ dktX6_spreads_11
def dkwX6_spreads_9 : List UInt8 := [180, 0, 25, 16, 8, 21, 8, 104, 21, 9, 96, 46, 96, 54, 10, 21, 10, 21, 4, 163, 0, 44, 21, 5]
abbrev dktX6_spreads_9 : List UInt8 := dkwX6_spreads_9 ++ dktX6_spreads_10
def dkwX6_spreads_8 : List UInt8 := [54, 9, 21, 9, 16, 8, 162, 0, 85, 21, 7, 18, 227, 162, 0, 78, 21, 6, 16, 37, 112, 42]
abbrev dktX6_spreads_8 : List UInt8 := dkwX6_spreads_8 ++ dktX6_spreads_9
def dkwX6_spreads_7 : List UInt8 := [21, 8, 3, 29, 153, 0, 8, 21, 7, 167, 0, 7, 21, 7, 4, 96, 182, 0, 228, 128, 54, 5, 3]
abbrev dktX6_spreads_7 : List UInt8 := dkwX6_spreads_7 ++ dktX6_spreads_8
def dkwX6_spreads_6 : List UInt8 := [54, 8, 21, 7, 18, 227, 162, 0, 39, 42, 27, 21, 8, 28, 182, 0, 232, 153, 0, 28, 21, 5, 42]
abbrev dktX6_spreads_6 : List UInt8 := dkwX6_spreads_6 ++ dktX6_spreads_7
def dkwX6_spreads_5 : List UInt8 := [54, 6, 21, 6, 17, 1, 40, 162, 0, 160, 42, 180, 0, 22, 21, 6, 46, 54, 7, 21, 6, 16, 37, 108]
abbrev dktX6_spreads_5 : List UInt8 := dkwX6_spreads_5 ++ dktX6_spreads_6
def dkwX6_spreads_4 : List UInt8 := [182, 0, 79, 42, 27, 7, 182, 0, 79, 3, 182, 0, 228, 54, 5, 21, 5, 153, 0, 177, 3, 54, 5, 3]
abbrev dktX6_spreads_4 : List UInt8 := dkwX6_spreads_4 ++ dktX6_spreads_5
def dkwX6_spreads_3 : List UInt8 := [167, 0, 5, 18, 227, 79, 132, 4, 1, 167, 255, 206, 42, 27, 182, 0, 108, 54, 4, 42, 42, 27, 5]
abbrev dktX6_spreads_3 : List UInt8 := dkwX6_spreads_3 ++ dktX6_spreads_4
def dkwX6_spreads_2 : List UInt8 := [16, 8, 21, 4, 96, 46, 158, 0, 21, 42, 27, 42, 180, 0, 7, 16, 8, 21, 4, 96, 46, 182, 0, 204]
abbrev dktX6_spreads_2 : List UInt8 := dkwX6_spreads_2 ++ dktX6_spreads_3
def dkwX6_spreads_1 : List UInt8 := [167, 255, 236, 3, 54, 4, 21, 4, 16, 64, 162, 0, 49, 42, 180, 0, 25, 21, 4, 42, 180, 0, 7]
abbrev dktX6_spreads_1 : List UInt8 := dkwX6_spreads_1 ++ dktX6_spreads_2
def dkwX6_spreads_0 : List UInt8 := [3, 54, 4, 21, 4, 17, 1, 40, 162, 0, 18, 42, 180, 0, 22, 21, 4, 18, 227, 79, 132, 4, 1]
abbrev dktX6_spreads_0 : List UInt8 := dkwX6_spreads_0 ++ dktX6_spreads_1
theorem dksX6_spreads_0 : cX6_spreads.data.toList.drop 0 = dktX6_spreads_0 := by decide +kernel
theorem dksX6_spreads_1 : cX6_spreads.data.toList.drop 23 = dktX6_spreads_1 := dk_seg dksX6_spreads_0 23 rfl rfl
theorem dksX6_spreads_2 : cX6_spreads.data.toList.drop 46 = dktX6_spreads_2 := dk_seg dksX6_spreads_1 23 rfl rfl
theorem dksX6_spreads_3 : cX6_spreads.data.toList.drop 70 = dktX6_spreads_3 := dk_seg dksX6_spreads_2 24 rfl rfl
theorem dksX6_spreads_4 : cX6_spreads.data.toList.drop 93 = dktX6_spreads_4 := dk_seg dksX6_spreads_3 23 rfl rfl
theorem dksX6_spreads_5 : cX6_spreads.data.toList.drop 117 = dktX6_spreads_5 := dk_seg dksX6_spreads_4 24 rfl rfl
theorem dksX6_spreads_6 : cX6_spreads.data.toList.drop 141 = dktX6_spreads_6 := dk_seg dksX6_spreads_5 24 rfl rfl
theorem dksX6_spreads_7 : cX6_spreads.data.toList.drop 164 = dktX6_spreads_7 := dk_seg dksX6_spreads_6 23 rfl rfl
theorem dksX6_spreads_8 : cX6_spreads.data.toList.drop 187 = dktX6_spreads_8 := dk_seg dksX6_spreads_7 23 rfl rfl
theorem dksX6_spreads_9 : cX6_spreads.data.toList.drop 209 = dktX6_spreads_9 := dk_seg dksX6_spreads_8 22 rfl rfl
theorem dksX6_spreads_10 : cX6_spreads.data.toList.drop 233 = dktX6_spreads_10 := dk_seg dksX6_spreads_9 24 rfl rfl
theorem dksX6_spreads_11 : cX6_spreads.data.toList.drop 256 = dktX6_spreads_11 := dk_seg dksX6_spreads_10 23 rfl rfl
theorem dksX6_spreads_12 : cX6_spreads.data.toList.drop 278 = dktX6_spreads_12 := dk_seg dksX6_spreads_11 22 rfl rfl
theorem dX6_spreads_0 : decode cX6_spreads 0 = .ok (.iconst 0, 1) := dk_3 (dk_at dksX6_spreads_0 0 rfl rfl)
theorem dX6_spreads_1 : decode cX6_spreads 1 = .ok (.istore 4, 2) := dk_54 4 (dk_at dksX6_spreads_0 1 rfl rfl)
theorem dX6_spreads_3 : decode cX6_spreads 3 = .ok (.iload 4, 2) := dk_21 4 (dk_at dksX6_spreads_0 3 rfl rfl)
theorem dX6_spreads_5 : decode cX6_spreads 5 = .ok (.sipush 296, 3) := dk_17 1 40 (dk_at dksX6_spreads_0 5 rfl rfl)
theorem dX6_spreads_8 : decode cX6_spreads 8 = .ok (.if_icmp .ge 18, 3) := dk_162 0 18 (dk_at dksX6_spreads_0 8 rfl rfl)
theorem dX6_spreads_11 : decode cX6_spreads 11 = .ok (.aload_n 0, 1) := dk_42 (dk_at dksX6_spreads_0 11 rfl rfl)
theorem dX6_spreads_12 : decode cX6_spreads 12 = .ok (.getfield 22, 3) := dk_180 0 22 (dk_at dksX6_spreads_0 12 rfl rfl)
theorem dX6_spreads_15 : decode cX6_spreads 15 = .ok (.iload 4, 2) := dk_21 4 (dk_at dksX6_spreads_0 15 rfl rfl)
theorem dX6_spreads_17 : decode cX6_spreads 17 = .ok (.ldc 227, 2) := dk_18 227 (dk_at dksX6_spreads_0 17 rfl rfl)
theorem dX6_spreads_19 : decode cX6_spreads 19 = .ok (.iastore, 1) := dk_79 (dk_at dksX6_spreads_0 19 rfl rfl)
theorem dX6_spreads_20 : decode cX6_spreads 20 = .ok (.iinc 4 1, 3) := dk_132 4 1 (dk_at dksX6_spreads_0 20 rfl rfl)
theorem dX6_spreads_23 : decode cX6_spreads 23 = .ok (.goto (-20), 3) := dk_167 255 236 (dk_at dksX6_spreads_1 0 rfl rfl)
theorem dX6_spreads_26 : decode cX6_spreads 26 = .ok (.iconst 0, 1) := dk_3 (dk_at dksX6_spreads_1 3 rfl rfl)
theorem dX6_spreads_27 : decode cX6_spreads 27 = .ok (.istore 4, 2) := dk_54 4 (dk_at dksX6_spreads_1 4 rfl rfl)
theorem dX6_spreads_29 : decode cX6_spreads 29 = .ok (.iload 4, 2) := dk_21 4 (dk_at dksX6_spreads_1 6 rfl rfl)
theorem dX6_spreads_31 : decode cX6_spreads 31 = .ok (.bipush 64, 2) := dk_16 64 (dk_at dksX6_spreads_1 8 rfl rfl)
theorem dX6_spreads_33 : decode cX6_spreads 33 = .ok (.if_icmp .ge 49, 3) := dk_162 0 49 (dk_at dksX6_spreads_1 10 rfl rfl)
theorem dX6_spreads_36 : decode cX6_spreads 36 = .ok (.aload_n 0, 1) := dk_42 (dk_at dksX6_spreads_1 13 rfl rfl)
theorem dX6_spreads_37 : decode cX6_spreads 37 = .ok (.getfield 25, 3) := dk_180 0 25 (dk_at dksX6_spreads_1 14 rfl rfl)
theorem dX6_spreads_40 : decode cX6_spreads 40 = .ok (.iload 4, 2) := dk_21 4 (dk_at dksX6_spreads_1 17 rfl rfl)
theorem dX6_spreads_42 : decode cX6_spreads 42 = .ok (.aload_n 0, 1) := dk_42 (dk_at dksX6_spreads_1 19 rfl rfl)
theorem dX6_spreads_43 : decode cX6_spreads 43 = .ok (.getfield 7, 3) := dk_180 0 7 (dk_at dksX6_spreads_1 20 rfl rfl)
theorem dX6_spreads_46 : decode cX6_spreads 46 = .ok (.bipush 8, 2) := dk_16 8 (dk_at dksX6_spreads_2 0 rfl rfl)
theorem dX6_spreads_48 : decode cX6_spreads 48 = .ok (.iload 4, 2) := dk_21 4 (dk_at dksX6_spreads_2 2 rfl rfl)
theorem dX6_spreads_50 : decode cX6_spreads 50 = .ok (.iadd, 1) := dk_96 (dk_at dksX6_spreads_2 4 rfl rfl)
theorem dX6_spreads_51 : decode cX6_spreads 51 = .ok (.iaload, 1) := dk_46 (dk_at dksX6_spreads_2 5 rfl rfl)
theorem dX6_spreads_52 : decode cX6_spreads 52 = .ok (.ifCond .le 21, 3) := dk_158 0 21 (dk_at dksX6_spreads_2 6 rfl rfl)
theorem dX6_spreads_55 : decode cX6_spreads 55 = .ok (.aload_n 0, 1) := dk_42 (dk_at dksX6_spreads_2 9 rfl rfl)
theorem dX6_spreads_56 : decode cX6_spreads 56 = .ok (.iload_n 1, 1) := dk_27 (dk_at dksX6_spreads_2 10 rfl rfl)
theorem dX6_spreads_57 : decode cX6_spreads 57 = .ok (.aload_n 0, 1) := dk_42 (dk_at dksX6_spreads_2 11 rfl rfl)
theorem dX6_spreads_58 : decode cX6_spreads 58 = .ok (.getfield 7, 3) := dk_180 0 7 (dk_at dksX6_spreads_2 12 rfl rfl)
theorem dX6_spreads_61 : decode cX6_spreads 61 = .ok (.bipush 8, 2) := dk_16 8 (dk_at dksX6_spreads_2 15 rfl rfl)
theorem dX6_spreads_63 : decode cX6_spreads 63 = .ok (.iload 4, 2) := dk_21 4 (dk_at dksX6_spreads_2 17 rfl rfl)
theorem dX6_spreads_65 : decode cX6_spreads 65 = .ok (.iadd, 1) := dk_96 (dk_at dksX6_spreads_2 19 rfl rfl)
theorem dX6_spreads_66 : decode cX6_spreads 66 = .ok (.iaload, 1) := dk_46 (dk_at dksX6_spreads_2 20 rfl rfl)
theorem dX6_spreads_67 : decode cX6_spreads 67 = .ok (.invokevirtual 204, 3) := dk_182 0 204 (dk_at dksX6_spreads_2 21 rfl rfl)
theorem dX6_spreads_70 : decode cX6_spreads 70 = .ok (.goto 5, 3) := dk_167 0 5 (dk_at dksX6_spreads_3 0 rfl rfl)
theorem dX6_spreads_73 : decode cX6_spreads 73 = .ok (.ldc 227, 2) := dk_18 227 (dk_at dksX6_spreads_3 3 rfl rfl)
theorem dX6_spreads_75 : decode cX6_spreads 75 = .ok (.iastore, 1) := dk_79 (dk_at dksX6_spreads_3 5 rfl rfl)
theorem dX6_spreads_76 : decode cX6_spreads 76 = .ok (.iinc 4 1, 3) := dk_132 4 1 (dk_at dksX6_spreads_3 6 rfl rfl)
theorem dX6_spreads_79 : decode cX6_spreads 79 = .ok (.goto (-50), 3) := dk_167 255 206 (dk_at dksX6_spreads_3 9 rfl rfl)
theorem dX6_spreads_82 : decode cX6_spreads 82 = .ok (.aload_n 0, 1) := dk_42 (dk_at dksX6_spreads_3 12 rfl rfl)
theorem dX6_spreads_83 : decode cX6_spreads 83 = .ok (.iload_n 1, 1) := dk_27 (dk_at dksX6_spreads_3 13 rfl rfl)
theorem dX6_spreads_84 : decode cX6_spreads 84 = .ok (.invokevirtual 108, 3) := dk_182 0 108 (dk_at dksX6_spreads_3 14 rfl rfl)
theorem dX6_spreads_87 : decode cX6_spreads 87 = .ok (.istore 4, 2) := dk_54 4 (dk_at dksX6_spreads_3 17 rfl rfl)
theorem dX6_spreads_89 : decode cX6_spreads 89 = .ok (.aload_n 0, 1) := dk_42 (dk_at dksX6_spreads_3 19 rfl rfl)
theorem dX6_spreads_90 : decode cX6_spreads 90 = .ok (.aload_n 0, 1) := dk_42 (dk_at dksX6_spreads_3 20 rfl rfl)
theorem dX6_spreads_91 : decode cX6_spreads 91 = .ok (.iload_n 1, 1) := dk_27 (dk_at dksX6_spreads_3 21 rfl rfl)
theorem dX6_spreads_92 : decode cX6_spreads 92 = .ok (.iconst 2, 1) := dk_5 (dk_at dksX6_spreads_3 22 rfl rfl)
theorem dX6_spreads_93 : decode cX6_spreads 93 = .ok (.invokevirtual 79, 3) := dk_182 0 79 (dk_at dksX6_spreads_4 0 rfl rfl)
theorem dX6_spreads_96 : decode cX6_spreads 96 = .ok (.aload_n 0, 1) := dk_42 (dk_at dksX6_spreads_4 3 rfl rfl)
theorem dX6_spreads_97 : decode cX6_spreads 97 = .ok (.iload_n 1, 1) := dk_27 (dk_at dksX6_spreads_4 4 rfl rfl)
theorem dX6_spreads_98 : decode cX6_spreads 98 = .ok (.iconst 4, 1) := dk_7 (dk_at dksX6_spreads_4 5 rfl rfl)
theorem dX6_spreads_99 : decode cX6_spreads 99 = .ok (.invokevirtual 79, 3) := dk_182 0 79 (dk_at dksX6_spreads_4 6 rfl rfl)
theorem dX6_spreads_102 : decode cX6_spreads 102 = .ok (.iconst 0, 1) := dk_3 (dk_at dksX6_spreads_4 9 rfl rfl)
theorem dX6_spreads_103 : decode cX6_spreads 103 = .ok (.invokevirtual 228, 3) := dk_182 0 228 (dk_at dksX6_spreads_4 10 rfl rfl)
theorem dX6_spreads_106 : decode cX6_spreads 106 = .ok (.istore 5, 2) := dk_54 5 (dk_at dksX6_spreads_4 13 rfl rfl)
theorem dX6_spreads_108 : decode cX6_spreads 108 = .ok (.iload 5, 2) := dk_21 5 (dk_at dksX6_spreads_4 15 rfl rfl)
theorem dX6_spreads_110 : decode cX6_spreads 110 = .ok (.ifCond .eq 177, 3) := dk_153 0 177 (dk_at dksX6_spreads_4 17 rfl rfl)
theorem dX6_spreads_113 : decode cX6_spreads 113 = .ok (.iconst 0, 1) := dk_3 (dk_at dksX6_spreads_4 20 rfl rfl)
theorem dX6_spreads_114 : decode cX6_spreads 114 = .ok (.istore 5, 2) := dk_54 5 (dk_at dksX6_spreads_4 21 rfl rfl)
theorem dX6_spreads_116 : decode cX6_spreads 116 = .ok (.iconst 0, 1) := dk_3 (dk_at dksX6_spreads_4 23 rfl rfl)
theorem dX6_spreads_117 : decode cX6_spreads 117 = .ok (.istore 6, 2) := dk_54 6 (dk_at dksX6_spreads_5 0 rfl rfl)
theorem dX6_spreads_119 : decode cX6_spreads 119 = .ok (.iload 6, 2) := dk_21 6 (dk_at dksX6_spreads_5 2 rfl rfl)
theorem dX6_spreads_121 : decode cX6_spreads 121 = .ok (.sipush 296, 3) := dk_17 1 40 (dk_at dksX6_spreads_5 4 rfl rfl)
theorem dX6_spreads_124 : decode cX6_spreads 124 = .ok (.if_icmp .ge 160, 3) := dk_162 0 160 (dk_at dksX6_spreads_5 7 rfl rfl)
theorem dX6_spreads_127 : decode cX6_spreads 127 = .ok (.aload_n 0, 1) := dk_42 (dk_at dksX6_spreads_5 10 rfl rfl)
theorem dX6_spreads_128 : decode cX6_spreads 128 = .ok (.getfield 22, 3) := dk_180 0 22 (dk_at dksX6_spreads_5 11 rfl rfl)
theorem dX6_spreads_131 : decode cX6_spreads 131 = .ok (.iload 6, 2) := dk_21 6 (dk_at dksX6_spreads_5 14 rfl rfl)
theorem dX6_spreads_133 : decode cX6_spreads 133 = .ok (.iaload, 1) := dk_46 (dk_at dksX6_spreads_5 16 rfl rfl)
theorem dX6_spreads_134 : decode cX6_spreads 134 = .ok (.istore 7, 2) := dk_54 7 (dk_at dksX6_spreads_5 17 rfl rfl)
theorem dX6_spreads_136 : decode cX6_spreads 136 = .ok (.iload 6, 2) := dk_21 6 (dk_at dksX6_spreads_5 19 rfl rfl)
theorem dX6_spreads_138 : decode cX6_spreads 138 = .ok (.bipush 37, 2) := dk_16 37 (dk_at dksX6_spreads_5 21 rfl rfl)
theorem dX6_spreads_140 : decode cX6_spreads 140 = .ok (.idiv, 1) := dk_108 (dk_at dksX6_spreads_5 23 rfl rfl)
theorem dX6_spreads_141 : decode cX6_spreads 141 = .ok (.istore 8, 2) := dk_54 8 (dk_at dksX6_spreads_6 0 rfl rfl)
theorem dX6_spreads_143 : decode cX6_spreads 143 = .ok (.iload 7, 2) := dk_21 7 (dk_at dksX6_spreads_6 2 rfl rfl)
theorem dX6_spreads_145 : decode cX6_spreads 145 = .ok (.ldc 227, 2) := dk_18 227 (dk_at dksX6_spreads_6 4 rfl rfl)
theorem dX6_spreads_147 : decode cX6_spreads 147 = .ok (.if_icmp .ge 39, 3) := dk_162 0 39 (dk_at dksX6_spreads_6 6 rfl rfl)
theorem dX6_spreads_150 : decode cX6_spreads 150 = .ok (.aload_n 0, 1) := dk_42 (dk_at dksX6_spreads_6 9 rfl rfl)
theorem dX6_spreads_151 : decode cX6_spreads 151 = .ok (.iload_n 1, 1) := dk_27 (dk_at dksX6_spreads_6 10 rfl rfl)
theorem dX6_spreads_152 : decode cX6_spreads 152 = .ok (.iload 8, 2) := dk_21 8 (dk_at dksX6_spreads_6 11 rfl rfl)
theorem dX6_spreads_154 : decode cX6_spreads 154 = .ok (.iload_n 2, 1) := dk_28 (dk_at dksX6_spreads_6 13 rfl rfl)
theorem dX6_spreads_155 : decode cX6_spreads 155 = .ok (.invokevirtual 232, 3) := dk_182 0 232 (dk_at dksX6_spreads_6 14 rfl rfl)
theorem dX6_spreads_158 : decode cX6_spreads 158 = .ok (.ifCond .eq 28, 3) := dk_153 0 28 (dk_at dksX6_spreads_6 17 rfl rfl)
theorem dX6_spreads_161 : decode cX6_spreads 161 = .ok (.iload 5, 2) := dk_21 5 (dk_at dksX6_spreads_6 20 rfl rfl)
theorem dX6_spreads_163 : decode cX6_spreads 163 = .ok (.aload_n 0, 1) := dk_42 (dk_at dksX6_spreads_6 22 rfl rfl)
theorem dX6_spreads_164 : decode cX6_spreads 164 = .ok (.iload 8, 2) := dk_21 8 (dk_at dksX6_spreads_7 0 rfl rfl)
theorem dX6_spreads_166 : decode cX6_spreads 166 = .ok (.iconst 0, 1) := dk_3 (dk_at dksX6_spreads_7 2 rfl rfl)
theorem dX6_spreads_167 : decode cX6_spreads 167 = .ok (.iload_n 3, 1) := dk_29 (dk_at dksX6_spreads_7 3 rfl rfl)
theorem dX6_spreads_168 : decode cX6_spreads 168 = .ok (.ifCond .eq 8, 3) := dk_153 0 8 (dk_at dksX6_spreads_7 4 rfl rfl)
theorem dX6_spreads_171 : decode cX6_spreads 171 = .ok (.iload 7, 2) := dk_21 7 (dk_at dksX6_spreads_7 7 rfl rfl)
theorem dX6_spreads_173 : decode cX6_spreads 173 = .ok (.goto 7, 3) := dk_167 0 7 (dk_at dksX6_spreads_7 9 rfl rfl)
theorem dX6_spreads_176 : decode cX6_spreads 176 = .ok (.iload 7, 2) := dk_21 7 (dk_at dksX6_spreads_7 12 rfl rfl)
theorem dX6_spreads_178 : decode cX6_spreads 178 = .ok (.iconst 1, 1) := dk_4 (dk_at dksX6_spreads_7 14 rfl rfl)
theorem dX6_spreads_179 : decode cX6_spreads 179 = .ok (.iadd, 1) := dk_96 (dk_at dksX6_spreads_7 15 rfl rfl)
theorem dX6_spreads_180 : decode cX6_spreads 180 = .ok (.invokevirtual 228, 3) := dk_182 0 228 (dk_at dksX6_spreads_7 16 rfl rfl)
theorem dX6_spreads_183 : decode cX6_spreads 183 = .ok (.ior, 1) := dk_128 (dk_at dksX6_spreads_7 19 rfl rfl)
theorem dX6_spreads_184 : decode cX6_spreads 184 = .ok (.istore 5, 2) := dk_54 5 (dk_at dksX6_spreads_7 20 rfl rfl)
theorem dX6_spreads_186 : decode cX6_spreads 186 = .ok (.iconst 0, 1) := dk_3 (dk_at dksX6_spreads_7 22 rfl rfl)
theorem dX6_spreads_187 : decode cX6_spreads 187 = .ok (.istore 9, 2) := dk_54 9 (dk_at dksX6_spreads_8 0 rfl rfl)
theorem dX6_spreads_189 : decode cX6_spreads 189 = .ok (.iload 9, 2) := dk_21 9 (dk_at dksX6_spreads_8 2 rfl rfl)
theorem dX6_spreads_191 : decode cX6_spreads 191 = .ok (.bipush 8, 2) := dk_16 8 (dk_at dksX6_spreads_8 4 rfl rfl)
theorem dX6_spreads_193 : decode cX6_spreads 193 = .ok (.if_icmp .ge 85, 3) := dk_162 0 85 (dk_at dksX6_spreads_8 6 rfl rfl)
theorem dX6_spreads_196 : decode cX6_spreads 196 = .ok (.iload 7, 2) := dk_21 7 (dk_at dksX6_spreads_8 9 rfl rfl)
theorem dX6_spreads_198 : decode cX6_spreads 198 = .ok (.ldc 227, 2) := dk_18 227 (dk_at dksX6_spreads_8 11 rfl rfl)
theorem dX6_spreads_200 : decode cX6_spreads 200 = .ok (.if_icmp .ge 78, 3) := dk_162 0 78 (dk_at dksX6_spreads_8 13 rfl rfl)
theorem dX6_spreads_203 : decode cX6_spreads 203 = .ok (.iload 6, 2) := dk_21 6 (dk_at dksX6_spreads_8 16 rfl rfl)
theorem dX6_spreads_205 : decode cX6_spreads 205 = .ok (.bipush 37, 2) := dk_16 37 (dk_at dksX6_spreads_8 18 rfl rfl)
theorem dX6_spreads_207 : decode cX6_spreads 207 = .ok (.irem, 1) := dk_112 (dk_at dksX6_spreads_8 20 rfl rfl)
theorem dX6_spreads_208 : decode cX6_spreads 208 = .ok (.aload_n 0, 1) := dk_42 (dk_at dksX6_spreads_8 21 rfl rfl)
theorem dX6_spreads_209 : decode cX6_spreads 209 = .ok (.getfield 25, 3) := dk_180 0 25 (dk_at dksX6_spreads_9 0 rfl rfl)
theorem dX6_spreads_212 : decode cX6_spreads 212 = .ok (.bipush 8, 2) := dk_16 8 (dk_at dksX6_spreads_9 3 rfl rfl)
theorem dX6_spreads_214 : decode cX6_spreads 214 = .ok (.iload 8, 2) := dk_21 8 (dk_at dksX6_spreads_9 5 rfl rfl)
theorem dX6_spreads_216 : decode cX6_spreads 216 = .ok (.imul, 1) := dk_104 (dk_at dksX6_spreads_9 7 rfl rfl)
theorem dX6_spreads_217 : decode cX6_spreads 217 = .ok (.iload 9, 2) := dk_21 9 (dk_at dksX6_spreads_9 8 rfl rfl)
theorem dX6_spreads_219 : decode cX6_spreads 219 = .ok (.iadd, 1) := dk_96 (dk_at dksX6_spreads_9 10 rfl rfl)
theorem dX6_spreads_220 : decode cX6_spreads 220 = .ok (.iaload, 1) := dk_46 (dk_at dksX6_spreads_9 11 rfl rfl)
theorem dX6_spreads_221 : decode cX6_spreads 221 = .ok (.iadd, 1) := dk_96 (dk_at dksX6_spreads_9 12 rfl rfl)
theorem dX6_spreads_222 : decode cX6_spreads 222 = .ok (.istore 10, 2) := dk_54 10 (dk_at dksX6_spreads_9 13 rfl rfl)
theorem dX6_spreads_224 : decode cX6_spreads 224 = .ok (.iload 10, 2) := dk_21 10 (dk_at dksX6_spreads_9 15 rfl rfl)
theorem dX6_spreads_226 : decode cX6_spreads 226 = .ok (.iload 4, 2) := dk_21 4 (dk_at dksX6_spreads_9 17 rfl rfl)
theorem dX6_spreads_228 : decode cX6_spreads 228 = .ok (.if_icmp .gt 44, 3) := dk_163 0 44 (dk_at dksX6_spreads_9 19 rfl rfl)
theorem dX6_spreads_231 : decode cX6_spreads 231 = .ok (.iload 5, 2) := dk_21 5 (dk_at dksX6_spreads_9 22 rfl rfl)
theorem dX6_spreads_233 : decode cX6_spreads 233 = .ok (.aload_n 0, 1) := dk_42 (dk_at dksX6_spreads_10 0 rfl rfl)
theorem dX6_spreads_234 : decode cX6_spreads 234 = .ok (.iload 9, 2) := dk_21 9 (dk_at dksX6_spreads_10 1 rfl rfl)
theorem dX6_spreads_236 : decode cX6_spreads 236 = .ok (.iload 10, 2) := dk_21 10 (dk_at dksX6_spreads_10 3 rfl rfl)
theorem dX6_spreads_238 : decode cX6_spreads 238 = .ok (.iload_n 3, 1) := dk_29 (dk_at dksX6_spreads_10 5 rfl rfl)
theorem dX6_spreads_239 : decode cX6_spreads 239 = .ok (.ifCond .eq 25, 3) := dk_153 0 25 (dk_at dksX6_spreads_10 6 rfl rfl)
theorem dX6_spreads_242 : decode cX6_spreads 242 = .ok (.iload 7, 2) := dk_21 7 (dk_at dksX6_spreads_10 9 rfl rfl)
theorem dX6_spreads_244 : decode cX6_spreads 244 = .ok (.aload_n 0, 1) := dk_42 (dk_at dksX6_spreads_10 11 rfl rfl)
theorem dX6_spreads_245 : decode cX6_spreads 245 = .ok (.getfield 7, 3) := dk_180 0 7 (dk_at dksX6_spreads_10 12 rfl rfl)
theorem dX6_spreads_248 : decode cX6_spreads 248 = .ok (.bipush 8, 2) := dk_16 8 (dk_at dksX6_spreads_10 15 rfl rfl)
theorem dX6_spreads_250 : decode cX6_spreads 250 = .ok (.bipush 8, 2) := dk_16 8 (dk_at dksX6_spreads_10 17 rfl rfl)
theorem dX6_spreads_252 : decode cX6_spreads 252 = .ok (.iload 8, 2) := dk_21 8 (dk_at dksX6_spreads_10 19 rfl rfl)
theorem dX6_spreads_254 : decode cX6_spreads 254 = .ok (.imul, 1) := dk_104 (dk_at dksX6_spreads_10 21 rfl rfl)
theorem dX6_spreads_255 : decode cX6_spreads 255 = .ok (.iadd, 1) := dk_96 (dk_at dksX6_spreads_10 22 rfl rfl)
theorem dX6_spreads_256 : decode cX6_spreads 256 = .ok (.iload 9, 2) := dk_21 9 (dk_at dksX6_spreads_11 0 rfl rfl)
theorem dX6_spreads_258 : decode cX6_spreads 258 = .ok (.iadd, 1) := dk_96 (dk_at dksX6_spreads_11 2 rfl rfl)
theorem dX6_spreads_259 : decode cX6_spreads 259 = .ok (.iaload, 1) := dk_46 (dk_at dksX6_spreads_11 3 rfl rfl)
theorem dX6_spreads_260 : decode cX6_spreads 260 = .ok (.iadd, 1) := dk_96 (dk_at dksX6_spreads_11 4 rfl rfl)
theorem dX6_spreads_261 : decode cX6_spreads 261 = .ok (.goto 5, 3) := dk_167 0 5 (dk_at dksX6_spreads_11 5 rfl rfl)
theorem dX6_spreads_264 : decode cX6_spreads 264 = .ok (.iload 7, 2) := dk_21 7 (dk_at dksX6_spreads_11 8 rfl rfl)
theorem dX6_spreads_266 : decode cX6_spreads 266 = .ok (.invokevirtual 228, 3) := dk_182 0 228 (dk_at dksX6_spreads_11 10 rfl rfl)
theorem dX6_spreads_269 : decode cX6_spreads 269 = .ok (.ior, 1) := dk_128 (dk_at dksX6_spreads_11 13 rfl rfl)
theorem dX6_spreads_270 : decode cX6_spreads 270 = .ok (.istore 5, 2) := dk_54 5 (dk_at dksX6_spreads_11 14 rfl rfl)
theorem dX6_spreads_272 : decode cX6_spreads 272 = .ok (.iinc 9 1, 3) := dk_132 9 1 (dk_at dksX6_spreads_11 16 rfl rfl)
theorem dX6_spreads_275 : decode cX6_spreads 275 = .ok (.goto (-86), 3) := dk_167 255 170 (dk_at dksX6_spreads_11 19 rfl rfl)
theorem dX6_spreads_278 : decode cX6_spreads 278 = .ok (.iinc 6 1, 3) := dk_132 6 1 (dk_at dksX6_spreads_12 0 rfl rfl)
theorem dX6_spreads_281 : decode cX6_spreads 281 = .ok (.goto (-162), 3) := dk_167 255 94 (dk_at dksX6_spreads_12 3 rfl rfl)
theorem dX6_spreads_284 : decode cX6_spreads 284 = .ok (.goto (-176), 3) := dk_167 255 80 (dk_at dksX6_spreads_12 6 rfl rfl)
theorem dX6_spreads_287 : decode cX6_spreads 287 = .ok (.return_, 1) := dk_177 (dk_at dksX6_spreads_12 9 rfl rfl)
abbrev cX6_lessens : ByteArray := prog_30_method_62_code
def yX6_lessens : MethodName := ⟨RX6, "lessens", "(III)Z"⟩
def dkwX6_lessens_2 : List UInt8 := [79, 21, 5, 172]
abbrev dktX6_lessens_2 : List UInt8 := dkwX6_lessens_2 ++ []
def dkwX6_lessens_1 : List UInt8 := [54, 5, 42, 180, 0, 22, 21, 4, 21, 5, 153, 0, 7, 29, 167, 0, 10, 42, 180, 0, 22, 21, 4, 46]
abbrev dktX6_lessens_1 : List UInt8 := dkwX6_lessens_1 ++ dktX6_lessens_2
def dkwX6_lessens_0 : List UInt8 := [16, 37, 27, 104, 28, 96, 54, 4, 29, 42, 180, 0, 22, 21, 4, 46, 162, 0, 7, 4, 167, 0, 4, 3]
abbrev dktX6_lessens_0 : List UInt8 := dkwX6_lessens_0 ++ dktX6_lessens_1
theorem dksX6_lessens_0 : cX6_lessens.data.toList.drop 0 = dktX6_lessens_0 := by decide +kernel
theorem dksX6_lessens_1 : cX6_lessens.data.toList.drop 24 = dktX6_lessens_1 := dk_seg dksX6_lessens_0 24 rfl rfl
theorem dksX6_lessens_2 : cX6_lessens.data.toList.drop 48 = dktX6_lessens_2 := dk_seg dksX6_lessens_1 24 rfl rfl
theorem dX6_lessens_0 : decode cX6_lessens 0 = .ok (.bipush 37, 2) := dk_16 37 (dk_at dksX6_lessens_0 0 rfl rfl)
theorem dX6_lessens_2 : decode cX6_lessens 2 = .ok (.iload_n 1, 1) := dk_27 (dk_at dksX6_lessens_0 2 rfl rfl)
theorem dX6_lessens_3 : decode cX6_lessens 3 = .ok (.imul, 1) := dk_104 (dk_at dksX6_lessens_0 3 rfl rfl)
theorem dX6_lessens_4 : decode cX6_lessens 4 = .ok (.iload_n 2, 1) := dk_28 (dk_at dksX6_lessens_0 4 rfl rfl)
theorem dX6_lessens_5 : decode cX6_lessens 5 = .ok (.iadd, 1) := dk_96 (dk_at dksX6_lessens_0 5 rfl rfl)
theorem dX6_lessens_6 : decode cX6_lessens 6 = .ok (.istore 4, 2) := dk_54 4 (dk_at dksX6_lessens_0 6 rfl rfl)
theorem dX6_lessens_8 : decode cX6_lessens 8 = .ok (.iload_n 3, 1) := dk_29 (dk_at dksX6_lessens_0 8 rfl rfl)
theorem dX6_lessens_9 : decode cX6_lessens 9 = .ok (.aload_n 0, 1) := dk_42 (dk_at dksX6_lessens_0 9 rfl rfl)
theorem dX6_lessens_10 : decode cX6_lessens 10 = .ok (.getfield 22, 3) := dk_180 0 22 (dk_at dksX6_lessens_0 10 rfl rfl)
theorem dX6_lessens_13 : decode cX6_lessens 13 = .ok (.iload 4, 2) := dk_21 4 (dk_at dksX6_lessens_0 13 rfl rfl)
theorem dX6_lessens_15 : decode cX6_lessens 15 = .ok (.iaload, 1) := dk_46 (dk_at dksX6_lessens_0 15 rfl rfl)
theorem dX6_lessens_16 : decode cX6_lessens 16 = .ok (.if_icmp .ge 7, 3) := dk_162 0 7 (dk_at dksX6_lessens_0 16 rfl rfl)
theorem dX6_lessens_19 : decode cX6_lessens 19 = .ok (.iconst 1, 1) := dk_4 (dk_at dksX6_lessens_0 19 rfl rfl)
theorem dX6_lessens_20 : decode cX6_lessens 20 = .ok (.goto 4, 3) := dk_167 0 4 (dk_at dksX6_lessens_0 20 rfl rfl)
theorem dX6_lessens_23 : decode cX6_lessens 23 = .ok (.iconst 0, 1) := dk_3 (dk_at dksX6_lessens_0 23 rfl rfl)
theorem dX6_lessens_24 : decode cX6_lessens 24 = .ok (.istore 5, 2) := dk_54 5 (dk_at dksX6_lessens_1 0 rfl rfl)
theorem dX6_lessens_26 : decode cX6_lessens 26 = .ok (.aload_n 0, 1) := dk_42 (dk_at dksX6_lessens_1 2 rfl rfl)
theorem dX6_lessens_27 : decode cX6_lessens 27 = .ok (.getfield 22, 3) := dk_180 0 22 (dk_at dksX6_lessens_1 3 rfl rfl)
theorem dX6_lessens_30 : decode cX6_lessens 30 = .ok (.iload 4, 2) := dk_21 4 (dk_at dksX6_lessens_1 6 rfl rfl)
theorem dX6_lessens_32 : decode cX6_lessens 32 = .ok (.iload 5, 2) := dk_21 5 (dk_at dksX6_lessens_1 8 rfl rfl)
theorem dX6_lessens_34 : decode cX6_lessens 34 = .ok (.ifCond .eq 7, 3) := dk_153 0 7 (dk_at dksX6_lessens_1 10 rfl rfl)
theorem dX6_lessens_37 : decode cX6_lessens 37 = .ok (.iload_n 3, 1) := dk_29 (dk_at dksX6_lessens_1 13 rfl rfl)
theorem dX6_lessens_38 : decode cX6_lessens 38 = .ok (.goto 10, 3) := dk_167 0 10 (dk_at dksX6_lessens_1 14 rfl rfl)
theorem dX6_lessens_41 : decode cX6_lessens 41 = .ok (.aload_n 0, 1) := dk_42 (dk_at dksX6_lessens_1 17 rfl rfl)
theorem dX6_lessens_42 : decode cX6_lessens 42 = .ok (.getfield 22, 3) := dk_180 0 22 (dk_at dksX6_lessens_1 18 rfl rfl)
theorem dX6_lessens_45 : decode cX6_lessens 45 = .ok (.iload 4, 2) := dk_21 4 (dk_at dksX6_lessens_1 21 rfl rfl)
theorem dX6_lessens_47 : decode cX6_lessens 47 = .ok (.iaload, 1) := dk_46 (dk_at dksX6_lessens_1 23 rfl rfl)
theorem dX6_lessens_48 : decode cX6_lessens 48 = .ok (.iastore, 1) := dk_79 (dk_at dksX6_lessens_2 0 rfl rfl)
theorem dX6_lessens_49 : decode cX6_lessens 49 = .ok (.iload 5, 2) := dk_21 5 (dk_at dksX6_lessens_2 1 rfl rfl)
theorem dX6_lessens_51 : decode cX6_lessens 51 = .ok (.ireturn, 1) := dk_172 (dk_at dksX6_lessens_2 3 rfl rfl)
abbrev cX6_mayDrink : ByteArray := prog_30_method_61_code
def yX6_mayDrink : MethodName := ⟨RX6, "mayDrink", "(III)Z"⟩
def dkwX6_mayDrink_1 : List UInt8 := [161, 0, 7, 4, 167, 0, 4, 3, 172]
abbrev dktX6_mayDrink_1 : List UInt8 := dkwX6_mayDrink_1 ++ []
def dkwX6_mayDrink_0 : List UInt8 := [29, 28, 122, 4, 126, 154, 0, 24, 42, 180, 0, 7, 3, 28, 96, 46, 42, 27, 3, 182, 0, 111]
abbrev dktX6_mayDrink_0 : List UInt8 := dkwX6_mayDrink_0 ++ dktX6_mayDrink_1
theorem dksX6_mayDrink_0 : cX6_mayDrink.data.toList.drop 0 = dktX6_mayDrink_0 := by decide +kernel
theorem dksX6_mayDrink_1 : cX6_mayDrink.data.toList.drop 22 = dktX6_mayDrink_1 := dk_seg dksX6_mayDrink_0 22 rfl rfl
theorem dX6_mayDrink_0 : decode cX6_mayDrink 0 = .ok (.iload_n 3, 1) := dk_29 (dk_at dksX6_mayDrink_0 0 rfl rfl)
theorem dX6_mayDrink_1 : decode cX6_mayDrink 1 = .ok (.iload_n 2, 1) := dk_28 (dk_at dksX6_mayDrink_0 1 rfl rfl)
theorem dX6_mayDrink_2 : decode cX6_mayDrink 2 = .ok (.ishr, 1) := dk_122 (dk_at dksX6_mayDrink_0 2 rfl rfl)
theorem dX6_mayDrink_3 : decode cX6_mayDrink 3 = .ok (.iconst 1, 1) := dk_4 (dk_at dksX6_mayDrink_0 3 rfl rfl)
theorem dX6_mayDrink_4 : decode cX6_mayDrink 4 = .ok (.iand, 1) := dk_126 (dk_at dksX6_mayDrink_0 4 rfl rfl)
theorem dX6_mayDrink_5 : decode cX6_mayDrink 5 = .ok (.ifCond .ne 24, 3) := dk_154 0 24 (dk_at dksX6_mayDrink_0 5 rfl rfl)
theorem dX6_mayDrink_8 : decode cX6_mayDrink 8 = .ok (.aload_n 0, 1) := dk_42 (dk_at dksX6_mayDrink_0 8 rfl rfl)
theorem dX6_mayDrink_9 : decode cX6_mayDrink 9 = .ok (.getfield 7, 3) := dk_180 0 7 (dk_at dksX6_mayDrink_0 9 rfl rfl)
theorem dX6_mayDrink_12 : decode cX6_mayDrink 12 = .ok (.iconst 0, 1) := dk_3 (dk_at dksX6_mayDrink_0 12 rfl rfl)
theorem dX6_mayDrink_13 : decode cX6_mayDrink 13 = .ok (.iload_n 2, 1) := dk_28 (dk_at dksX6_mayDrink_0 13 rfl rfl)
theorem dX6_mayDrink_14 : decode cX6_mayDrink 14 = .ok (.iadd, 1) := dk_96 (dk_at dksX6_mayDrink_0 14 rfl rfl)
theorem dX6_mayDrink_15 : decode cX6_mayDrink 15 = .ok (.iaload, 1) := dk_46 (dk_at dksX6_mayDrink_0 15 rfl rfl)
theorem dX6_mayDrink_16 : decode cX6_mayDrink 16 = .ok (.aload_n 0, 1) := dk_42 (dk_at dksX6_mayDrink_0 16 rfl rfl)
theorem dX6_mayDrink_17 : decode cX6_mayDrink 17 = .ok (.iload_n 1, 1) := dk_27 (dk_at dksX6_mayDrink_0 17 rfl rfl)
theorem dX6_mayDrink_18 : decode cX6_mayDrink 18 = .ok (.iconst 0, 1) := dk_3 (dk_at dksX6_mayDrink_0 18 rfl rfl)
theorem dX6_mayDrink_19 : decode cX6_mayDrink 19 = .ok (.invokevirtual 111, 3) := dk_182 0 111 (dk_at dksX6_mayDrink_0 19 rfl rfl)
theorem dX6_mayDrink_22 : decode cX6_mayDrink 22 = .ok (.if_icmp .lt 7, 3) := dk_161 0 7 (dk_at dksX6_mayDrink_1 0 rfl rfl)
theorem dX6_mayDrink_25 : decode cX6_mayDrink 25 = .ok (.iconst 1, 1) := dk_4 (dk_at dksX6_mayDrink_1 3 rfl rfl)
theorem dX6_mayDrink_26 : decode cX6_mayDrink 26 = .ok (.goto 4, 3) := dk_167 0 4 (dk_at dksX6_mayDrink_1 4 rfl rfl)
theorem dX6_mayDrink_29 : decode cX6_mayDrink 29 = .ok (.iconst 0, 1) := dk_3 (dk_at dksX6_mayDrink_1 7 rfl rfl)
theorem dX6_mayDrink_30 : decode cX6_mayDrink 30 = .ok (.ireturn, 1) := dk_172 (dk_at dksX6_mayDrink_1 8 rfl rfl)
abbrev cX6_leastAt : ByteArray := prog_30_method_64_code
def yX6_leastAt : MethodName := ⟨RX6, "leastAt", "(I)I"⟩
def dkwX6_leastAt_2 : List UInt8 := [167, 255, 216, 28, 172]
abbrev dktX6_leastAt_2 : List UInt8 := dkwX6_leastAt_2 ++ []
def dkwX6_leastAt_1 : List UInt8 := [162, 0, 17, 42, 180, 0, 22, 16, 37, 27, 104, 29, 96, 46, 167, 0, 4, 28, 61, 132, 3, 1]
abbrev dktX6_leastAt_1 : List UInt8 := dkwX6_leastAt_1 ++ dktX6_leastAt_2
def dkwX6_leastAt_0 : List UInt8 := [18, 227, 61, 3, 62, 29, 16, 37, 162, 0, 40, 42, 180, 0, 22, 16, 37, 27, 104, 29, 96, 46, 28]
abbrev dktX6_leastAt_0 : List UInt8 := dkwX6_leastAt_0 ++ dktX6_leastAt_1
theorem dksX6_leastAt_0 : cX6_leastAt.data.toList.drop 0 = dktX6_leastAt_0 := by decide +kernel
theorem dksX6_leastAt_1 : cX6_leastAt.data.toList.drop 23 = dktX6_leastAt_1 := dk_seg dksX6_leastAt_0 23 rfl rfl
theorem dksX6_leastAt_2 : cX6_leastAt.data.toList.drop 45 = dktX6_leastAt_2 := dk_seg dksX6_leastAt_1 22 rfl rfl
theorem dX6_leastAt_0 : decode cX6_leastAt 0 = .ok (.ldc 227, 2) := dk_18 227 (dk_at dksX6_leastAt_0 0 rfl rfl)
theorem dX6_leastAt_2 : decode cX6_leastAt 2 = .ok (.istore_n 2, 1) := dk_61 (dk_at dksX6_leastAt_0 2 rfl rfl)
theorem dX6_leastAt_3 : decode cX6_leastAt 3 = .ok (.iconst 0, 1) := dk_3 (dk_at dksX6_leastAt_0 3 rfl rfl)
theorem dX6_leastAt_4 : decode cX6_leastAt 4 = .ok (.istore_n 3, 1) := dk_62 (dk_at dksX6_leastAt_0 4 rfl rfl)
theorem dX6_leastAt_5 : decode cX6_leastAt 5 = .ok (.iload_n 3, 1) := dk_29 (dk_at dksX6_leastAt_0 5 rfl rfl)
theorem dX6_leastAt_6 : decode cX6_leastAt 6 = .ok (.bipush 37, 2) := dk_16 37 (dk_at dksX6_leastAt_0 6 rfl rfl)
theorem dX6_leastAt_8 : decode cX6_leastAt 8 = .ok (.if_icmp .ge 40, 3) := dk_162 0 40 (dk_at dksX6_leastAt_0 8 rfl rfl)
theorem dX6_leastAt_11 : decode cX6_leastAt 11 = .ok (.aload_n 0, 1) := dk_42 (dk_at dksX6_leastAt_0 11 rfl rfl)
theorem dX6_leastAt_12 : decode cX6_leastAt 12 = .ok (.getfield 22, 3) := dk_180 0 22 (dk_at dksX6_leastAt_0 12 rfl rfl)
theorem dX6_leastAt_15 : decode cX6_leastAt 15 = .ok (.bipush 37, 2) := dk_16 37 (dk_at dksX6_leastAt_0 15 rfl rfl)
theorem dX6_leastAt_17 : decode cX6_leastAt 17 = .ok (.iload_n 1, 1) := dk_27 (dk_at dksX6_leastAt_0 17 rfl rfl)
theorem dX6_leastAt_18 : decode cX6_leastAt 18 = .ok (.imul, 1) := dk_104 (dk_at dksX6_leastAt_0 18 rfl rfl)
theorem dX6_leastAt_19 : decode cX6_leastAt 19 = .ok (.iload_n 3, 1) := dk_29 (dk_at dksX6_leastAt_0 19 rfl rfl)
theorem dX6_leastAt_20 : decode cX6_leastAt 20 = .ok (.iadd, 1) := dk_96 (dk_at dksX6_leastAt_0 20 rfl rfl)
theorem dX6_leastAt_21 : decode cX6_leastAt 21 = .ok (.iaload, 1) := dk_46 (dk_at dksX6_leastAt_0 21 rfl rfl)
theorem dX6_leastAt_22 : decode cX6_leastAt 22 = .ok (.iload_n 2, 1) := dk_28 (dk_at dksX6_leastAt_0 22 rfl rfl)
theorem dX6_leastAt_23 : decode cX6_leastAt 23 = .ok (.if_icmp .ge 17, 3) := dk_162 0 17 (dk_at dksX6_leastAt_1 0 rfl rfl)
theorem dX6_leastAt_26 : decode cX6_leastAt 26 = .ok (.aload_n 0, 1) := dk_42 (dk_at dksX6_leastAt_1 3 rfl rfl)
theorem dX6_leastAt_27 : decode cX6_leastAt 27 = .ok (.getfield 22, 3) := dk_180 0 22 (dk_at dksX6_leastAt_1 4 rfl rfl)
theorem dX6_leastAt_30 : decode cX6_leastAt 30 = .ok (.bipush 37, 2) := dk_16 37 (dk_at dksX6_leastAt_1 7 rfl rfl)
theorem dX6_leastAt_32 : decode cX6_leastAt 32 = .ok (.iload_n 1, 1) := dk_27 (dk_at dksX6_leastAt_1 9 rfl rfl)
theorem dX6_leastAt_33 : decode cX6_leastAt 33 = .ok (.imul, 1) := dk_104 (dk_at dksX6_leastAt_1 10 rfl rfl)
theorem dX6_leastAt_34 : decode cX6_leastAt 34 = .ok (.iload_n 3, 1) := dk_29 (dk_at dksX6_leastAt_1 11 rfl rfl)
theorem dX6_leastAt_35 : decode cX6_leastAt 35 = .ok (.iadd, 1) := dk_96 (dk_at dksX6_leastAt_1 12 rfl rfl)
theorem dX6_leastAt_36 : decode cX6_leastAt 36 = .ok (.iaload, 1) := dk_46 (dk_at dksX6_leastAt_1 13 rfl rfl)
theorem dX6_leastAt_37 : decode cX6_leastAt 37 = .ok (.goto 4, 3) := dk_167 0 4 (dk_at dksX6_leastAt_1 14 rfl rfl)
theorem dX6_leastAt_40 : decode cX6_leastAt 40 = .ok (.iload_n 2, 1) := dk_28 (dk_at dksX6_leastAt_1 17 rfl rfl)
theorem dX6_leastAt_41 : decode cX6_leastAt 41 = .ok (.istore_n 2, 1) := dk_61 (dk_at dksX6_leastAt_1 18 rfl rfl)
theorem dX6_leastAt_42 : decode cX6_leastAt 42 = .ok (.iinc 3 1, 3) := dk_132 3 1 (dk_at dksX6_leastAt_1 19 rfl rfl)
theorem dX6_leastAt_45 : decode cX6_leastAt 45 = .ok (.goto (-40), 3) := dk_167 255 216 (dk_at dksX6_leastAt_2 0 rfl rfl)
theorem dX6_leastAt_48 : decode cX6_leastAt 48 = .ok (.iload_n 2, 1) := dk_28 (dk_at dksX6_leastAt_2 3 rfl rfl)
theorem dX6_leastAt_49 : decode cX6_leastAt 49 = .ok (.ireturn, 1) := dk_172 (dk_at dksX6_leastAt_2 4 rfl rfl)
abbrev cX6_drinks : ByteArray := prog_30_method_68_code
def yX6_drinks : MethodName := ⟨RX6, "drinks", "(III)I"⟩
def dkwX6_drinks_0 : List UInt8 := [42, 27, 28, 29, 3, 182, 0, 250, 172]
abbrev dktX6_drinks_0 : List UInt8 := dkwX6_drinks_0 ++ []
theorem dksX6_drinks_0 : cX6_drinks.data.toList.drop 0 = dktX6_drinks_0 := by decide +kernel
theorem dX6_drinks_0 : decode cX6_drinks 0 = .ok (.aload_n 0, 1) := dk_42 (dk_at dksX6_drinks_0 0 rfl rfl)
theorem dX6_drinks_1 : decode cX6_drinks 1 = .ok (.iload_n 1, 1) := dk_27 (dk_at dksX6_drinks_0 1 rfl rfl)
theorem dX6_drinks_2 : decode cX6_drinks 2 = .ok (.iload_n 2, 1) := dk_28 (dk_at dksX6_drinks_0 2 rfl rfl)
theorem dX6_drinks_3 : decode cX6_drinks 3 = .ok (.iload_n 3, 1) := dk_29 (dk_at dksX6_drinks_0 3 rfl rfl)
theorem dX6_drinks_4 : decode cX6_drinks 4 = .ok (.iconst 0, 1) := dk_3 (dk_at dksX6_drinks_0 4 rfl rfl)
theorem dX6_drinks_5 : decode cX6_drinks 5 = .ok (.invokevirtual 250, 3) := dk_182 0 250 (dk_at dksX6_drinks_0 5 rfl rfl)
theorem dX6_drinks_8 : decode cX6_drinks 8 = .ok (.ireturn, 1) := dk_172 (dk_at dksX6_drinks_0 8 rfl rfl)
abbrev cX6_reach : ByteArray := prog_30_method_70_code
def yX6_reach : MethodName := ⟨RX6, "reach", "(III)I"⟩
def dkwX6_reach_4 : List UInt8 := [167, 255, 213, 21, 5, 172]
abbrev dktX6_reach_4 : List UInt8 := dkwX6_reach_4 ++ []
def dkwX6_reach_3 : List UInt8 := [182, 0, 232, 153, 0, 9, 17, 0, 255, 167, 0, 9, 4, 21, 6, 120, 2, 130, 126, 54, 5, 132, 6, 1]
abbrev dktX6_reach_3 : List UInt8 := dkwX6_reach_3 ++ dktX6_reach_4
def dkwX6_reach_2 : List UInt8 := [54, 5, 3, 54, 6, 21, 6, 16, 8, 162, 0, 42, 29, 4, 160, 0, 37, 21, 5, 42, 27, 21, 6, 28]
abbrev dktX6_reach_2 : List UInt8 := dkwX6_reach_2 ++ dktX6_reach_3
def dkwX6_reach_1 : List UInt8 := [182, 0, 238, 54, 4, 21, 4, 153, 0, 10, 42, 21, 4, 182, 0, 68, 172, 42, 27, 28, 182, 0, 254]
abbrev dktX6_reach_1 : List UInt8 := dkwX6_reach_1 ++ dktX6_reach_2
def dkwX6_reach_0 : List UInt8 := [42, 27, 28, 184, 0, 235, 153, 0, 17, 29, 133, 9, 10, 184, 0, 46, 153, 0, 7, 4, 167, 0, 4, 3]
abbrev dktX6_reach_0 : List UInt8 := dkwX6_reach_0 ++ dktX6_reach_1
theorem dksX6_reach_0 : cX6_reach.data.toList.drop 0 = dktX6_reach_0 := by decide +kernel
theorem dksX6_reach_1 : cX6_reach.data.toList.drop 24 = dktX6_reach_1 := dk_seg dksX6_reach_0 24 rfl rfl
theorem dksX6_reach_2 : cX6_reach.data.toList.drop 47 = dktX6_reach_2 := dk_seg dksX6_reach_1 23 rfl rfl
theorem dksX6_reach_3 : cX6_reach.data.toList.drop 71 = dktX6_reach_3 := dk_seg dksX6_reach_2 24 rfl rfl
theorem dksX6_reach_4 : cX6_reach.data.toList.drop 95 = dktX6_reach_4 := dk_seg dksX6_reach_3 24 rfl rfl
theorem dX6_reach_0 : decode cX6_reach 0 = .ok (.aload_n 0, 1) := dk_42 (dk_at dksX6_reach_0 0 rfl rfl)
theorem dX6_reach_1 : decode cX6_reach 1 = .ok (.iload_n 1, 1) := dk_27 (dk_at dksX6_reach_0 1 rfl rfl)
theorem dX6_reach_2 : decode cX6_reach 2 = .ok (.iload_n 2, 1) := dk_28 (dk_at dksX6_reach_0 2 rfl rfl)
theorem dX6_reach_3 : decode cX6_reach 3 = .ok (.invokestatic 235, 3) := dk_184 0 235 (dk_at dksX6_reach_0 3 rfl rfl)
theorem dX6_reach_6 : decode cX6_reach 6 = .ok (.ifCond .eq 17, 3) := dk_153 0 17 (dk_at dksX6_reach_0 6 rfl rfl)
theorem dX6_reach_9 : decode cX6_reach 9 = .ok (.iload_n 3, 1) := dk_29 (dk_at dksX6_reach_0 9 rfl rfl)
theorem dX6_reach_10 : decode cX6_reach 10 = .ok (.i2l, 1) := dk_133 (dk_at dksX6_reach_0 10 rfl rfl)
theorem dX6_reach_11 : decode cX6_reach 11 = .ok (.lconst 0, 1) := dk_9 (dk_at dksX6_reach_0 11 rfl rfl)
theorem dX6_reach_12 : decode cX6_reach 12 = .ok (.lconst 1, 1) := dk_10 (dk_at dksX6_reach_0 12 rfl rfl)
theorem dX6_reach_13 : decode cX6_reach 13 = .ok (.invokestatic 46, 3) := dk_184 0 46 (dk_at dksX6_reach_0 13 rfl rfl)
theorem dX6_reach_16 : decode cX6_reach 16 = .ok (.ifCond .eq 7, 3) := dk_153 0 7 (dk_at dksX6_reach_0 16 rfl rfl)
theorem dX6_reach_19 : decode cX6_reach 19 = .ok (.iconst 1, 1) := dk_4 (dk_at dksX6_reach_0 19 rfl rfl)
theorem dX6_reach_20 : decode cX6_reach 20 = .ok (.goto 4, 3) := dk_167 0 4 (dk_at dksX6_reach_0 20 rfl rfl)
theorem dX6_reach_23 : decode cX6_reach 23 = .ok (.iconst 0, 1) := dk_3 (dk_at dksX6_reach_0 23 rfl rfl)
theorem dX6_reach_24 : decode cX6_reach 24 = .ok (.invokevirtual 238, 3) := dk_182 0 238 (dk_at dksX6_reach_1 0 rfl rfl)
theorem dX6_reach_27 : decode cX6_reach 27 = .ok (.istore 4, 2) := dk_54 4 (dk_at dksX6_reach_1 3 rfl rfl)
theorem dX6_reach_29 : decode cX6_reach 29 = .ok (.iload 4, 2) := dk_21 4 (dk_at dksX6_reach_1 5 rfl rfl)
theorem dX6_reach_31 : decode cX6_reach 31 = .ok (.ifCond .eq 10, 3) := dk_153 0 10 (dk_at dksX6_reach_1 7 rfl rfl)
theorem dX6_reach_34 : decode cX6_reach 34 = .ok (.aload_n 0, 1) := dk_42 (dk_at dksX6_reach_1 10 rfl rfl)
theorem dX6_reach_35 : decode cX6_reach 35 = .ok (.iload 4, 2) := dk_21 4 (dk_at dksX6_reach_1 11 rfl rfl)
theorem dX6_reach_37 : decode cX6_reach 37 = .ok (.invokevirtual 68, 3) := dk_182 0 68 (dk_at dksX6_reach_1 13 rfl rfl)
theorem dX6_reach_40 : decode cX6_reach 40 = .ok (.ireturn, 1) := dk_172 (dk_at dksX6_reach_1 16 rfl rfl)
theorem dX6_reach_41 : decode cX6_reach 41 = .ok (.aload_n 0, 1) := dk_42 (dk_at dksX6_reach_1 17 rfl rfl)
theorem dX6_reach_42 : decode cX6_reach 42 = .ok (.iload_n 1, 1) := dk_27 (dk_at dksX6_reach_1 18 rfl rfl)
theorem dX6_reach_43 : decode cX6_reach 43 = .ok (.iload_n 2, 1) := dk_28 (dk_at dksX6_reach_1 19 rfl rfl)
theorem dX6_reach_44 : decode cX6_reach 44 = .ok (.invokevirtual 254, 3) := dk_182 0 254 (dk_at dksX6_reach_1 20 rfl rfl)
theorem dX6_reach_47 : decode cX6_reach 47 = .ok (.istore 5, 2) := dk_54 5 (dk_at dksX6_reach_2 0 rfl rfl)
theorem dX6_reach_49 : decode cX6_reach 49 = .ok (.iconst 0, 1) := dk_3 (dk_at dksX6_reach_2 2 rfl rfl)
theorem dX6_reach_50 : decode cX6_reach 50 = .ok (.istore 6, 2) := dk_54 6 (dk_at dksX6_reach_2 3 rfl rfl)
theorem dX6_reach_52 : decode cX6_reach 52 = .ok (.iload 6, 2) := dk_21 6 (dk_at dksX6_reach_2 5 rfl rfl)
theorem dX6_reach_54 : decode cX6_reach 54 = .ok (.bipush 8, 2) := dk_16 8 (dk_at dksX6_reach_2 7 rfl rfl)
theorem dX6_reach_56 : decode cX6_reach 56 = .ok (.if_icmp .ge 42, 3) := dk_162 0 42 (dk_at dksX6_reach_2 9 rfl rfl)
theorem dX6_reach_59 : decode cX6_reach 59 = .ok (.iload_n 3, 1) := dk_29 (dk_at dksX6_reach_2 12 rfl rfl)
theorem dX6_reach_60 : decode cX6_reach 60 = .ok (.iconst 1, 1) := dk_4 (dk_at dksX6_reach_2 13 rfl rfl)
theorem dX6_reach_61 : decode cX6_reach 61 = .ok (.if_icmp .ne 37, 3) := dk_160 0 37 (dk_at dksX6_reach_2 14 rfl rfl)
theorem dX6_reach_64 : decode cX6_reach 64 = .ok (.iload 5, 2) := dk_21 5 (dk_at dksX6_reach_2 17 rfl rfl)
theorem dX6_reach_66 : decode cX6_reach 66 = .ok (.aload_n 0, 1) := dk_42 (dk_at dksX6_reach_2 19 rfl rfl)
theorem dX6_reach_67 : decode cX6_reach 67 = .ok (.iload_n 1, 1) := dk_27 (dk_at dksX6_reach_2 20 rfl rfl)
theorem dX6_reach_68 : decode cX6_reach 68 = .ok (.iload 6, 2) := dk_21 6 (dk_at dksX6_reach_2 21 rfl rfl)
theorem dX6_reach_70 : decode cX6_reach 70 = .ok (.iload_n 2, 1) := dk_28 (dk_at dksX6_reach_2 23 rfl rfl)
theorem dX6_reach_71 : decode cX6_reach 71 = .ok (.invokevirtual 232, 3) := dk_182 0 232 (dk_at dksX6_reach_3 0 rfl rfl)
theorem dX6_reach_74 : decode cX6_reach 74 = .ok (.ifCond .eq 9, 3) := dk_153 0 9 (dk_at dksX6_reach_3 3 rfl rfl)
theorem dX6_reach_77 : decode cX6_reach 77 = .ok (.sipush 255, 3) := dk_17 0 255 (dk_at dksX6_reach_3 6 rfl rfl)
theorem dX6_reach_80 : decode cX6_reach 80 = .ok (.goto 9, 3) := dk_167 0 9 (dk_at dksX6_reach_3 9 rfl rfl)
theorem dX6_reach_83 : decode cX6_reach 83 = .ok (.iconst 1, 1) := dk_4 (dk_at dksX6_reach_3 12 rfl rfl)
theorem dX6_reach_84 : decode cX6_reach 84 = .ok (.iload 6, 2) := dk_21 6 (dk_at dksX6_reach_3 13 rfl rfl)
theorem dX6_reach_86 : decode cX6_reach 86 = .ok (.ishl, 1) := dk_120 (dk_at dksX6_reach_3 15 rfl rfl)
theorem dX6_reach_87 : decode cX6_reach 87 = .ok (.iconst (-1), 1) := dk_2 (dk_at dksX6_reach_3 16 rfl rfl)
theorem dX6_reach_88 : decode cX6_reach 88 = .ok (.ixor, 1) := dk_130 (dk_at dksX6_reach_3 17 rfl rfl)
theorem dX6_reach_89 : decode cX6_reach 89 = .ok (.iand, 1) := dk_126 (dk_at dksX6_reach_3 18 rfl rfl)
theorem dX6_reach_90 : decode cX6_reach 90 = .ok (.istore 5, 2) := dk_54 5 (dk_at dksX6_reach_3 19 rfl rfl)
theorem dX6_reach_92 : decode cX6_reach 92 = .ok (.iinc 6 1, 3) := dk_132 6 1 (dk_at dksX6_reach_3 21 rfl rfl)
theorem dX6_reach_95 : decode cX6_reach 95 = .ok (.goto (-43), 3) := dk_167 255 213 (dk_at dksX6_reach_4 0 rfl rfl)
theorem dX6_reach_98 : decode cX6_reach 98 = .ok (.iload 5, 2) := dk_21 5 (dk_at dksX6_reach_4 3 rfl rfl)
theorem dX6_reach_100 : decode cX6_reach 100 = .ok (.ireturn, 1) := dk_172 (dk_at dksX6_reach_4 5 rfl rfl)
abbrev cX6_reached : ByteArray := prog_30_method_69_code
def yX6_reached : MethodName := ⟨RX6, "reached", "(II)I"⟩
def dkwX6_reached_2 : List UInt8 := [29, 172]
abbrev dktX6_reached_2 : List UInt8 := dkwX6_reached_2 ++ []
def dkwX6_reached_1 : List UInt8 := [182, 0, 246, 18, 227, 162, 0, 10, 4, 21, 4, 120, 167, 0, 4, 3, 128, 62, 132, 4, 1, 167, 255, 224]
abbrev dktX6_reached_1 : List UInt8 := dkwX6_reached_1 ++ dktX6_reached_2
def dkwX6_reached_0 : List UInt8 := [42, 27, 28, 4, 182, 0, 242, 3, 62, 3, 54, 4, 21, 4, 16, 8, 162, 0, 31, 29, 42, 21, 4]
abbrev dktX6_reached_0 : List UInt8 := dkwX6_reached_0 ++ dktX6_reached_1
theorem dksX6_reached_0 : cX6_reached.data.toList.drop 0 = dktX6_reached_0 := by decide +kernel
theorem dksX6_reached_1 : cX6_reached.data.toList.drop 23 = dktX6_reached_1 := dk_seg dksX6_reached_0 23 rfl rfl
theorem dksX6_reached_2 : cX6_reached.data.toList.drop 47 = dktX6_reached_2 := dk_seg dksX6_reached_1 24 rfl rfl
theorem dX6_reached_0 : decode cX6_reached 0 = .ok (.aload_n 0, 1) := dk_42 (dk_at dksX6_reached_0 0 rfl rfl)
theorem dX6_reached_1 : decode cX6_reached 1 = .ok (.iload_n 1, 1) := dk_27 (dk_at dksX6_reached_0 1 rfl rfl)
theorem dX6_reached_2 : decode cX6_reached 2 = .ok (.iload_n 2, 1) := dk_28 (dk_at dksX6_reached_0 2 rfl rfl)
theorem dX6_reached_3 : decode cX6_reached 3 = .ok (.iconst 1, 1) := dk_4 (dk_at dksX6_reached_0 3 rfl rfl)
theorem dX6_reached_4 : decode cX6_reached 4 = .ok (.invokevirtual 242, 3) := dk_182 0 242 (dk_at dksX6_reached_0 4 rfl rfl)
theorem dX6_reached_7 : decode cX6_reached 7 = .ok (.iconst 0, 1) := dk_3 (dk_at dksX6_reached_0 7 rfl rfl)
theorem dX6_reached_8 : decode cX6_reached 8 = .ok (.istore_n 3, 1) := dk_62 (dk_at dksX6_reached_0 8 rfl rfl)
theorem dX6_reached_9 : decode cX6_reached 9 = .ok (.iconst 0, 1) := dk_3 (dk_at dksX6_reached_0 9 rfl rfl)
theorem dX6_reached_10 : decode cX6_reached 10 = .ok (.istore 4, 2) := dk_54 4 (dk_at dksX6_reached_0 10 rfl rfl)
theorem dX6_reached_12 : decode cX6_reached 12 = .ok (.iload 4, 2) := dk_21 4 (dk_at dksX6_reached_0 12 rfl rfl)
theorem dX6_reached_14 : decode cX6_reached 14 = .ok (.bipush 8, 2) := dk_16 8 (dk_at dksX6_reached_0 14 rfl rfl)
theorem dX6_reached_16 : decode cX6_reached 16 = .ok (.if_icmp .ge 31, 3) := dk_162 0 31 (dk_at dksX6_reached_0 16 rfl rfl)
theorem dX6_reached_19 : decode cX6_reached 19 = .ok (.iload_n 3, 1) := dk_29 (dk_at dksX6_reached_0 19 rfl rfl)
theorem dX6_reached_20 : decode cX6_reached 20 = .ok (.aload_n 0, 1) := dk_42 (dk_at dksX6_reached_0 20 rfl rfl)
theorem dX6_reached_21 : decode cX6_reached 21 = .ok (.iload 4, 2) := dk_21 4 (dk_at dksX6_reached_0 21 rfl rfl)
theorem dX6_reached_23 : decode cX6_reached 23 = .ok (.invokevirtual 246, 3) := dk_182 0 246 (dk_at dksX6_reached_1 0 rfl rfl)
theorem dX6_reached_26 : decode cX6_reached 26 = .ok (.ldc 227, 2) := dk_18 227 (dk_at dksX6_reached_1 3 rfl rfl)
theorem dX6_reached_28 : decode cX6_reached 28 = .ok (.if_icmp .ge 10, 3) := dk_162 0 10 (dk_at dksX6_reached_1 5 rfl rfl)
theorem dX6_reached_31 : decode cX6_reached 31 = .ok (.iconst 1, 1) := dk_4 (dk_at dksX6_reached_1 8 rfl rfl)
theorem dX6_reached_32 : decode cX6_reached 32 = .ok (.iload 4, 2) := dk_21 4 (dk_at dksX6_reached_1 9 rfl rfl)
theorem dX6_reached_34 : decode cX6_reached 34 = .ok (.ishl, 1) := dk_120 (dk_at dksX6_reached_1 11 rfl rfl)
theorem dX6_reached_35 : decode cX6_reached 35 = .ok (.goto 4, 3) := dk_167 0 4 (dk_at dksX6_reached_1 12 rfl rfl)
theorem dX6_reached_38 : decode cX6_reached 38 = .ok (.iconst 0, 1) := dk_3 (dk_at dksX6_reached_1 15 rfl rfl)
theorem dX6_reached_39 : decode cX6_reached 39 = .ok (.ior, 1) := dk_128 (dk_at dksX6_reached_1 16 rfl rfl)
theorem dX6_reached_40 : decode cX6_reached 40 = .ok (.istore_n 3, 1) := dk_62 (dk_at dksX6_reached_1 17 rfl rfl)
theorem dX6_reached_41 : decode cX6_reached 41 = .ok (.iinc 4 1, 3) := dk_132 4 1 (dk_at dksX6_reached_1 18 rfl rfl)
theorem dX6_reached_44 : decode cX6_reached 44 = .ok (.goto (-32), 3) := dk_167 255 224 (dk_at dksX6_reached_1 21 rfl rfl)
theorem dX6_reached_47 : decode cX6_reached 47 = .ok (.iload_n 3, 1) := dk_29 (dk_at dksX6_reached_2 0 rfl rfl)
theorem dX6_reached_48 : decode cX6_reached 48 = .ok (.ireturn, 1) := dk_172 (dk_at dksX6_reached_2 1 rfl rfl)
abbrev cX6_dry : ByteArray := prog_30_method_71_code
def yX6_dry : MethodName := ⟨RX6, "dry", "(II)I"⟩
def dkwX6_dry_4 : List UInt8 := [132, 6, 1, 167, 255, 193, 28, 154, 0, 8, 21, 4, 167, 0, 5, 21, 5, 172]
abbrev dktX6_dry_4 : List UInt8 := dkwX6_dry_4 ++ []
def dkwX6_dry_3 : List UInt8 := [167, 0, 5, 21, 4, 54, 4, 21, 7, 21, 5, 162, 0, 8, 21, 7, 167, 0, 5, 21, 5, 54, 5]
abbrev dktX6_dry_3 : List UInt8 := dkwX6_dry_3 ++ dktX6_dry_4
def dkwX6_dry_2 : List UInt8 := [182, 0, 254, 4, 21, 6, 120, 2, 130, 126, 184, 0, 224, 54, 7, 21, 7, 21, 5, 162, 0, 8, 21, 6]
abbrev dktX6_dry_2 : List UInt8 := dkwX6_dry_2 ++ dktX6_dry_3
def dkwX6_dry_1 : List UInt8 := [54, 4, 16, 8, 54, 5, 3, 54, 6, 21, 6, 16, 8, 162, 0, 62, 42, 27, 4, 21, 6, 120]
abbrev dktX6_dry_1 : List UInt8 := dkwX6_dry_1 ++ dktX6_dry_2
def dkwX6_dry_0 : List UInt8 := [42, 27, 28, 133, 9, 10, 184, 0, 46, 182, 0, 238, 62, 29, 153, 0, 9, 42, 29, 182, 0, 68, 172, 3]
abbrev dktX6_dry_0 : List UInt8 := dkwX6_dry_0 ++ dktX6_dry_1
theorem dksX6_dry_0 : cX6_dry.data.toList.drop 0 = dktX6_dry_0 := by decide +kernel
theorem dksX6_dry_1 : cX6_dry.data.toList.drop 24 = dktX6_dry_1 := dk_seg dksX6_dry_0 24 rfl rfl
theorem dksX6_dry_2 : cX6_dry.data.toList.drop 46 = dktX6_dry_2 := dk_seg dksX6_dry_1 22 rfl rfl
theorem dksX6_dry_3 : cX6_dry.data.toList.drop 70 = dktX6_dry_3 := dk_seg dksX6_dry_2 24 rfl rfl
theorem dksX6_dry_4 : cX6_dry.data.toList.drop 93 = dktX6_dry_4 := dk_seg dksX6_dry_3 23 rfl rfl
theorem dX6_dry_0 : decode cX6_dry 0 = .ok (.aload_n 0, 1) := dk_42 (dk_at dksX6_dry_0 0 rfl rfl)
theorem dX6_dry_1 : decode cX6_dry 1 = .ok (.iload_n 1, 1) := dk_27 (dk_at dksX6_dry_0 1 rfl rfl)
theorem dX6_dry_2 : decode cX6_dry 2 = .ok (.iload_n 2, 1) := dk_28 (dk_at dksX6_dry_0 2 rfl rfl)
theorem dX6_dry_3 : decode cX6_dry 3 = .ok (.i2l, 1) := dk_133 (dk_at dksX6_dry_0 3 rfl rfl)
theorem dX6_dry_4 : decode cX6_dry 4 = .ok (.lconst 0, 1) := dk_9 (dk_at dksX6_dry_0 4 rfl rfl)
theorem dX6_dry_5 : decode cX6_dry 5 = .ok (.lconst 1, 1) := dk_10 (dk_at dksX6_dry_0 5 rfl rfl)
theorem dX6_dry_6 : decode cX6_dry 6 = .ok (.invokestatic 46, 3) := dk_184 0 46 (dk_at dksX6_dry_0 6 rfl rfl)
theorem dX6_dry_9 : decode cX6_dry 9 = .ok (.invokevirtual 238, 3) := dk_182 0 238 (dk_at dksX6_dry_0 9 rfl rfl)
theorem dX6_dry_12 : decode cX6_dry 12 = .ok (.istore_n 3, 1) := dk_62 (dk_at dksX6_dry_0 12 rfl rfl)
theorem dX6_dry_13 : decode cX6_dry 13 = .ok (.iload_n 3, 1) := dk_29 (dk_at dksX6_dry_0 13 rfl rfl)
theorem dX6_dry_14 : decode cX6_dry 14 = .ok (.ifCond .eq 9, 3) := dk_153 0 9 (dk_at dksX6_dry_0 14 rfl rfl)
theorem dX6_dry_17 : decode cX6_dry 17 = .ok (.aload_n 0, 1) := dk_42 (dk_at dksX6_dry_0 17 rfl rfl)
theorem dX6_dry_18 : decode cX6_dry 18 = .ok (.iload_n 3, 1) := dk_29 (dk_at dksX6_dry_0 18 rfl rfl)
theorem dX6_dry_19 : decode cX6_dry 19 = .ok (.invokevirtual 68, 3) := dk_182 0 68 (dk_at dksX6_dry_0 19 rfl rfl)
theorem dX6_dry_22 : decode cX6_dry 22 = .ok (.ireturn, 1) := dk_172 (dk_at dksX6_dry_0 22 rfl rfl)
theorem dX6_dry_23 : decode cX6_dry 23 = .ok (.iconst 0, 1) := dk_3 (dk_at dksX6_dry_0 23 rfl rfl)
theorem dX6_dry_24 : decode cX6_dry 24 = .ok (.istore 4, 2) := dk_54 4 (dk_at dksX6_dry_1 0 rfl rfl)
theorem dX6_dry_26 : decode cX6_dry 26 = .ok (.bipush 8, 2) := dk_16 8 (dk_at dksX6_dry_1 2 rfl rfl)
theorem dX6_dry_28 : decode cX6_dry 28 = .ok (.istore 5, 2) := dk_54 5 (dk_at dksX6_dry_1 4 rfl rfl)
theorem dX6_dry_30 : decode cX6_dry 30 = .ok (.iconst 0, 1) := dk_3 (dk_at dksX6_dry_1 6 rfl rfl)
theorem dX6_dry_31 : decode cX6_dry 31 = .ok (.istore 6, 2) := dk_54 6 (dk_at dksX6_dry_1 7 rfl rfl)
theorem dX6_dry_33 : decode cX6_dry 33 = .ok (.iload 6, 2) := dk_21 6 (dk_at dksX6_dry_1 9 rfl rfl)
theorem dX6_dry_35 : decode cX6_dry 35 = .ok (.bipush 8, 2) := dk_16 8 (dk_at dksX6_dry_1 11 rfl rfl)
theorem dX6_dry_37 : decode cX6_dry 37 = .ok (.if_icmp .ge 62, 3) := dk_162 0 62 (dk_at dksX6_dry_1 13 rfl rfl)
theorem dX6_dry_40 : decode cX6_dry 40 = .ok (.aload_n 0, 1) := dk_42 (dk_at dksX6_dry_1 16 rfl rfl)
theorem dX6_dry_41 : decode cX6_dry 41 = .ok (.iload_n 1, 1) := dk_27 (dk_at dksX6_dry_1 17 rfl rfl)
theorem dX6_dry_42 : decode cX6_dry 42 = .ok (.iconst 1, 1) := dk_4 (dk_at dksX6_dry_1 18 rfl rfl)
theorem dX6_dry_43 : decode cX6_dry 43 = .ok (.iload 6, 2) := dk_21 6 (dk_at dksX6_dry_1 19 rfl rfl)
theorem dX6_dry_45 : decode cX6_dry 45 = .ok (.ishl, 1) := dk_120 (dk_at dksX6_dry_1 21 rfl rfl)
theorem dX6_dry_46 : decode cX6_dry 46 = .ok (.invokevirtual 254, 3) := dk_182 0 254 (dk_at dksX6_dry_2 0 rfl rfl)
theorem dX6_dry_49 : decode cX6_dry 49 = .ok (.iconst 1, 1) := dk_4 (dk_at dksX6_dry_2 3 rfl rfl)
theorem dX6_dry_50 : decode cX6_dry 50 = .ok (.iload 6, 2) := dk_21 6 (dk_at dksX6_dry_2 4 rfl rfl)
theorem dX6_dry_52 : decode cX6_dry 52 = .ok (.ishl, 1) := dk_120 (dk_at dksX6_dry_2 6 rfl rfl)
theorem dX6_dry_53 : decode cX6_dry 53 = .ok (.iconst (-1), 1) := dk_2 (dk_at dksX6_dry_2 7 rfl rfl)
theorem dX6_dry_54 : decode cX6_dry 54 = .ok (.ixor, 1) := dk_130 (dk_at dksX6_dry_2 8 rfl rfl)
theorem dX6_dry_55 : decode cX6_dry 55 = .ok (.iand, 1) := dk_126 (dk_at dksX6_dry_2 9 rfl rfl)
theorem dX6_dry_56 : decode cX6_dry 56 = .ok (.invokestatic 224, 3) := dk_184 0 224 (dk_at dksX6_dry_2 10 rfl rfl)
theorem dX6_dry_59 : decode cX6_dry 59 = .ok (.istore 7, 2) := dk_54 7 (dk_at dksX6_dry_2 13 rfl rfl)
theorem dX6_dry_61 : decode cX6_dry 61 = .ok (.iload 7, 2) := dk_21 7 (dk_at dksX6_dry_2 15 rfl rfl)
theorem dX6_dry_63 : decode cX6_dry 63 = .ok (.iload 5, 2) := dk_21 5 (dk_at dksX6_dry_2 17 rfl rfl)
theorem dX6_dry_65 : decode cX6_dry 65 = .ok (.if_icmp .ge 8, 3) := dk_162 0 8 (dk_at dksX6_dry_2 19 rfl rfl)
theorem dX6_dry_68 : decode cX6_dry 68 = .ok (.iload 6, 2) := dk_21 6 (dk_at dksX6_dry_2 22 rfl rfl)
theorem dX6_dry_70 : decode cX6_dry 70 = .ok (.goto 5, 3) := dk_167 0 5 (dk_at dksX6_dry_3 0 rfl rfl)
theorem dX6_dry_73 : decode cX6_dry 73 = .ok (.iload 4, 2) := dk_21 4 (dk_at dksX6_dry_3 3 rfl rfl)
theorem dX6_dry_75 : decode cX6_dry 75 = .ok (.istore 4, 2) := dk_54 4 (dk_at dksX6_dry_3 5 rfl rfl)
theorem dX6_dry_77 : decode cX6_dry 77 = .ok (.iload 7, 2) := dk_21 7 (dk_at dksX6_dry_3 7 rfl rfl)
theorem dX6_dry_79 : decode cX6_dry 79 = .ok (.iload 5, 2) := dk_21 5 (dk_at dksX6_dry_3 9 rfl rfl)
theorem dX6_dry_81 : decode cX6_dry 81 = .ok (.if_icmp .ge 8, 3) := dk_162 0 8 (dk_at dksX6_dry_3 11 rfl rfl)
theorem dX6_dry_84 : decode cX6_dry 84 = .ok (.iload 7, 2) := dk_21 7 (dk_at dksX6_dry_3 14 rfl rfl)
theorem dX6_dry_86 : decode cX6_dry 86 = .ok (.goto 5, 3) := dk_167 0 5 (dk_at dksX6_dry_3 16 rfl rfl)
theorem dX6_dry_89 : decode cX6_dry 89 = .ok (.iload 5, 2) := dk_21 5 (dk_at dksX6_dry_3 19 rfl rfl)
theorem dX6_dry_91 : decode cX6_dry 91 = .ok (.istore 5, 2) := dk_54 5 (dk_at dksX6_dry_3 21 rfl rfl)
theorem dX6_dry_93 : decode cX6_dry 93 = .ok (.iinc 6 1, 3) := dk_132 6 1 (dk_at dksX6_dry_4 0 rfl rfl)
theorem dX6_dry_96 : decode cX6_dry 96 = .ok (.goto (-63), 3) := dk_167 255 193 (dk_at dksX6_dry_4 3 rfl rfl)
theorem dX6_dry_99 : decode cX6_dry 99 = .ok (.iload_n 2, 1) := dk_28 (dk_at dksX6_dry_4 6 rfl rfl)
theorem dX6_dry_100 : decode cX6_dry 100 = .ok (.ifCond .ne 8, 3) := dk_154 0 8 (dk_at dksX6_dry_4 7 rfl rfl)
theorem dX6_dry_103 : decode cX6_dry 103 = .ok (.iload 4, 2) := dk_21 4 (dk_at dksX6_dry_4 10 rfl rfl)
theorem dX6_dry_105 : decode cX6_dry 105 = .ok (.goto 5, 3) := dk_167 0 5 (dk_at dksX6_dry_4 12 rfl rfl)
theorem dX6_dry_108 : decode cX6_dry 108 = .ok (.iload 5, 2) := dk_21 5 (dk_at dksX6_dry_4 15 rfl rfl)
theorem dX6_dry_110 : decode cX6_dry 110 = .ok (.ireturn, 1) := dk_172 (dk_at dksX6_dry_4 17 rfl rfl)
abbrev cX6_net : ByteArray := prog_30_method_72_code
def yX6_net : MethodName := ⟨RX6, "net", "()I"⟩
def dkwX6_net_6 : List UInt8 := [132, 3, 1, 167, 255, 116, 28, 172]
abbrev dktX6_net_6 : List UInt8 := dkwX6_net_6 ++ []
def dkwX6_net_5 : List UInt8 := [21, 4, 156, 0, 10, 42, 18, 249, 182, 0, 68, 172, 27, 4, 21, 4, 120, 128, 60, 28, 21, 5, 96, 61]
abbrev dktX6_net_5 : List UInt8 := dkwX6_net_5 ++ dktX6_net_6
def dkwX6_net_4 : List UInt8 := [180, 0, 7, 16, 8, 21, 6, 96, 46, 54, 5, 21, 6, 16, 8, 112, 54, 4, 132, 6, 1, 167, 255, 162]
abbrev dktX6_net_4 : List UInt8 := dkwX6_net_4 ++ dktX6_net_5
def dkwX6_net_3 : List UInt8 := [54, 7, 21, 7, 153, 0, 37, 42, 180, 0, 7, 16, 8, 21, 6, 96, 46, 21, 5, 162, 0, 22, 42]
abbrev dktX6_net_3 : List UInt8 := dkwX6_net_3 ++ dktX6_net_4
def dkwX6_net_2 : List UInt8 := [122, 4, 126, 154, 0, 20, 42, 180, 0, 7, 16, 8, 21, 6, 96, 46, 158, 0, 7, 4, 167, 0, 4, 3]
abbrev dktX6_net_2 : List UInt8 := dkwX6_net_2 ++ dktX6_net_3
def dkwX6_net_1 : List UInt8 := [16, 64, 162, 0, 93, 27, 21, 6, 16, 8, 108, 122, 4, 126, 4, 160, 0, 32, 27, 21, 6, 16, 8, 112]
abbrev dktX6_net_1 : List UInt8 := dkwX6_net_1 ++ dktX6_net_2
def dkwX6_net_0 : List UInt8 := [4, 60, 3, 61, 4, 62, 29, 16, 8, 162, 0, 140, 2, 54, 4, 18, 227, 54, 5, 3, 54, 6, 21, 6]
abbrev dktX6_net_0 : List UInt8 := dkwX6_net_0 ++ dktX6_net_1
theorem dksX6_net_0 : cX6_net.data.toList.drop 0 = dktX6_net_0 := by decide +kernel
theorem dksX6_net_1 : cX6_net.data.toList.drop 24 = dktX6_net_1 := dk_seg dksX6_net_0 24 rfl rfl
theorem dksX6_net_2 : cX6_net.data.toList.drop 48 = dktX6_net_2 := dk_seg dksX6_net_1 24 rfl rfl
theorem dksX6_net_3 : cX6_net.data.toList.drop 72 = dktX6_net_3 := dk_seg dksX6_net_2 24 rfl rfl
theorem dksX6_net_4 : cX6_net.data.toList.drop 95 = dktX6_net_4 := dk_seg dksX6_net_3 23 rfl rfl
theorem dksX6_net_5 : cX6_net.data.toList.drop 119 = dktX6_net_5 := dk_seg dksX6_net_4 24 rfl rfl
theorem dksX6_net_6 : cX6_net.data.toList.drop 143 = dktX6_net_6 := dk_seg dksX6_net_5 24 rfl rfl
theorem dX6_net_0 : decode cX6_net 0 = .ok (.iconst 1, 1) := dk_4 (dk_at dksX6_net_0 0 rfl rfl)
theorem dX6_net_1 : decode cX6_net 1 = .ok (.istore_n 1, 1) := dk_60 (dk_at dksX6_net_0 1 rfl rfl)
theorem dX6_net_2 : decode cX6_net 2 = .ok (.iconst 0, 1) := dk_3 (dk_at dksX6_net_0 2 rfl rfl)
theorem dX6_net_3 : decode cX6_net 3 = .ok (.istore_n 2, 1) := dk_61 (dk_at dksX6_net_0 3 rfl rfl)
theorem dX6_net_4 : decode cX6_net 4 = .ok (.iconst 1, 1) := dk_4 (dk_at dksX6_net_0 4 rfl rfl)
theorem dX6_net_5 : decode cX6_net 5 = .ok (.istore_n 3, 1) := dk_62 (dk_at dksX6_net_0 5 rfl rfl)
theorem dX6_net_6 : decode cX6_net 6 = .ok (.iload_n 3, 1) := dk_29 (dk_at dksX6_net_0 6 rfl rfl)
theorem dX6_net_7 : decode cX6_net 7 = .ok (.bipush 8, 2) := dk_16 8 (dk_at dksX6_net_0 7 rfl rfl)
theorem dX6_net_9 : decode cX6_net 9 = .ok (.if_icmp .ge 140, 3) := dk_162 0 140 (dk_at dksX6_net_0 9 rfl rfl)
theorem dX6_net_12 : decode cX6_net 12 = .ok (.iconst (-1), 1) := dk_2 (dk_at dksX6_net_0 12 rfl rfl)
theorem dX6_net_13 : decode cX6_net 13 = .ok (.istore 4, 2) := dk_54 4 (dk_at dksX6_net_0 13 rfl rfl)
theorem dX6_net_15 : decode cX6_net 15 = .ok (.ldc 227, 2) := dk_18 227 (dk_at dksX6_net_0 15 rfl rfl)
theorem dX6_net_17 : decode cX6_net 17 = .ok (.istore 5, 2) := dk_54 5 (dk_at dksX6_net_0 17 rfl rfl)
theorem dX6_net_19 : decode cX6_net 19 = .ok (.iconst 0, 1) := dk_3 (dk_at dksX6_net_0 19 rfl rfl)
theorem dX6_net_20 : decode cX6_net 20 = .ok (.istore 6, 2) := dk_54 6 (dk_at dksX6_net_0 20 rfl rfl)
theorem dX6_net_22 : decode cX6_net 22 = .ok (.iload 6, 2) := dk_21 6 (dk_at dksX6_net_0 22 rfl rfl)
theorem dX6_net_24 : decode cX6_net 24 = .ok (.bipush 64, 2) := dk_16 64 (dk_at dksX6_net_1 0 rfl rfl)
theorem dX6_net_26 : decode cX6_net 26 = .ok (.if_icmp .ge 93, 3) := dk_162 0 93 (dk_at dksX6_net_1 2 rfl rfl)
theorem dX6_net_29 : decode cX6_net 29 = .ok (.iload_n 1, 1) := dk_27 (dk_at dksX6_net_1 5 rfl rfl)
theorem dX6_net_30 : decode cX6_net 30 = .ok (.iload 6, 2) := dk_21 6 (dk_at dksX6_net_1 6 rfl rfl)
theorem dX6_net_32 : decode cX6_net 32 = .ok (.bipush 8, 2) := dk_16 8 (dk_at dksX6_net_1 8 rfl rfl)
theorem dX6_net_34 : decode cX6_net 34 = .ok (.idiv, 1) := dk_108 (dk_at dksX6_net_1 10 rfl rfl)
theorem dX6_net_35 : decode cX6_net 35 = .ok (.ishr, 1) := dk_122 (dk_at dksX6_net_1 11 rfl rfl)
theorem dX6_net_36 : decode cX6_net 36 = .ok (.iconst 1, 1) := dk_4 (dk_at dksX6_net_1 12 rfl rfl)
theorem dX6_net_37 : decode cX6_net 37 = .ok (.iand, 1) := dk_126 (dk_at dksX6_net_1 13 rfl rfl)
theorem dX6_net_38 : decode cX6_net 38 = .ok (.iconst 1, 1) := dk_4 (dk_at dksX6_net_1 14 rfl rfl)
theorem dX6_net_39 : decode cX6_net 39 = .ok (.if_icmp .ne 32, 3) := dk_160 0 32 (dk_at dksX6_net_1 15 rfl rfl)
theorem dX6_net_42 : decode cX6_net 42 = .ok (.iload_n 1, 1) := dk_27 (dk_at dksX6_net_1 18 rfl rfl)
theorem dX6_net_43 : decode cX6_net 43 = .ok (.iload 6, 2) := dk_21 6 (dk_at dksX6_net_1 19 rfl rfl)
theorem dX6_net_45 : decode cX6_net 45 = .ok (.bipush 8, 2) := dk_16 8 (dk_at dksX6_net_1 21 rfl rfl)
theorem dX6_net_47 : decode cX6_net 47 = .ok (.irem, 1) := dk_112 (dk_at dksX6_net_1 23 rfl rfl)
theorem dX6_net_48 : decode cX6_net 48 = .ok (.ishr, 1) := dk_122 (dk_at dksX6_net_2 0 rfl rfl)
theorem dX6_net_49 : decode cX6_net 49 = .ok (.iconst 1, 1) := dk_4 (dk_at dksX6_net_2 1 rfl rfl)
theorem dX6_net_50 : decode cX6_net 50 = .ok (.iand, 1) := dk_126 (dk_at dksX6_net_2 2 rfl rfl)
theorem dX6_net_51 : decode cX6_net 51 = .ok (.ifCond .ne 20, 3) := dk_154 0 20 (dk_at dksX6_net_2 3 rfl rfl)
theorem dX6_net_54 : decode cX6_net 54 = .ok (.aload_n 0, 1) := dk_42 (dk_at dksX6_net_2 6 rfl rfl)
theorem dX6_net_55 : decode cX6_net 55 = .ok (.getfield 7, 3) := dk_180 0 7 (dk_at dksX6_net_2 7 rfl rfl)
theorem dX6_net_58 : decode cX6_net 58 = .ok (.bipush 8, 2) := dk_16 8 (dk_at dksX6_net_2 10 rfl rfl)
theorem dX6_net_60 : decode cX6_net 60 = .ok (.iload 6, 2) := dk_21 6 (dk_at dksX6_net_2 12 rfl rfl)
theorem dX6_net_62 : decode cX6_net 62 = .ok (.iadd, 1) := dk_96 (dk_at dksX6_net_2 14 rfl rfl)
theorem dX6_net_63 : decode cX6_net 63 = .ok (.iaload, 1) := dk_46 (dk_at dksX6_net_2 15 rfl rfl)
theorem dX6_net_64 : decode cX6_net 64 = .ok (.ifCond .le 7, 3) := dk_158 0 7 (dk_at dksX6_net_2 16 rfl rfl)
theorem dX6_net_67 : decode cX6_net 67 = .ok (.iconst 1, 1) := dk_4 (dk_at dksX6_net_2 19 rfl rfl)
theorem dX6_net_68 : decode cX6_net 68 = .ok (.goto 4, 3) := dk_167 0 4 (dk_at dksX6_net_2 20 rfl rfl)
theorem dX6_net_71 : decode cX6_net 71 = .ok (.iconst 0, 1) := dk_3 (dk_at dksX6_net_2 23 rfl rfl)
theorem dX6_net_72 : decode cX6_net 72 = .ok (.istore 7, 2) := dk_54 7 (dk_at dksX6_net_3 0 rfl rfl)
theorem dX6_net_74 : decode cX6_net 74 = .ok (.iload 7, 2) := dk_21 7 (dk_at dksX6_net_3 2 rfl rfl)
theorem dX6_net_76 : decode cX6_net 76 = .ok (.ifCond .eq 37, 3) := dk_153 0 37 (dk_at dksX6_net_3 4 rfl rfl)
theorem dX6_net_79 : decode cX6_net 79 = .ok (.aload_n 0, 1) := dk_42 (dk_at dksX6_net_3 7 rfl rfl)
theorem dX6_net_80 : decode cX6_net 80 = .ok (.getfield 7, 3) := dk_180 0 7 (dk_at dksX6_net_3 8 rfl rfl)
theorem dX6_net_83 : decode cX6_net 83 = .ok (.bipush 8, 2) := dk_16 8 (dk_at dksX6_net_3 11 rfl rfl)
theorem dX6_net_85 : decode cX6_net 85 = .ok (.iload 6, 2) := dk_21 6 (dk_at dksX6_net_3 13 rfl rfl)
theorem dX6_net_87 : decode cX6_net 87 = .ok (.iadd, 1) := dk_96 (dk_at dksX6_net_3 15 rfl rfl)
theorem dX6_net_88 : decode cX6_net 88 = .ok (.iaload, 1) := dk_46 (dk_at dksX6_net_3 16 rfl rfl)
theorem dX6_net_89 : decode cX6_net 89 = .ok (.iload 5, 2) := dk_21 5 (dk_at dksX6_net_3 17 rfl rfl)
theorem dX6_net_91 : decode cX6_net 91 = .ok (.if_icmp .ge 22, 3) := dk_162 0 22 (dk_at dksX6_net_3 19 rfl rfl)
theorem dX6_net_94 : decode cX6_net 94 = .ok (.aload_n 0, 1) := dk_42 (dk_at dksX6_net_3 22 rfl rfl)
theorem dX6_net_95 : decode cX6_net 95 = .ok (.getfield 7, 3) := dk_180 0 7 (dk_at dksX6_net_4 0 rfl rfl)
theorem dX6_net_98 : decode cX6_net 98 = .ok (.bipush 8, 2) := dk_16 8 (dk_at dksX6_net_4 3 rfl rfl)
theorem dX6_net_100 : decode cX6_net 100 = .ok (.iload 6, 2) := dk_21 6 (dk_at dksX6_net_4 5 rfl rfl)
theorem dX6_net_102 : decode cX6_net 102 = .ok (.iadd, 1) := dk_96 (dk_at dksX6_net_4 7 rfl rfl)
theorem dX6_net_103 : decode cX6_net 103 = .ok (.iaload, 1) := dk_46 (dk_at dksX6_net_4 8 rfl rfl)
theorem dX6_net_104 : decode cX6_net 104 = .ok (.istore 5, 2) := dk_54 5 (dk_at dksX6_net_4 9 rfl rfl)
theorem dX6_net_106 : decode cX6_net 106 = .ok (.iload 6, 2) := dk_21 6 (dk_at dksX6_net_4 11 rfl rfl)
theorem dX6_net_108 : decode cX6_net 108 = .ok (.bipush 8, 2) := dk_16 8 (dk_at dksX6_net_4 13 rfl rfl)
theorem dX6_net_110 : decode cX6_net 110 = .ok (.irem, 1) := dk_112 (dk_at dksX6_net_4 15 rfl rfl)
theorem dX6_net_111 : decode cX6_net 111 = .ok (.istore 4, 2) := dk_54 4 (dk_at dksX6_net_4 16 rfl rfl)
theorem dX6_net_113 : decode cX6_net 113 = .ok (.iinc 6 1, 3) := dk_132 6 1 (dk_at dksX6_net_4 18 rfl rfl)
theorem dX6_net_116 : decode cX6_net 116 = .ok (.goto (-94), 3) := dk_167 255 162 (dk_at dksX6_net_4 21 rfl rfl)
theorem dX6_net_119 : decode cX6_net 119 = .ok (.iload 4, 2) := dk_21 4 (dk_at dksX6_net_5 0 rfl rfl)
theorem dX6_net_121 : decode cX6_net 121 = .ok (.ifCond .ge 10, 3) := dk_156 0 10 (dk_at dksX6_net_5 2 rfl rfl)
theorem dX6_net_124 : decode cX6_net 124 = .ok (.aload_n 0, 1) := dk_42 (dk_at dksX6_net_5 5 rfl rfl)
theorem dX6_net_125 : decode cX6_net 125 = .ok (.ldc 249, 2) := dk_18 249 (dk_at dksX6_net_5 6 rfl rfl)
theorem dX6_net_127 : decode cX6_net 127 = .ok (.invokevirtual 68, 3) := dk_182 0 68 (dk_at dksX6_net_5 8 rfl rfl)
theorem dX6_net_130 : decode cX6_net 130 = .ok (.ireturn, 1) := dk_172 (dk_at dksX6_net_5 11 rfl rfl)
theorem dX6_net_131 : decode cX6_net 131 = .ok (.iload_n 1, 1) := dk_27 (dk_at dksX6_net_5 12 rfl rfl)
theorem dX6_net_132 : decode cX6_net 132 = .ok (.iconst 1, 1) := dk_4 (dk_at dksX6_net_5 13 rfl rfl)
theorem dX6_net_133 : decode cX6_net 133 = .ok (.iload 4, 2) := dk_21 4 (dk_at dksX6_net_5 14 rfl rfl)
theorem dX6_net_135 : decode cX6_net 135 = .ok (.ishl, 1) := dk_120 (dk_at dksX6_net_5 16 rfl rfl)
theorem dX6_net_136 : decode cX6_net 136 = .ok (.ior, 1) := dk_128 (dk_at dksX6_net_5 17 rfl rfl)
theorem dX6_net_137 : decode cX6_net 137 = .ok (.istore_n 1, 1) := dk_60 (dk_at dksX6_net_5 18 rfl rfl)
theorem dX6_net_138 : decode cX6_net 138 = .ok (.iload_n 2, 1) := dk_28 (dk_at dksX6_net_5 19 rfl rfl)
theorem dX6_net_139 : decode cX6_net 139 = .ok (.iload 5, 2) := dk_21 5 (dk_at dksX6_net_5 20 rfl rfl)
theorem dX6_net_141 : decode cX6_net 141 = .ok (.iadd, 1) := dk_96 (dk_at dksX6_net_5 22 rfl rfl)
theorem dX6_net_142 : decode cX6_net 142 = .ok (.istore_n 2, 1) := dk_61 (dk_at dksX6_net_5 23 rfl rfl)
theorem dX6_net_143 : decode cX6_net 143 = .ok (.iinc 3 1, 3) := dk_132 3 1 (dk_at dksX6_net_6 0 rfl rfl)
theorem dX6_net_146 : decode cX6_net 146 = .ok (.goto (-140), 3) := dk_167 255 116 (dk_at dksX6_net_6 3 rfl rfl)
theorem dX6_net_149 : decode cX6_net 149 = .ok (.iload_n 2, 1) := dk_28 (dk_at dksX6_net_6 6 rfl rfl)
theorem dX6_net_150 : decode cX6_net 150 = .ok (.ireturn, 1) := dk_172 (dk_at dksX6_net_6 7 rfl rfl)
abbrev cX6_shortest : ByteArray := prog_30_method_73_code
def yX6_shortest : MethodName := ⟨RX6, "shortest", "(II)I"⟩
def dkwX6_shortest_7 : List UInt8 := [18, 227, 162, 0, 12, 42, 180, 0, 22, 28, 46, 167, 0, 9, 42, 18, 249, 182, 0, 68, 172]
abbrev dktX6_shortest_7 : List UInt8 := dkwX6_shortest_7 ++ []
def dkwX6_shortest_6 : List UInt8 := [16, 8, 112, 46, 79, 132, 4, 1, 167, 255, 170, 132, 3, 1, 167, 255, 155, 42, 180, 0, 22, 28, 46]
abbrev dktX6_shortest_6 : List UInt8 := dkwX6_shortest_6 ++ dktX6_shortest_7
def dkwX6_shortest_5 : List UInt8 := [180, 0, 22, 21, 4, 16, 8, 112, 46, 162, 0, 8, 21, 5, 167, 0, 13, 42, 180, 0, 22, 21, 4]
abbrev dktX6_shortest_5 : List UInt8 := dkwX6_shortest_5 ++ dktX6_shortest_6
def dkwX6_shortest_4 : List UInt8 := [180, 0, 22, 21, 4, 16, 8, 112, 42, 180, 0, 7, 16, 8, 21, 4, 96, 46, 158, 0, 23, 21, 5, 42]
abbrev dktX6_shortest_4 : List UInt8 := dkwX6_shortest_4 ++ dktX6_shortest_5
def dkwX6_shortest_3 : List UInt8 := [42, 180, 0, 22, 21, 4, 16, 8, 108, 46, 42, 180, 0, 7, 16, 8, 21, 4, 96, 46, 96, 54, 5, 42]
abbrev dktX6_shortest_3 : List UInt8 := dkwX6_shortest_3 ++ dktX6_shortest_4
def dkwX6_shortest_2 : List UInt8 := [132, 3, 1, 167, 255, 230, 3, 62, 29, 16, 8, 162, 0, 101, 3, 54, 4, 21, 4, 16, 64, 162, 0, 85]
abbrev dktX6_shortest_2 : List UInt8 := dkwX6_shortest_2 ++ dktX6_shortest_3
def dkwX6_shortest_1 : List UInt8 := [16, 8, 162, 0, 26, 42, 180, 0, 22, 29, 29, 27, 160, 0, 7, 3, 167, 0, 5, 18, 227, 79]
abbrev dktX6_shortest_1 : List UInt8 := dkwX6_shortest_1 ++ dktX6_shortest_2
def dkwX6_shortest_0 : List UInt8 := [27, 184, 0, 58, 153, 0, 10, 28, 184, 0, 58, 154, 0, 10, 42, 18, 67, 182, 0, 68, 172, 3, 62, 29]
abbrev dktX6_shortest_0 : List UInt8 := dkwX6_shortest_0 ++ dktX6_shortest_1
theorem dksX6_shortest_0 : cX6_shortest.data.toList.drop 0 = dktX6_shortest_0 := by decide +kernel
theorem dksX6_shortest_1 : cX6_shortest.data.toList.drop 24 = dktX6_shortest_1 := dk_seg dksX6_shortest_0 24 rfl rfl
theorem dksX6_shortest_2 : cX6_shortest.data.toList.drop 46 = dktX6_shortest_2 := dk_seg dksX6_shortest_1 22 rfl rfl
theorem dksX6_shortest_3 : cX6_shortest.data.toList.drop 70 = dktX6_shortest_3 := dk_seg dksX6_shortest_2 24 rfl rfl
theorem dksX6_shortest_4 : cX6_shortest.data.toList.drop 94 = dktX6_shortest_4 := dk_seg dksX6_shortest_3 24 rfl rfl
theorem dksX6_shortest_5 : cX6_shortest.data.toList.drop 118 = dktX6_shortest_5 := dk_seg dksX6_shortest_4 24 rfl rfl
theorem dksX6_shortest_6 : cX6_shortest.data.toList.drop 141 = dktX6_shortest_6 := dk_seg dksX6_shortest_5 23 rfl rfl
theorem dksX6_shortest_7 : cX6_shortest.data.toList.drop 164 = dktX6_shortest_7 := dk_seg dksX6_shortest_6 23 rfl rfl
theorem dX6_shortest_0 : decode cX6_shortest 0 = .ok (.iload_n 1, 1) := dk_27 (dk_at dksX6_shortest_0 0 rfl rfl)
theorem dX6_shortest_1 : decode cX6_shortest 1 = .ok (.invokestatic 58, 3) := dk_184 0 58 (dk_at dksX6_shortest_0 1 rfl rfl)
theorem dX6_shortest_4 : decode cX6_shortest 4 = .ok (.ifCond .eq 10, 3) := dk_153 0 10 (dk_at dksX6_shortest_0 4 rfl rfl)
theorem dX6_shortest_7 : decode cX6_shortest 7 = .ok (.iload_n 2, 1) := dk_28 (dk_at dksX6_shortest_0 7 rfl rfl)
theorem dX6_shortest_8 : decode cX6_shortest 8 = .ok (.invokestatic 58, 3) := dk_184 0 58 (dk_at dksX6_shortest_0 8 rfl rfl)
theorem dX6_shortest_11 : decode cX6_shortest 11 = .ok (.ifCond .ne 10, 3) := dk_154 0 10 (dk_at dksX6_shortest_0 11 rfl rfl)
theorem dX6_shortest_14 : decode cX6_shortest 14 = .ok (.aload_n 0, 1) := dk_42 (dk_at dksX6_shortest_0 14 rfl rfl)
theorem dX6_shortest_15 : decode cX6_shortest 15 = .ok (.ldc 67, 2) := dk_18 67 (dk_at dksX6_shortest_0 15 rfl rfl)
theorem dX6_shortest_17 : decode cX6_shortest 17 = .ok (.invokevirtual 68, 3) := dk_182 0 68 (dk_at dksX6_shortest_0 17 rfl rfl)
theorem dX6_shortest_20 : decode cX6_shortest 20 = .ok (.ireturn, 1) := dk_172 (dk_at dksX6_shortest_0 20 rfl rfl)
theorem dX6_shortest_21 : decode cX6_shortest 21 = .ok (.iconst 0, 1) := dk_3 (dk_at dksX6_shortest_0 21 rfl rfl)
theorem dX6_shortest_22 : decode cX6_shortest 22 = .ok (.istore_n 3, 1) := dk_62 (dk_at dksX6_shortest_0 22 rfl rfl)
theorem dX6_shortest_23 : decode cX6_shortest 23 = .ok (.iload_n 3, 1) := dk_29 (dk_at dksX6_shortest_0 23 rfl rfl)
theorem dX6_shortest_24 : decode cX6_shortest 24 = .ok (.bipush 8, 2) := dk_16 8 (dk_at dksX6_shortest_1 0 rfl rfl)
theorem dX6_shortest_26 : decode cX6_shortest 26 = .ok (.if_icmp .ge 26, 3) := dk_162 0 26 (dk_at dksX6_shortest_1 2 rfl rfl)
theorem dX6_shortest_29 : decode cX6_shortest 29 = .ok (.aload_n 0, 1) := dk_42 (dk_at dksX6_shortest_1 5 rfl rfl)
theorem dX6_shortest_30 : decode cX6_shortest 30 = .ok (.getfield 22, 3) := dk_180 0 22 (dk_at dksX6_shortest_1 6 rfl rfl)
theorem dX6_shortest_33 : decode cX6_shortest 33 = .ok (.iload_n 3, 1) := dk_29 (dk_at dksX6_shortest_1 9 rfl rfl)
theorem dX6_shortest_34 : decode cX6_shortest 34 = .ok (.iload_n 3, 1) := dk_29 (dk_at dksX6_shortest_1 10 rfl rfl)
theorem dX6_shortest_35 : decode cX6_shortest 35 = .ok (.iload_n 1, 1) := dk_27 (dk_at dksX6_shortest_1 11 rfl rfl)
theorem dX6_shortest_36 : decode cX6_shortest 36 = .ok (.if_icmp .ne 7, 3) := dk_160 0 7 (dk_at dksX6_shortest_1 12 rfl rfl)
theorem dX6_shortest_39 : decode cX6_shortest 39 = .ok (.iconst 0, 1) := dk_3 (dk_at dksX6_shortest_1 15 rfl rfl)
theorem dX6_shortest_40 : decode cX6_shortest 40 = .ok (.goto 5, 3) := dk_167 0 5 (dk_at dksX6_shortest_1 16 rfl rfl)
theorem dX6_shortest_43 : decode cX6_shortest 43 = .ok (.ldc 227, 2) := dk_18 227 (dk_at dksX6_shortest_1 19 rfl rfl)
theorem dX6_shortest_45 : decode cX6_shortest 45 = .ok (.iastore, 1) := dk_79 (dk_at dksX6_shortest_1 21 rfl rfl)
theorem dX6_shortest_46 : decode cX6_shortest 46 = .ok (.iinc 3 1, 3) := dk_132 3 1 (dk_at dksX6_shortest_2 0 rfl rfl)
theorem dX6_shortest_49 : decode cX6_shortest 49 = .ok (.goto (-26), 3) := dk_167 255 230 (dk_at dksX6_shortest_2 3 rfl rfl)
theorem dX6_shortest_52 : decode cX6_shortest 52 = .ok (.iconst 0, 1) := dk_3 (dk_at dksX6_shortest_2 6 rfl rfl)
theorem dX6_shortest_53 : decode cX6_shortest 53 = .ok (.istore_n 3, 1) := dk_62 (dk_at dksX6_shortest_2 7 rfl rfl)
theorem dX6_shortest_54 : decode cX6_shortest 54 = .ok (.iload_n 3, 1) := dk_29 (dk_at dksX6_shortest_2 8 rfl rfl)
theorem dX6_shortest_55 : decode cX6_shortest 55 = .ok (.bipush 8, 2) := dk_16 8 (dk_at dksX6_shortest_2 9 rfl rfl)
theorem dX6_shortest_57 : decode cX6_shortest 57 = .ok (.if_icmp .ge 101, 3) := dk_162 0 101 (dk_at dksX6_shortest_2 11 rfl rfl)
theorem dX6_shortest_60 : decode cX6_shortest 60 = .ok (.iconst 0, 1) := dk_3 (dk_at dksX6_shortest_2 14 rfl rfl)
theorem dX6_shortest_61 : decode cX6_shortest 61 = .ok (.istore 4, 2) := dk_54 4 (dk_at dksX6_shortest_2 15 rfl rfl)
theorem dX6_shortest_63 : decode cX6_shortest 63 = .ok (.iload 4, 2) := dk_21 4 (dk_at dksX6_shortest_2 17 rfl rfl)
theorem dX6_shortest_65 : decode cX6_shortest 65 = .ok (.bipush 64, 2) := dk_16 64 (dk_at dksX6_shortest_2 19 rfl rfl)
theorem dX6_shortest_67 : decode cX6_shortest 67 = .ok (.if_icmp .ge 85, 3) := dk_162 0 85 (dk_at dksX6_shortest_2 21 rfl rfl)
theorem dX6_shortest_70 : decode cX6_shortest 70 = .ok (.aload_n 0, 1) := dk_42 (dk_at dksX6_shortest_3 0 rfl rfl)
theorem dX6_shortest_71 : decode cX6_shortest 71 = .ok (.getfield 22, 3) := dk_180 0 22 (dk_at dksX6_shortest_3 1 rfl rfl)
theorem dX6_shortest_74 : decode cX6_shortest 74 = .ok (.iload 4, 2) := dk_21 4 (dk_at dksX6_shortest_3 4 rfl rfl)
theorem dX6_shortest_76 : decode cX6_shortest 76 = .ok (.bipush 8, 2) := dk_16 8 (dk_at dksX6_shortest_3 6 rfl rfl)
theorem dX6_shortest_78 : decode cX6_shortest 78 = .ok (.idiv, 1) := dk_108 (dk_at dksX6_shortest_3 8 rfl rfl)
theorem dX6_shortest_79 : decode cX6_shortest 79 = .ok (.iaload, 1) := dk_46 (dk_at dksX6_shortest_3 9 rfl rfl)
theorem dX6_shortest_80 : decode cX6_shortest 80 = .ok (.aload_n 0, 1) := dk_42 (dk_at dksX6_shortest_3 10 rfl rfl)
theorem dX6_shortest_81 : decode cX6_shortest 81 = .ok (.getfield 7, 3) := dk_180 0 7 (dk_at dksX6_shortest_3 11 rfl rfl)
theorem dX6_shortest_84 : decode cX6_shortest 84 = .ok (.bipush 8, 2) := dk_16 8 (dk_at dksX6_shortest_3 14 rfl rfl)
theorem dX6_shortest_86 : decode cX6_shortest 86 = .ok (.iload 4, 2) := dk_21 4 (dk_at dksX6_shortest_3 16 rfl rfl)
theorem dX6_shortest_88 : decode cX6_shortest 88 = .ok (.iadd, 1) := dk_96 (dk_at dksX6_shortest_3 18 rfl rfl)
theorem dX6_shortest_89 : decode cX6_shortest 89 = .ok (.iaload, 1) := dk_46 (dk_at dksX6_shortest_3 19 rfl rfl)
theorem dX6_shortest_90 : decode cX6_shortest 90 = .ok (.iadd, 1) := dk_96 (dk_at dksX6_shortest_3 20 rfl rfl)
theorem dX6_shortest_91 : decode cX6_shortest 91 = .ok (.istore 5, 2) := dk_54 5 (dk_at dksX6_shortest_3 21 rfl rfl)
theorem dX6_shortest_93 : decode cX6_shortest 93 = .ok (.aload_n 0, 1) := dk_42 (dk_at dksX6_shortest_3 23 rfl rfl)
theorem dX6_shortest_94 : decode cX6_shortest 94 = .ok (.getfield 22, 3) := dk_180 0 22 (dk_at dksX6_shortest_4 0 rfl rfl)
theorem dX6_shortest_97 : decode cX6_shortest 97 = .ok (.iload 4, 2) := dk_21 4 (dk_at dksX6_shortest_4 3 rfl rfl)
theorem dX6_shortest_99 : decode cX6_shortest 99 = .ok (.bipush 8, 2) := dk_16 8 (dk_at dksX6_shortest_4 5 rfl rfl)
theorem dX6_shortest_101 : decode cX6_shortest 101 = .ok (.irem, 1) := dk_112 (dk_at dksX6_shortest_4 7 rfl rfl)
theorem dX6_shortest_102 : decode cX6_shortest 102 = .ok (.aload_n 0, 1) := dk_42 (dk_at dksX6_shortest_4 8 rfl rfl)
theorem dX6_shortest_103 : decode cX6_shortest 103 = .ok (.getfield 7, 3) := dk_180 0 7 (dk_at dksX6_shortest_4 9 rfl rfl)
theorem dX6_shortest_106 : decode cX6_shortest 106 = .ok (.bipush 8, 2) := dk_16 8 (dk_at dksX6_shortest_4 12 rfl rfl)
theorem dX6_shortest_108 : decode cX6_shortest 108 = .ok (.iload 4, 2) := dk_21 4 (dk_at dksX6_shortest_4 14 rfl rfl)
theorem dX6_shortest_110 : decode cX6_shortest 110 = .ok (.iadd, 1) := dk_96 (dk_at dksX6_shortest_4 16 rfl rfl)
theorem dX6_shortest_111 : decode cX6_shortest 111 = .ok (.iaload, 1) := dk_46 (dk_at dksX6_shortest_4 17 rfl rfl)
theorem dX6_shortest_112 : decode cX6_shortest 112 = .ok (.ifCond .le 23, 3) := dk_158 0 23 (dk_at dksX6_shortest_4 18 rfl rfl)
theorem dX6_shortest_115 : decode cX6_shortest 115 = .ok (.iload 5, 2) := dk_21 5 (dk_at dksX6_shortest_4 21 rfl rfl)
theorem dX6_shortest_117 : decode cX6_shortest 117 = .ok (.aload_n 0, 1) := dk_42 (dk_at dksX6_shortest_4 23 rfl rfl)
theorem dX6_shortest_118 : decode cX6_shortest 118 = .ok (.getfield 22, 3) := dk_180 0 22 (dk_at dksX6_shortest_5 0 rfl rfl)
theorem dX6_shortest_121 : decode cX6_shortest 121 = .ok (.iload 4, 2) := dk_21 4 (dk_at dksX6_shortest_5 3 rfl rfl)
theorem dX6_shortest_123 : decode cX6_shortest 123 = .ok (.bipush 8, 2) := dk_16 8 (dk_at dksX6_shortest_5 5 rfl rfl)
theorem dX6_shortest_125 : decode cX6_shortest 125 = .ok (.irem, 1) := dk_112 (dk_at dksX6_shortest_5 7 rfl rfl)
theorem dX6_shortest_126 : decode cX6_shortest 126 = .ok (.iaload, 1) := dk_46 (dk_at dksX6_shortest_5 8 rfl rfl)
theorem dX6_shortest_127 : decode cX6_shortest 127 = .ok (.if_icmp .ge 8, 3) := dk_162 0 8 (dk_at dksX6_shortest_5 9 rfl rfl)
theorem dX6_shortest_130 : decode cX6_shortest 130 = .ok (.iload 5, 2) := dk_21 5 (dk_at dksX6_shortest_5 12 rfl rfl)
theorem dX6_shortest_132 : decode cX6_shortest 132 = .ok (.goto 13, 3) := dk_167 0 13 (dk_at dksX6_shortest_5 14 rfl rfl)
theorem dX6_shortest_135 : decode cX6_shortest 135 = .ok (.aload_n 0, 1) := dk_42 (dk_at dksX6_shortest_5 17 rfl rfl)
theorem dX6_shortest_136 : decode cX6_shortest 136 = .ok (.getfield 22, 3) := dk_180 0 22 (dk_at dksX6_shortest_5 18 rfl rfl)
theorem dX6_shortest_139 : decode cX6_shortest 139 = .ok (.iload 4, 2) := dk_21 4 (dk_at dksX6_shortest_5 21 rfl rfl)
theorem dX6_shortest_141 : decode cX6_shortest 141 = .ok (.bipush 8, 2) := dk_16 8 (dk_at dksX6_shortest_6 0 rfl rfl)
theorem dX6_shortest_143 : decode cX6_shortest 143 = .ok (.irem, 1) := dk_112 (dk_at dksX6_shortest_6 2 rfl rfl)
theorem dX6_shortest_144 : decode cX6_shortest 144 = .ok (.iaload, 1) := dk_46 (dk_at dksX6_shortest_6 3 rfl rfl)
theorem dX6_shortest_145 : decode cX6_shortest 145 = .ok (.iastore, 1) := dk_79 (dk_at dksX6_shortest_6 4 rfl rfl)
theorem dX6_shortest_146 : decode cX6_shortest 146 = .ok (.iinc 4 1, 3) := dk_132 4 1 (dk_at dksX6_shortest_6 5 rfl rfl)
theorem dX6_shortest_149 : decode cX6_shortest 149 = .ok (.goto (-86), 3) := dk_167 255 170 (dk_at dksX6_shortest_6 8 rfl rfl)
theorem dX6_shortest_152 : decode cX6_shortest 152 = .ok (.iinc 3 1, 3) := dk_132 3 1 (dk_at dksX6_shortest_6 11 rfl rfl)
theorem dX6_shortest_155 : decode cX6_shortest 155 = .ok (.goto (-101), 3) := dk_167 255 155 (dk_at dksX6_shortest_6 14 rfl rfl)
theorem dX6_shortest_158 : decode cX6_shortest 158 = .ok (.aload_n 0, 1) := dk_42 (dk_at dksX6_shortest_6 17 rfl rfl)
theorem dX6_shortest_159 : decode cX6_shortest 159 = .ok (.getfield 22, 3) := dk_180 0 22 (dk_at dksX6_shortest_6 18 rfl rfl)
theorem dX6_shortest_162 : decode cX6_shortest 162 = .ok (.iload_n 2, 1) := dk_28 (dk_at dksX6_shortest_6 21 rfl rfl)
theorem dX6_shortest_163 : decode cX6_shortest 163 = .ok (.iaload, 1) := dk_46 (dk_at dksX6_shortest_6 22 rfl rfl)
theorem dX6_shortest_164 : decode cX6_shortest 164 = .ok (.ldc 227, 2) := dk_18 227 (dk_at dksX6_shortest_7 0 rfl rfl)
theorem dX6_shortest_166 : decode cX6_shortest 166 = .ok (.if_icmp .ge 12, 3) := dk_162 0 12 (dk_at dksX6_shortest_7 2 rfl rfl)
theorem dX6_shortest_169 : decode cX6_shortest 169 = .ok (.aload_n 0, 1) := dk_42 (dk_at dksX6_shortest_7 5 rfl rfl)
theorem dX6_shortest_170 : decode cX6_shortest 170 = .ok (.getfield 22, 3) := dk_180 0 22 (dk_at dksX6_shortest_7 6 rfl rfl)
theorem dX6_shortest_173 : decode cX6_shortest 173 = .ok (.iload_n 2, 1) := dk_28 (dk_at dksX6_shortest_7 9 rfl rfl)
theorem dX6_shortest_174 : decode cX6_shortest 174 = .ok (.iaload, 1) := dk_46 (dk_at dksX6_shortest_7 10 rfl rfl)
theorem dX6_shortest_175 : decode cX6_shortest 175 = .ok (.goto 9, 3) := dk_167 0 9 (dk_at dksX6_shortest_7 11 rfl rfl)
theorem dX6_shortest_178 : decode cX6_shortest 178 = .ok (.aload_n 0, 1) := dk_42 (dk_at dksX6_shortest_7 14 rfl rfl)
theorem dX6_shortest_179 : decode cX6_shortest 179 = .ok (.ldc 249, 2) := dk_18 249 (dk_at dksX6_shortest_7 15 rfl rfl)
theorem dX6_shortest_181 : decode cX6_shortest 181 = .ok (.invokevirtual 68, 3) := dk_182 0 68 (dk_at dksX6_shortest_7 17 rfl rfl)
theorem dX6_shortest_184 : decode cX6_shortest 184 = .ok (.ireturn, 1) := dk_172 (dk_at dksX6_shortest_7 20 rfl rfl)
abbrev cX6_walked : ByteArray := prog_30_method_75_code
def yX6_walked : MethodName := ⟨RX6, "walked", "(I)I"⟩
def dkwX6_walked_3 : List UInt8 := [182, 0, 76, 96, 61, 132, 3, 1, 167, 255, 212, 28, 172]
abbrev dktX6_walked_3 : List UInt8 := dkwX6_walked_3 ++ []
def dkwX6_walked_2 : List UInt8 := [180, 0, 37, 16, 40, 27, 104, 29, 96, 4, 100, 46, 42, 180, 0, 37, 16, 40, 27, 104, 29, 96, 46]
abbrev dktX6_walked_2 : List UInt8 := dkwX6_walked_2 ++ dktX6_walked_3
def dkwX6_walked_1 : List UInt8 := [18, 249, 182, 0, 68, 172, 3, 61, 4, 62, 29, 42, 180, 0, 34, 27, 46, 162, 0, 40, 28, 42, 42]
abbrev dktX6_walked_1 : List UInt8 := dkwX6_walked_1 ++ dktX6_walked_2
def dkwX6_walked_0 : List UInt8 := [27, 184, 1, 1, 154, 0, 10, 42, 18, 67, 182, 0, 68, 172, 42, 27, 182, 1, 4, 154, 0, 10, 42]
abbrev dktX6_walked_0 : List UInt8 := dkwX6_walked_0 ++ dktX6_walked_1
theorem dksX6_walked_0 : cX6_walked.data.toList.drop 0 = dktX6_walked_0 := by decide +kernel
theorem dksX6_walked_1 : cX6_walked.data.toList.drop 23 = dktX6_walked_1 := dk_seg dksX6_walked_0 23 rfl rfl
theorem dksX6_walked_2 : cX6_walked.data.toList.drop 46 = dktX6_walked_2 := dk_seg dksX6_walked_1 23 rfl rfl
theorem dksX6_walked_3 : cX6_walked.data.toList.drop 69 = dktX6_walked_3 := dk_seg dksX6_walked_2 23 rfl rfl
theorem dX6_walked_0 : decode cX6_walked 0 = .ok (.iload_n 1, 1) := dk_27 (dk_at dksX6_walked_0 0 rfl rfl)
theorem dX6_walked_1 : decode cX6_walked 1 = .ok (.invokestatic 257, 3) := dk_184 1 1 (dk_at dksX6_walked_0 1 rfl rfl)
theorem dX6_walked_4 : decode cX6_walked 4 = .ok (.ifCond .ne 10, 3) := dk_154 0 10 (dk_at dksX6_walked_0 4 rfl rfl)
theorem dX6_walked_7 : decode cX6_walked 7 = .ok (.aload_n 0, 1) := dk_42 (dk_at dksX6_walked_0 7 rfl rfl)
theorem dX6_walked_8 : decode cX6_walked 8 = .ok (.ldc 67, 2) := dk_18 67 (dk_at dksX6_walked_0 8 rfl rfl)
theorem dX6_walked_10 : decode cX6_walked 10 = .ok (.invokevirtual 68, 3) := dk_182 0 68 (dk_at dksX6_walked_0 10 rfl rfl)
theorem dX6_walked_13 : decode cX6_walked 13 = .ok (.ireturn, 1) := dk_172 (dk_at dksX6_walked_0 13 rfl rfl)
theorem dX6_walked_14 : decode cX6_walked 14 = .ok (.aload_n 0, 1) := dk_42 (dk_at dksX6_walked_0 14 rfl rfl)
theorem dX6_walked_15 : decode cX6_walked 15 = .ok (.iload_n 1, 1) := dk_27 (dk_at dksX6_walked_0 15 rfl rfl)
theorem dX6_walked_16 : decode cX6_walked 16 = .ok (.invokevirtual 260, 3) := dk_182 1 4 (dk_at dksX6_walked_0 16 rfl rfl)
theorem dX6_walked_19 : decode cX6_walked 19 = .ok (.ifCond .ne 10, 3) := dk_154 0 10 (dk_at dksX6_walked_0 19 rfl rfl)
theorem dX6_walked_22 : decode cX6_walked 22 = .ok (.aload_n 0, 1) := dk_42 (dk_at dksX6_walked_0 22 rfl rfl)
theorem dX6_walked_23 : decode cX6_walked 23 = .ok (.ldc 249, 2) := dk_18 249 (dk_at dksX6_walked_1 0 rfl rfl)
theorem dX6_walked_25 : decode cX6_walked 25 = .ok (.invokevirtual 68, 3) := dk_182 0 68 (dk_at dksX6_walked_1 2 rfl rfl)
theorem dX6_walked_28 : decode cX6_walked 28 = .ok (.ireturn, 1) := dk_172 (dk_at dksX6_walked_1 5 rfl rfl)
theorem dX6_walked_29 : decode cX6_walked 29 = .ok (.iconst 0, 1) := dk_3 (dk_at dksX6_walked_1 6 rfl rfl)
theorem dX6_walked_30 : decode cX6_walked 30 = .ok (.istore_n 2, 1) := dk_61 (dk_at dksX6_walked_1 7 rfl rfl)
theorem dX6_walked_31 : decode cX6_walked 31 = .ok (.iconst 1, 1) := dk_4 (dk_at dksX6_walked_1 8 rfl rfl)
theorem dX6_walked_32 : decode cX6_walked 32 = .ok (.istore_n 3, 1) := dk_62 (dk_at dksX6_walked_1 9 rfl rfl)
theorem dX6_walked_33 : decode cX6_walked 33 = .ok (.iload_n 3, 1) := dk_29 (dk_at dksX6_walked_1 10 rfl rfl)
theorem dX6_walked_34 : decode cX6_walked 34 = .ok (.aload_n 0, 1) := dk_42 (dk_at dksX6_walked_1 11 rfl rfl)
theorem dX6_walked_35 : decode cX6_walked 35 = .ok (.getfield 34, 3) := dk_180 0 34 (dk_at dksX6_walked_1 12 rfl rfl)
theorem dX6_walked_38 : decode cX6_walked 38 = .ok (.iload_n 1, 1) := dk_27 (dk_at dksX6_walked_1 15 rfl rfl)
theorem dX6_walked_39 : decode cX6_walked 39 = .ok (.iaload, 1) := dk_46 (dk_at dksX6_walked_1 16 rfl rfl)
theorem dX6_walked_40 : decode cX6_walked 40 = .ok (.if_icmp .ge 40, 3) := dk_162 0 40 (dk_at dksX6_walked_1 17 rfl rfl)
theorem dX6_walked_43 : decode cX6_walked 43 = .ok (.iload_n 2, 1) := dk_28 (dk_at dksX6_walked_1 20 rfl rfl)
theorem dX6_walked_44 : decode cX6_walked 44 = .ok (.aload_n 0, 1) := dk_42 (dk_at dksX6_walked_1 21 rfl rfl)
theorem dX6_walked_45 : decode cX6_walked 45 = .ok (.aload_n 0, 1) := dk_42 (dk_at dksX6_walked_1 22 rfl rfl)
theorem dX6_walked_46 : decode cX6_walked 46 = .ok (.getfield 37, 3) := dk_180 0 37 (dk_at dksX6_walked_2 0 rfl rfl)
theorem dX6_walked_49 : decode cX6_walked 49 = .ok (.bipush 40, 2) := dk_16 40 (dk_at dksX6_walked_2 3 rfl rfl)
theorem dX6_walked_51 : decode cX6_walked 51 = .ok (.iload_n 1, 1) := dk_27 (dk_at dksX6_walked_2 5 rfl rfl)
theorem dX6_walked_52 : decode cX6_walked 52 = .ok (.imul, 1) := dk_104 (dk_at dksX6_walked_2 6 rfl rfl)
theorem dX6_walked_53 : decode cX6_walked 53 = .ok (.iload_n 3, 1) := dk_29 (dk_at dksX6_walked_2 7 rfl rfl)
theorem dX6_walked_54 : decode cX6_walked 54 = .ok (.iadd, 1) := dk_96 (dk_at dksX6_walked_2 8 rfl rfl)
theorem dX6_walked_55 : decode cX6_walked 55 = .ok (.iconst 1, 1) := dk_4 (dk_at dksX6_walked_2 9 rfl rfl)
theorem dX6_walked_56 : decode cX6_walked 56 = .ok (.isub, 1) := dk_100 (dk_at dksX6_walked_2 10 rfl rfl)
theorem dX6_walked_57 : decode cX6_walked 57 = .ok (.iaload, 1) := dk_46 (dk_at dksX6_walked_2 11 rfl rfl)
theorem dX6_walked_58 : decode cX6_walked 58 = .ok (.aload_n 0, 1) := dk_42 (dk_at dksX6_walked_2 12 rfl rfl)
theorem dX6_walked_59 : decode cX6_walked 59 = .ok (.getfield 37, 3) := dk_180 0 37 (dk_at dksX6_walked_2 13 rfl rfl)
theorem dX6_walked_62 : decode cX6_walked 62 = .ok (.bipush 40, 2) := dk_16 40 (dk_at dksX6_walked_2 16 rfl rfl)
theorem dX6_walked_64 : decode cX6_walked 64 = .ok (.iload_n 1, 1) := dk_27 (dk_at dksX6_walked_2 18 rfl rfl)
theorem dX6_walked_65 : decode cX6_walked 65 = .ok (.imul, 1) := dk_104 (dk_at dksX6_walked_2 19 rfl rfl)
theorem dX6_walked_66 : decode cX6_walked 66 = .ok (.iload_n 3, 1) := dk_29 (dk_at dksX6_walked_2 20 rfl rfl)
theorem dX6_walked_67 : decode cX6_walked 67 = .ok (.iadd, 1) := dk_96 (dk_at dksX6_walked_2 21 rfl rfl)
theorem dX6_walked_68 : decode cX6_walked 68 = .ok (.iaload, 1) := dk_46 (dk_at dksX6_walked_2 22 rfl rfl)
theorem dX6_walked_69 : decode cX6_walked 69 = .ok (.invokevirtual 76, 3) := dk_182 0 76 (dk_at dksX6_walked_3 0 rfl rfl)
theorem dX6_walked_72 : decode cX6_walked 72 = .ok (.iadd, 1) := dk_96 (dk_at dksX6_walked_3 3 rfl rfl)
theorem dX6_walked_73 : decode cX6_walked 73 = .ok (.istore_n 2, 1) := dk_61 (dk_at dksX6_walked_3 4 rfl rfl)
theorem dX6_walked_74 : decode cX6_walked 74 = .ok (.iinc 3 1, 3) := dk_132 3 1 (dk_at dksX6_walked_3 5 rfl rfl)
theorem dX6_walked_77 : decode cX6_walked 77 = .ok (.goto (-44), 3) := dk_167 255 212 (dk_at dksX6_walked_3 8 rfl rfl)
theorem dX6_walked_80 : decode cX6_walked 80 = .ok (.iload_n 2, 1) := dk_28 (dk_at dksX6_walked_3 11 rfl rfl)
theorem dX6_walked_81 : decode cX6_walked 81 = .ok (.ireturn, 1) := dk_172 (dk_at dksX6_walked_3 12 rfl rfl)
abbrev cX6_isSheet : ByteArray := prog_30_method_92_code
def yX6_isSheet : MethodName := ⟨RX6, "isSheet", "(I)Z"⟩
def dkwX6_isSheet_0 : List UInt8 := [26, 133, 9, 20, 1, 51, 184, 0, 46, 172]
abbrev dktX6_isSheet_0 : List UInt8 := dkwX6_isSheet_0 ++ []
theorem dksX6_isSheet_0 : cX6_isSheet.data.toList.drop 0 = dktX6_isSheet_0 := by decide +kernel
theorem dX6_isSheet_0 : decode cX6_isSheet 0 = .ok (.iload_n 0, 1) := dk_26 (dk_at dksX6_isSheet_0 0 rfl rfl)
theorem dX6_isSheet_1 : decode cX6_isSheet 1 = .ok (.i2l, 1) := dk_133 (dk_at dksX6_isSheet_0 1 rfl rfl)
theorem dX6_isSheet_2 : decode cX6_isSheet 2 = .ok (.lconst 0, 1) := dk_9 (dk_at dksX6_isSheet_0 2 rfl rfl)
theorem dX6_isSheet_3 : decode cX6_isSheet 3 = .ok (.ldc2_w 307, 3) := dk_20 1 51 (dk_at dksX6_isSheet_0 3 rfl rfl)
theorem dX6_isSheet_6 : decode cX6_isSheet 6 = .ok (.invokestatic 46, 3) := dk_184 0 46 (dk_at dksX6_isSheet_0 6 rfl rfl)
theorem dX6_isSheet_9 : decode cX6_isSheet 9 = .ok (.ireturn, 1) := dk_172 (dk_at dksX6_isSheet_0 9 rfl rfl)
abbrev cX6_isWalk : ByteArray := prog_30_method_74_code
def yX6_isWalk : MethodName := ⟨RX6, "isWalk", "(I)Z"⟩
def dkwX6_isWalk_4 : List UInt8 := [21, 4, 182, 0, 76, 158, 0, 7, 4, 167, 0, 4, 3, 61, 132, 3, 1, 167, 255, 170, 28, 172]
abbrev dktX6_isWalk_4 : List UInt8 := dkwX6_isWalk_4 ++ []
def dkwX6_isWalk_3 : List UInt8 := [4, 100, 46, 54, 5, 21, 4, 184, 0, 58, 153, 0, 25, 21, 4, 21, 5, 159, 0, 14, 42, 21, 5]
abbrev dktX6_isWalk_3 : List UInt8 := dkwX6_isWalk_3 ++ dktX6_isWalk_4
def dkwX6_isWalk_2 : List UInt8 := [29, 96, 46, 54, 4, 29, 154, 0, 8, 21, 4, 167, 0, 16, 42, 180, 0, 37, 16, 40, 27, 104, 29, 96]
abbrev dktX6_isWalk_2 : List UInt8 := dkwX6_isWalk_2 ++ dktX6_isWalk_3
def dkwX6_isWalk_1 : List UInt8 := [3, 62, 29, 42, 180, 0, 34, 27, 46, 162, 0, 82, 28, 153, 0, 78, 42, 180, 0, 37, 16, 40, 27, 104]
abbrev dktX6_isWalk_1 : List UInt8 := dkwX6_isWalk_1 ++ dktX6_isWalk_2
def dkwX6_isWalk_0 : List UInt8 := [42, 180, 0, 31, 27, 46, 158, 0, 16, 42, 180, 0, 34, 27, 46, 158, 0, 7, 4, 167, 0, 4, 3, 61]
abbrev dktX6_isWalk_0 : List UInt8 := dkwX6_isWalk_0 ++ dktX6_isWalk_1
theorem dksX6_isWalk_0 : cX6_isWalk.data.toList.drop 0 = dktX6_isWalk_0 := by decide +kernel
theorem dksX6_isWalk_1 : cX6_isWalk.data.toList.drop 24 = dktX6_isWalk_1 := dk_seg dksX6_isWalk_0 24 rfl rfl
theorem dksX6_isWalk_2 : cX6_isWalk.data.toList.drop 48 = dktX6_isWalk_2 := dk_seg dksX6_isWalk_1 24 rfl rfl
theorem dksX6_isWalk_3 : cX6_isWalk.data.toList.drop 72 = dktX6_isWalk_3 := dk_seg dksX6_isWalk_2 24 rfl rfl
theorem dksX6_isWalk_4 : cX6_isWalk.data.toList.drop 95 = dktX6_isWalk_4 := dk_seg dksX6_isWalk_3 23 rfl rfl
theorem dX6_isWalk_0 : decode cX6_isWalk 0 = .ok (.aload_n 0, 1) := dk_42 (dk_at dksX6_isWalk_0 0 rfl rfl)
theorem dX6_isWalk_1 : decode cX6_isWalk 1 = .ok (.getfield 31, 3) := dk_180 0 31 (dk_at dksX6_isWalk_0 1 rfl rfl)
theorem dX6_isWalk_4 : decode cX6_isWalk 4 = .ok (.iload_n 1, 1) := dk_27 (dk_at dksX6_isWalk_0 4 rfl rfl)
theorem dX6_isWalk_5 : decode cX6_isWalk 5 = .ok (.iaload, 1) := dk_46 (dk_at dksX6_isWalk_0 5 rfl rfl)
theorem dX6_isWalk_6 : decode cX6_isWalk 6 = .ok (.ifCond .le 16, 3) := dk_158 0 16 (dk_at dksX6_isWalk_0 6 rfl rfl)
theorem dX6_isWalk_9 : decode cX6_isWalk 9 = .ok (.aload_n 0, 1) := dk_42 (dk_at dksX6_isWalk_0 9 rfl rfl)
theorem dX6_isWalk_10 : decode cX6_isWalk 10 = .ok (.getfield 34, 3) := dk_180 0 34 (dk_at dksX6_isWalk_0 10 rfl rfl)
theorem dX6_isWalk_13 : decode cX6_isWalk 13 = .ok (.iload_n 1, 1) := dk_27 (dk_at dksX6_isWalk_0 13 rfl rfl)
theorem dX6_isWalk_14 : decode cX6_isWalk 14 = .ok (.iaload, 1) := dk_46 (dk_at dksX6_isWalk_0 14 rfl rfl)
theorem dX6_isWalk_15 : decode cX6_isWalk 15 = .ok (.ifCond .le 7, 3) := dk_158 0 7 (dk_at dksX6_isWalk_0 15 rfl rfl)
theorem dX6_isWalk_18 : decode cX6_isWalk 18 = .ok (.iconst 1, 1) := dk_4 (dk_at dksX6_isWalk_0 18 rfl rfl)
theorem dX6_isWalk_19 : decode cX6_isWalk 19 = .ok (.goto 4, 3) := dk_167 0 4 (dk_at dksX6_isWalk_0 19 rfl rfl)
theorem dX6_isWalk_22 : decode cX6_isWalk 22 = .ok (.iconst 0, 1) := dk_3 (dk_at dksX6_isWalk_0 22 rfl rfl)
theorem dX6_isWalk_23 : decode cX6_isWalk 23 = .ok (.istore_n 2, 1) := dk_61 (dk_at dksX6_isWalk_0 23 rfl rfl)
theorem dX6_isWalk_24 : decode cX6_isWalk 24 = .ok (.iconst 0, 1) := dk_3 (dk_at dksX6_isWalk_1 0 rfl rfl)
theorem dX6_isWalk_25 : decode cX6_isWalk 25 = .ok (.istore_n 3, 1) := dk_62 (dk_at dksX6_isWalk_1 1 rfl rfl)
theorem dX6_isWalk_26 : decode cX6_isWalk 26 = .ok (.iload_n 3, 1) := dk_29 (dk_at dksX6_isWalk_1 2 rfl rfl)
theorem dX6_isWalk_27 : decode cX6_isWalk 27 = .ok (.aload_n 0, 1) := dk_42 (dk_at dksX6_isWalk_1 3 rfl rfl)
theorem dX6_isWalk_28 : decode cX6_isWalk 28 = .ok (.getfield 34, 3) := dk_180 0 34 (dk_at dksX6_isWalk_1 4 rfl rfl)
theorem dX6_isWalk_31 : decode cX6_isWalk 31 = .ok (.iload_n 1, 1) := dk_27 (dk_at dksX6_isWalk_1 7 rfl rfl)
theorem dX6_isWalk_32 : decode cX6_isWalk 32 = .ok (.iaload, 1) := dk_46 (dk_at dksX6_isWalk_1 8 rfl rfl)
theorem dX6_isWalk_33 : decode cX6_isWalk 33 = .ok (.if_icmp .ge 82, 3) := dk_162 0 82 (dk_at dksX6_isWalk_1 9 rfl rfl)
theorem dX6_isWalk_36 : decode cX6_isWalk 36 = .ok (.iload_n 2, 1) := dk_28 (dk_at dksX6_isWalk_1 12 rfl rfl)
theorem dX6_isWalk_37 : decode cX6_isWalk 37 = .ok (.ifCond .eq 78, 3) := dk_153 0 78 (dk_at dksX6_isWalk_1 13 rfl rfl)
theorem dX6_isWalk_40 : decode cX6_isWalk 40 = .ok (.aload_n 0, 1) := dk_42 (dk_at dksX6_isWalk_1 16 rfl rfl)
theorem dX6_isWalk_41 : decode cX6_isWalk 41 = .ok (.getfield 37, 3) := dk_180 0 37 (dk_at dksX6_isWalk_1 17 rfl rfl)
theorem dX6_isWalk_44 : decode cX6_isWalk 44 = .ok (.bipush 40, 2) := dk_16 40 (dk_at dksX6_isWalk_1 20 rfl rfl)
theorem dX6_isWalk_46 : decode cX6_isWalk 46 = .ok (.iload_n 1, 1) := dk_27 (dk_at dksX6_isWalk_1 22 rfl rfl)
theorem dX6_isWalk_47 : decode cX6_isWalk 47 = .ok (.imul, 1) := dk_104 (dk_at dksX6_isWalk_1 23 rfl rfl)
theorem dX6_isWalk_48 : decode cX6_isWalk 48 = .ok (.iload_n 3, 1) := dk_29 (dk_at dksX6_isWalk_2 0 rfl rfl)
theorem dX6_isWalk_49 : decode cX6_isWalk 49 = .ok (.iadd, 1) := dk_96 (dk_at dksX6_isWalk_2 1 rfl rfl)
theorem dX6_isWalk_50 : decode cX6_isWalk 50 = .ok (.iaload, 1) := dk_46 (dk_at dksX6_isWalk_2 2 rfl rfl)
theorem dX6_isWalk_51 : decode cX6_isWalk 51 = .ok (.istore 4, 2) := dk_54 4 (dk_at dksX6_isWalk_2 3 rfl rfl)
theorem dX6_isWalk_53 : decode cX6_isWalk 53 = .ok (.iload_n 3, 1) := dk_29 (dk_at dksX6_isWalk_2 5 rfl rfl)
theorem dX6_isWalk_54 : decode cX6_isWalk 54 = .ok (.ifCond .ne 8, 3) := dk_154 0 8 (dk_at dksX6_isWalk_2 6 rfl rfl)
theorem dX6_isWalk_57 : decode cX6_isWalk 57 = .ok (.iload 4, 2) := dk_21 4 (dk_at dksX6_isWalk_2 9 rfl rfl)
theorem dX6_isWalk_59 : decode cX6_isWalk 59 = .ok (.goto 16, 3) := dk_167 0 16 (dk_at dksX6_isWalk_2 11 rfl rfl)
theorem dX6_isWalk_62 : decode cX6_isWalk 62 = .ok (.aload_n 0, 1) := dk_42 (dk_at dksX6_isWalk_2 14 rfl rfl)
theorem dX6_isWalk_63 : decode cX6_isWalk 63 = .ok (.getfield 37, 3) := dk_180 0 37 (dk_at dksX6_isWalk_2 15 rfl rfl)
theorem dX6_isWalk_66 : decode cX6_isWalk 66 = .ok (.bipush 40, 2) := dk_16 40 (dk_at dksX6_isWalk_2 18 rfl rfl)
theorem dX6_isWalk_68 : decode cX6_isWalk 68 = .ok (.iload_n 1, 1) := dk_27 (dk_at dksX6_isWalk_2 20 rfl rfl)
theorem dX6_isWalk_69 : decode cX6_isWalk 69 = .ok (.imul, 1) := dk_104 (dk_at dksX6_isWalk_2 21 rfl rfl)
theorem dX6_isWalk_70 : decode cX6_isWalk 70 = .ok (.iload_n 3, 1) := dk_29 (dk_at dksX6_isWalk_2 22 rfl rfl)
theorem dX6_isWalk_71 : decode cX6_isWalk 71 = .ok (.iadd, 1) := dk_96 (dk_at dksX6_isWalk_2 23 rfl rfl)
theorem dX6_isWalk_72 : decode cX6_isWalk 72 = .ok (.iconst 1, 1) := dk_4 (dk_at dksX6_isWalk_3 0 rfl rfl)
theorem dX6_isWalk_73 : decode cX6_isWalk 73 = .ok (.isub, 1) := dk_100 (dk_at dksX6_isWalk_3 1 rfl rfl)
theorem dX6_isWalk_74 : decode cX6_isWalk 74 = .ok (.iaload, 1) := dk_46 (dk_at dksX6_isWalk_3 2 rfl rfl)
theorem dX6_isWalk_75 : decode cX6_isWalk 75 = .ok (.istore 5, 2) := dk_54 5 (dk_at dksX6_isWalk_3 3 rfl rfl)
theorem dX6_isWalk_77 : decode cX6_isWalk 77 = .ok (.iload 4, 2) := dk_21 4 (dk_at dksX6_isWalk_3 5 rfl rfl)
theorem dX6_isWalk_79 : decode cX6_isWalk 79 = .ok (.invokestatic 58, 3) := dk_184 0 58 (dk_at dksX6_isWalk_3 7 rfl rfl)
theorem dX6_isWalk_82 : decode cX6_isWalk 82 = .ok (.ifCond .eq 25, 3) := dk_153 0 25 (dk_at dksX6_isWalk_3 10 rfl rfl)
theorem dX6_isWalk_85 : decode cX6_isWalk 85 = .ok (.iload 4, 2) := dk_21 4 (dk_at dksX6_isWalk_3 13 rfl rfl)
theorem dX6_isWalk_87 : decode cX6_isWalk 87 = .ok (.iload 5, 2) := dk_21 5 (dk_at dksX6_isWalk_3 15 rfl rfl)
theorem dX6_isWalk_89 : decode cX6_isWalk 89 = .ok (.if_icmp .eq 14, 3) := dk_159 0 14 (dk_at dksX6_isWalk_3 17 rfl rfl)
theorem dX6_isWalk_92 : decode cX6_isWalk 92 = .ok (.aload_n 0, 1) := dk_42 (dk_at dksX6_isWalk_3 20 rfl rfl)
theorem dX6_isWalk_93 : decode cX6_isWalk 93 = .ok (.iload 5, 2) := dk_21 5 (dk_at dksX6_isWalk_3 21 rfl rfl)
theorem dX6_isWalk_95 : decode cX6_isWalk 95 = .ok (.iload 4, 2) := dk_21 4 (dk_at dksX6_isWalk_4 0 rfl rfl)
theorem dX6_isWalk_97 : decode cX6_isWalk 97 = .ok (.invokevirtual 76, 3) := dk_182 0 76 (dk_at dksX6_isWalk_4 2 rfl rfl)
theorem dX6_isWalk_100 : decode cX6_isWalk 100 = .ok (.ifCond .le 7, 3) := dk_158 0 7 (dk_at dksX6_isWalk_4 5 rfl rfl)
theorem dX6_isWalk_103 : decode cX6_isWalk 103 = .ok (.iconst 1, 1) := dk_4 (dk_at dksX6_isWalk_4 8 rfl rfl)
theorem dX6_isWalk_104 : decode cX6_isWalk 104 = .ok (.goto 4, 3) := dk_167 0 4 (dk_at dksX6_isWalk_4 9 rfl rfl)
theorem dX6_isWalk_107 : decode cX6_isWalk 107 = .ok (.iconst 0, 1) := dk_3 (dk_at dksX6_isWalk_4 12 rfl rfl)
theorem dX6_isWalk_108 : decode cX6_isWalk 108 = .ok (.istore_n 2, 1) := dk_61 (dk_at dksX6_isWalk_4 13 rfl rfl)
theorem dX6_isWalk_109 : decode cX6_isWalk 109 = .ok (.iinc 3 1, 3) := dk_132 3 1 (dk_at dksX6_isWalk_4 14 rfl rfl)
theorem dX6_isWalk_112 : decode cX6_isWalk 112 = .ok (.goto (-86), 3) := dk_167 255 170 (dk_at dksX6_isWalk_4 17 rfl rfl)
theorem dX6_isWalk_115 : decode cX6_isWalk 115 = .ok (.iload_n 2, 1) := dk_28 (dk_at dksX6_isWalk_4 20 rfl rfl)
theorem dX6_isWalk_116 : decode cX6_isWalk 116 = .ok (.ireturn, 1) := dk_172 (dk_at dksX6_isWalk_4 21 rfl rfl)
abbrev cX6_alive : ByteArray := prog_30_method_76_code
def yX6_alive : MethodName := ⟨RX6, "alive", "(III)I"⟩
def dkwX6_alive_7 : List UInt8 := [167, 255, 145, 21, 5, 153, 0, 7, 4, 167, 0, 4, 3, 172]
abbrev dktX6_alive_7 : List UInt8 := dkwX6_alive_7 ++ []
def dkwX6_alive_6 : List UInt8 := [3, 54, 5, 29, 21, 7, 122, 4, 126, 4, 160, 0, 7, 3, 167, 0, 5, 21, 4, 54, 4, 132, 6, 1]
abbrev dktX6_alive_6 : List UInt8 := dkwX6_alive_6 ++ dktX6_alive_7
def dkwX6_alive_5 : List UInt8 := [182, 0, 204, 167, 0, 4, 3, 96, 54, 4, 21, 4, 42, 28, 182, 0, 108, 163, 0, 7, 4, 167, 0, 4]
abbrev dktX6_alive_5 : List UInt8 := dkwX6_alive_5 ++ dktX6_alive_6
def dkwX6_alive_4 : List UInt8 := [96, 4, 100, 46, 21, 7, 182, 0, 76, 54, 8, 21, 4, 21, 8, 158, 0, 13, 42, 28, 21, 8]
abbrev dktX6_alive_4 : List UInt8 := dkwX6_alive_4 ++ dktX6_alive_5
def dkwX6_alive_3 : List UInt8 := [180, 0, 37, 16, 40, 27, 104, 21, 6, 96, 46, 54, 7, 42, 42, 180, 0, 37, 16, 40, 27, 104, 21, 6]
abbrev dktX6_alive_3 : List UInt8 := dkwX6_alive_3 ++ dktX6_alive_4
def dkwX6_alive_2 : List UInt8 := [4, 54, 5, 4, 54, 6, 21, 6, 42, 180, 0, 34, 27, 46, 162, 0, 106, 21, 5, 153, 0, 101, 42]
abbrev dktX6_alive_2 : List UInt8 := dkwX6_alive_2 ++ dktX6_alive_3
def dkwX6_alive_1 : List UInt8 := [18, 67, 182, 0, 68, 172, 42, 27, 182, 1, 4, 154, 0, 10, 42, 18, 249, 182, 0, 68, 172, 3, 54, 4]
abbrev dktX6_alive_1 : List UInt8 := dkwX6_alive_1 ++ dktX6_alive_2
def dkwX6_alive_0 : List UInt8 := [27, 184, 1, 1, 153, 0, 18, 42, 28, 182, 0, 103, 153, 0, 10, 29, 184, 0, 235, 154, 0, 10, 42]
abbrev dktX6_alive_0 : List UInt8 := dkwX6_alive_0 ++ dktX6_alive_1
theorem dksX6_alive_0 : cX6_alive.data.toList.drop 0 = dktX6_alive_0 := by decide +kernel
theorem dksX6_alive_1 : cX6_alive.data.toList.drop 23 = dktX6_alive_1 := dk_seg dksX6_alive_0 23 rfl rfl
theorem dksX6_alive_2 : cX6_alive.data.toList.drop 47 = dktX6_alive_2 := dk_seg dksX6_alive_1 24 rfl rfl
theorem dksX6_alive_3 : cX6_alive.data.toList.drop 70 = dktX6_alive_3 := dk_seg dksX6_alive_2 23 rfl rfl
theorem dksX6_alive_4 : cX6_alive.data.toList.drop 94 = dktX6_alive_4 := dk_seg dksX6_alive_3 24 rfl rfl
theorem dksX6_alive_5 : cX6_alive.data.toList.drop 116 = dktX6_alive_5 := dk_seg dksX6_alive_4 22 rfl rfl
theorem dksX6_alive_6 : cX6_alive.data.toList.drop 140 = dktX6_alive_6 := dk_seg dksX6_alive_5 24 rfl rfl
theorem dksX6_alive_7 : cX6_alive.data.toList.drop 164 = dktX6_alive_7 := dk_seg dksX6_alive_6 24 rfl rfl
theorem dX6_alive_0 : decode cX6_alive 0 = .ok (.iload_n 1, 1) := dk_27 (dk_at dksX6_alive_0 0 rfl rfl)
theorem dX6_alive_1 : decode cX6_alive 1 = .ok (.invokestatic 257, 3) := dk_184 1 1 (dk_at dksX6_alive_0 1 rfl rfl)
theorem dX6_alive_4 : decode cX6_alive 4 = .ok (.ifCond .eq 18, 3) := dk_153 0 18 (dk_at dksX6_alive_0 4 rfl rfl)
theorem dX6_alive_7 : decode cX6_alive 7 = .ok (.aload_n 0, 1) := dk_42 (dk_at dksX6_alive_0 7 rfl rfl)
theorem dX6_alive_8 : decode cX6_alive 8 = .ok (.iload_n 2, 1) := dk_28 (dk_at dksX6_alive_0 8 rfl rfl)
theorem dX6_alive_9 : decode cX6_alive 9 = .ok (.invokevirtual 103, 3) := dk_182 0 103 (dk_at dksX6_alive_0 9 rfl rfl)
theorem dX6_alive_12 : decode cX6_alive 12 = .ok (.ifCond .eq 10, 3) := dk_153 0 10 (dk_at dksX6_alive_0 12 rfl rfl)
theorem dX6_alive_15 : decode cX6_alive 15 = .ok (.iload_n 3, 1) := dk_29 (dk_at dksX6_alive_0 15 rfl rfl)
theorem dX6_alive_16 : decode cX6_alive 16 = .ok (.invokestatic 235, 3) := dk_184 0 235 (dk_at dksX6_alive_0 16 rfl rfl)
theorem dX6_alive_19 : decode cX6_alive 19 = .ok (.ifCond .ne 10, 3) := dk_154 0 10 (dk_at dksX6_alive_0 19 rfl rfl)
theorem dX6_alive_22 : decode cX6_alive 22 = .ok (.aload_n 0, 1) := dk_42 (dk_at dksX6_alive_0 22 rfl rfl)
theorem dX6_alive_23 : decode cX6_alive 23 = .ok (.ldc 67, 2) := dk_18 67 (dk_at dksX6_alive_1 0 rfl rfl)
theorem dX6_alive_25 : decode cX6_alive 25 = .ok (.invokevirtual 68, 3) := dk_182 0 68 (dk_at dksX6_alive_1 2 rfl rfl)
theorem dX6_alive_28 : decode cX6_alive 28 = .ok (.ireturn, 1) := dk_172 (dk_at dksX6_alive_1 5 rfl rfl)
theorem dX6_alive_29 : decode cX6_alive 29 = .ok (.aload_n 0, 1) := dk_42 (dk_at dksX6_alive_1 6 rfl rfl)
theorem dX6_alive_30 : decode cX6_alive 30 = .ok (.iload_n 1, 1) := dk_27 (dk_at dksX6_alive_1 7 rfl rfl)
theorem dX6_alive_31 : decode cX6_alive 31 = .ok (.invokevirtual 260, 3) := dk_182 1 4 (dk_at dksX6_alive_1 8 rfl rfl)
theorem dX6_alive_34 : decode cX6_alive 34 = .ok (.ifCond .ne 10, 3) := dk_154 0 10 (dk_at dksX6_alive_1 11 rfl rfl)
theorem dX6_alive_37 : decode cX6_alive 37 = .ok (.aload_n 0, 1) := dk_42 (dk_at dksX6_alive_1 14 rfl rfl)
theorem dX6_alive_38 : decode cX6_alive 38 = .ok (.ldc 249, 2) := dk_18 249 (dk_at dksX6_alive_1 15 rfl rfl)
theorem dX6_alive_40 : decode cX6_alive 40 = .ok (.invokevirtual 68, 3) := dk_182 0 68 (dk_at dksX6_alive_1 17 rfl rfl)
theorem dX6_alive_43 : decode cX6_alive 43 = .ok (.ireturn, 1) := dk_172 (dk_at dksX6_alive_1 20 rfl rfl)
theorem dX6_alive_44 : decode cX6_alive 44 = .ok (.iconst 0, 1) := dk_3 (dk_at dksX6_alive_1 21 rfl rfl)
theorem dX6_alive_45 : decode cX6_alive 45 = .ok (.istore 4, 2) := dk_54 4 (dk_at dksX6_alive_1 22 rfl rfl)
theorem dX6_alive_47 : decode cX6_alive 47 = .ok (.iconst 1, 1) := dk_4 (dk_at dksX6_alive_2 0 rfl rfl)
theorem dX6_alive_48 : decode cX6_alive 48 = .ok (.istore 5, 2) := dk_54 5 (dk_at dksX6_alive_2 1 rfl rfl)
theorem dX6_alive_50 : decode cX6_alive 50 = .ok (.iconst 1, 1) := dk_4 (dk_at dksX6_alive_2 3 rfl rfl)
theorem dX6_alive_51 : decode cX6_alive 51 = .ok (.istore 6, 2) := dk_54 6 (dk_at dksX6_alive_2 4 rfl rfl)
theorem dX6_alive_53 : decode cX6_alive 53 = .ok (.iload 6, 2) := dk_21 6 (dk_at dksX6_alive_2 6 rfl rfl)
theorem dX6_alive_55 : decode cX6_alive 55 = .ok (.aload_n 0, 1) := dk_42 (dk_at dksX6_alive_2 8 rfl rfl)
theorem dX6_alive_56 : decode cX6_alive 56 = .ok (.getfield 34, 3) := dk_180 0 34 (dk_at dksX6_alive_2 9 rfl rfl)
theorem dX6_alive_59 : decode cX6_alive 59 = .ok (.iload_n 1, 1) := dk_27 (dk_at dksX6_alive_2 12 rfl rfl)
theorem dX6_alive_60 : decode cX6_alive 60 = .ok (.iaload, 1) := dk_46 (dk_at dksX6_alive_2 13 rfl rfl)
theorem dX6_alive_61 : decode cX6_alive 61 = .ok (.if_icmp .ge 106, 3) := dk_162 0 106 (dk_at dksX6_alive_2 14 rfl rfl)
theorem dX6_alive_64 : decode cX6_alive 64 = .ok (.iload 5, 2) := dk_21 5 (dk_at dksX6_alive_2 17 rfl rfl)
theorem dX6_alive_66 : decode cX6_alive 66 = .ok (.ifCond .eq 101, 3) := dk_153 0 101 (dk_at dksX6_alive_2 19 rfl rfl)
theorem dX6_alive_69 : decode cX6_alive 69 = .ok (.aload_n 0, 1) := dk_42 (dk_at dksX6_alive_2 22 rfl rfl)
theorem dX6_alive_70 : decode cX6_alive 70 = .ok (.getfield 37, 3) := dk_180 0 37 (dk_at dksX6_alive_3 0 rfl rfl)
theorem dX6_alive_73 : decode cX6_alive 73 = .ok (.bipush 40, 2) := dk_16 40 (dk_at dksX6_alive_3 3 rfl rfl)
theorem dX6_alive_75 : decode cX6_alive 75 = .ok (.iload_n 1, 1) := dk_27 (dk_at dksX6_alive_3 5 rfl rfl)
theorem dX6_alive_76 : decode cX6_alive 76 = .ok (.imul, 1) := dk_104 (dk_at dksX6_alive_3 6 rfl rfl)
theorem dX6_alive_77 : decode cX6_alive 77 = .ok (.iload 6, 2) := dk_21 6 (dk_at dksX6_alive_3 7 rfl rfl)
theorem dX6_alive_79 : decode cX6_alive 79 = .ok (.iadd, 1) := dk_96 (dk_at dksX6_alive_3 9 rfl rfl)
theorem dX6_alive_80 : decode cX6_alive 80 = .ok (.iaload, 1) := dk_46 (dk_at dksX6_alive_3 10 rfl rfl)
theorem dX6_alive_81 : decode cX6_alive 81 = .ok (.istore 7, 2) := dk_54 7 (dk_at dksX6_alive_3 11 rfl rfl)
theorem dX6_alive_83 : decode cX6_alive 83 = .ok (.aload_n 0, 1) := dk_42 (dk_at dksX6_alive_3 13 rfl rfl)
theorem dX6_alive_84 : decode cX6_alive 84 = .ok (.aload_n 0, 1) := dk_42 (dk_at dksX6_alive_3 14 rfl rfl)
theorem dX6_alive_85 : decode cX6_alive 85 = .ok (.getfield 37, 3) := dk_180 0 37 (dk_at dksX6_alive_3 15 rfl rfl)
theorem dX6_alive_88 : decode cX6_alive 88 = .ok (.bipush 40, 2) := dk_16 40 (dk_at dksX6_alive_3 18 rfl rfl)
theorem dX6_alive_90 : decode cX6_alive 90 = .ok (.iload_n 1, 1) := dk_27 (dk_at dksX6_alive_3 20 rfl rfl)
theorem dX6_alive_91 : decode cX6_alive 91 = .ok (.imul, 1) := dk_104 (dk_at dksX6_alive_3 21 rfl rfl)
theorem dX6_alive_92 : decode cX6_alive 92 = .ok (.iload 6, 2) := dk_21 6 (dk_at dksX6_alive_3 22 rfl rfl)
theorem dX6_alive_94 : decode cX6_alive 94 = .ok (.iadd, 1) := dk_96 (dk_at dksX6_alive_4 0 rfl rfl)
theorem dX6_alive_95 : decode cX6_alive 95 = .ok (.iconst 1, 1) := dk_4 (dk_at dksX6_alive_4 1 rfl rfl)
theorem dX6_alive_96 : decode cX6_alive 96 = .ok (.isub, 1) := dk_100 (dk_at dksX6_alive_4 2 rfl rfl)
theorem dX6_alive_97 : decode cX6_alive 97 = .ok (.iaload, 1) := dk_46 (dk_at dksX6_alive_4 3 rfl rfl)
theorem dX6_alive_98 : decode cX6_alive 98 = .ok (.iload 7, 2) := dk_21 7 (dk_at dksX6_alive_4 4 rfl rfl)
theorem dX6_alive_100 : decode cX6_alive 100 = .ok (.invokevirtual 76, 3) := dk_182 0 76 (dk_at dksX6_alive_4 6 rfl rfl)
theorem dX6_alive_103 : decode cX6_alive 103 = .ok (.istore 8, 2) := dk_54 8 (dk_at dksX6_alive_4 9 rfl rfl)
theorem dX6_alive_105 : decode cX6_alive 105 = .ok (.iload 4, 2) := dk_21 4 (dk_at dksX6_alive_4 11 rfl rfl)
theorem dX6_alive_107 : decode cX6_alive 107 = .ok (.iload 8, 2) := dk_21 8 (dk_at dksX6_alive_4 13 rfl rfl)
theorem dX6_alive_109 : decode cX6_alive 109 = .ok (.ifCond .le 13, 3) := dk_158 0 13 (dk_at dksX6_alive_4 15 rfl rfl)
theorem dX6_alive_112 : decode cX6_alive 112 = .ok (.aload_n 0, 1) := dk_42 (dk_at dksX6_alive_4 18 rfl rfl)
theorem dX6_alive_113 : decode cX6_alive 113 = .ok (.iload_n 2, 1) := dk_28 (dk_at dksX6_alive_4 19 rfl rfl)
theorem dX6_alive_114 : decode cX6_alive 114 = .ok (.iload 8, 2) := dk_21 8 (dk_at dksX6_alive_4 20 rfl rfl)
theorem dX6_alive_116 : decode cX6_alive 116 = .ok (.invokevirtual 204, 3) := dk_182 0 204 (dk_at dksX6_alive_5 0 rfl rfl)
theorem dX6_alive_119 : decode cX6_alive 119 = .ok (.goto 4, 3) := dk_167 0 4 (dk_at dksX6_alive_5 3 rfl rfl)
theorem dX6_alive_122 : decode cX6_alive 122 = .ok (.iconst 0, 1) := dk_3 (dk_at dksX6_alive_5 6 rfl rfl)
theorem dX6_alive_123 : decode cX6_alive 123 = .ok (.iadd, 1) := dk_96 (dk_at dksX6_alive_5 7 rfl rfl)
theorem dX6_alive_124 : decode cX6_alive 124 = .ok (.istore 4, 2) := dk_54 4 (dk_at dksX6_alive_5 8 rfl rfl)
theorem dX6_alive_126 : decode cX6_alive 126 = .ok (.iload 4, 2) := dk_21 4 (dk_at dksX6_alive_5 10 rfl rfl)
theorem dX6_alive_128 : decode cX6_alive 128 = .ok (.aload_n 0, 1) := dk_42 (dk_at dksX6_alive_5 12 rfl rfl)
theorem dX6_alive_129 : decode cX6_alive 129 = .ok (.iload_n 2, 1) := dk_28 (dk_at dksX6_alive_5 13 rfl rfl)
theorem dX6_alive_130 : decode cX6_alive 130 = .ok (.invokevirtual 108, 3) := dk_182 0 108 (dk_at dksX6_alive_5 14 rfl rfl)
theorem dX6_alive_133 : decode cX6_alive 133 = .ok (.if_icmp .gt 7, 3) := dk_163 0 7 (dk_at dksX6_alive_5 17 rfl rfl)
theorem dX6_alive_136 : decode cX6_alive 136 = .ok (.iconst 1, 1) := dk_4 (dk_at dksX6_alive_5 20 rfl rfl)
theorem dX6_alive_137 : decode cX6_alive 137 = .ok (.goto 4, 3) := dk_167 0 4 (dk_at dksX6_alive_5 21 rfl rfl)
theorem dX6_alive_140 : decode cX6_alive 140 = .ok (.iconst 0, 1) := dk_3 (dk_at dksX6_alive_6 0 rfl rfl)
theorem dX6_alive_141 : decode cX6_alive 141 = .ok (.istore 5, 2) := dk_54 5 (dk_at dksX6_alive_6 1 rfl rfl)
theorem dX6_alive_143 : decode cX6_alive 143 = .ok (.iload_n 3, 1) := dk_29 (dk_at dksX6_alive_6 3 rfl rfl)
theorem dX6_alive_144 : decode cX6_alive 144 = .ok (.iload 7, 2) := dk_21 7 (dk_at dksX6_alive_6 4 rfl rfl)
theorem dX6_alive_146 : decode cX6_alive 146 = .ok (.ishr, 1) := dk_122 (dk_at dksX6_alive_6 6 rfl rfl)
theorem dX6_alive_147 : decode cX6_alive 147 = .ok (.iconst 1, 1) := dk_4 (dk_at dksX6_alive_6 7 rfl rfl)
theorem dX6_alive_148 : decode cX6_alive 148 = .ok (.iand, 1) := dk_126 (dk_at dksX6_alive_6 8 rfl rfl)
theorem dX6_alive_149 : decode cX6_alive 149 = .ok (.iconst 1, 1) := dk_4 (dk_at dksX6_alive_6 9 rfl rfl)
theorem dX6_alive_150 : decode cX6_alive 150 = .ok (.if_icmp .ne 7, 3) := dk_160 0 7 (dk_at dksX6_alive_6 10 rfl rfl)
theorem dX6_alive_153 : decode cX6_alive 153 = .ok (.iconst 0, 1) := dk_3 (dk_at dksX6_alive_6 13 rfl rfl)
theorem dX6_alive_154 : decode cX6_alive 154 = .ok (.goto 5, 3) := dk_167 0 5 (dk_at dksX6_alive_6 14 rfl rfl)
theorem dX6_alive_157 : decode cX6_alive 157 = .ok (.iload 4, 2) := dk_21 4 (dk_at dksX6_alive_6 17 rfl rfl)
theorem dX6_alive_159 : decode cX6_alive 159 = .ok (.istore 4, 2) := dk_54 4 (dk_at dksX6_alive_6 19 rfl rfl)
theorem dX6_alive_161 : decode cX6_alive 161 = .ok (.iinc 6 1, 3) := dk_132 6 1 (dk_at dksX6_alive_6 21 rfl rfl)
theorem dX6_alive_164 : decode cX6_alive 164 = .ok (.goto (-111), 3) := dk_167 255 145 (dk_at dksX6_alive_7 0 rfl rfl)
theorem dX6_alive_167 : decode cX6_alive 167 = .ok (.iload 5, 2) := dk_21 5 (dk_at dksX6_alive_7 3 rfl rfl)
theorem dX6_alive_169 : decode cX6_alive 169 = .ok (.ifCond .eq 7, 3) := dk_153 0 7 (dk_at dksX6_alive_7 5 rfl rfl)
theorem dX6_alive_172 : decode cX6_alive 172 = .ok (.iconst 1, 1) := dk_4 (dk_at dksX6_alive_7 8 rfl rfl)
theorem dX6_alive_173 : decode cX6_alive 173 = .ok (.goto 4, 3) := dk_167 0 4 (dk_at dksX6_alive_7 9 rfl rfl)
theorem dX6_alive_176 : decode cX6_alive 176 = .ok (.iconst 0, 1) := dk_3 (dk_at dksX6_alive_7 12 rfl rfl)
theorem dX6_alive_177 : decode cX6_alive 177 = .ok (.ireturn, 1) := dk_172 (dk_at dksX6_alive_7 13 rfl rfl)
abbrev cX6_grown : ByteArray := prog_30_method_77_code
def yX6_grown : MethodName := ⟨RX6, "grown", "(III)I"⟩
def dkwX6_grown_5 : List UInt8 := [21, 4, 172]
abbrev dktX6_grown_5 : List UInt8 := dkwX6_grown_5 ++ []
def dkwX6_grown_4 : List UInt8 := [184, 0, 193, 54, 6, 132, 7, 1, 167, 255, 228, 21, 4, 21, 6, 96, 54, 4, 132, 5, 1, 167, 255, 188]
abbrev dktX6_grown_4 : List UInt8 := dkwX6_grown_4 ++ dktX6_grown_5
def dkwX6_grown_3 : List UInt8 := [54, 7, 21, 7, 28, 162, 0, 28, 21, 6, 21, 6, 29, 104, 16, 100, 108, 96, 3, 17, 39, 15]
abbrev dktX6_grown_3 : List UInt8 := dkwX6_grown_3 ++ dktX6_grown_4
def dkwX6_grown_2 : List UInt8 := [16, 8, 162, 0, 67, 42, 180, 0, 7, 16, 72, 16, 8, 27, 104, 96, 21, 5, 96, 46, 54, 6, 3]
abbrev dktX6_grown_2 : List UInt8 := dkwX6_grown_2 ++ dktX6_grown_3
def dkwX6_grown_1 : List UInt8 := [20, 0, 72, 184, 0, 46, 154, 0, 10, 42, 18, 67, 182, 0, 68, 172, 3, 54, 4, 3, 54, 5, 21, 5]
abbrev dktX6_grown_1 : List UInt8 := dkwX6_grown_1 ++ dktX6_grown_2
def dkwX6_grown_0 : List UInt8 := [27, 184, 0, 58, 153, 0, 27, 28, 133, 9, 20, 1, 7, 184, 0, 46, 153, 0, 15, 29, 133, 9]
abbrev dktX6_grown_0 : List UInt8 := dkwX6_grown_0 ++ dktX6_grown_1
theorem dksX6_grown_0 : cX6_grown.data.toList.drop 0 = dktX6_grown_0 := by decide +kernel
theorem dksX6_grown_1 : cX6_grown.data.toList.drop 22 = dktX6_grown_1 := dk_seg dksX6_grown_0 22 rfl rfl
theorem dksX6_grown_2 : cX6_grown.data.toList.drop 46 = dktX6_grown_2 := dk_seg dksX6_grown_1 24 rfl rfl
theorem dksX6_grown_3 : cX6_grown.data.toList.drop 69 = dktX6_grown_3 := dk_seg dksX6_grown_2 23 rfl rfl
theorem dksX6_grown_4 : cX6_grown.data.toList.drop 91 = dktX6_grown_4 := dk_seg dksX6_grown_3 22 rfl rfl
theorem dksX6_grown_5 : cX6_grown.data.toList.drop 115 = dktX6_grown_5 := dk_seg dksX6_grown_4 24 rfl rfl
theorem dX6_grown_0 : decode cX6_grown 0 = .ok (.iload_n 1, 1) := dk_27 (dk_at dksX6_grown_0 0 rfl rfl)
theorem dX6_grown_1 : decode cX6_grown 1 = .ok (.invokestatic 58, 3) := dk_184 0 58 (dk_at dksX6_grown_0 1 rfl rfl)
theorem dX6_grown_4 : decode cX6_grown 4 = .ok (.ifCond .eq 27, 3) := dk_153 0 27 (dk_at dksX6_grown_0 4 rfl rfl)
theorem dX6_grown_7 : decode cX6_grown 7 = .ok (.iload_n 2, 1) := dk_28 (dk_at dksX6_grown_0 7 rfl rfl)
theorem dX6_grown_8 : decode cX6_grown 8 = .ok (.i2l, 1) := dk_133 (dk_at dksX6_grown_0 8 rfl rfl)
theorem dX6_grown_9 : decode cX6_grown 9 = .ok (.lconst 0, 1) := dk_9 (dk_at dksX6_grown_0 9 rfl rfl)
theorem dX6_grown_10 : decode cX6_grown 10 = .ok (.ldc2_w 263, 3) := dk_20 1 7 (dk_at dksX6_grown_0 10 rfl rfl)
theorem dX6_grown_13 : decode cX6_grown 13 = .ok (.invokestatic 46, 3) := dk_184 0 46 (dk_at dksX6_grown_0 13 rfl rfl)
theorem dX6_grown_16 : decode cX6_grown 16 = .ok (.ifCond .eq 15, 3) := dk_153 0 15 (dk_at dksX6_grown_0 16 rfl rfl)
theorem dX6_grown_19 : decode cX6_grown 19 = .ok (.iload_n 3, 1) := dk_29 (dk_at dksX6_grown_0 19 rfl rfl)
theorem dX6_grown_20 : decode cX6_grown 20 = .ok (.i2l, 1) := dk_133 (dk_at dksX6_grown_0 20 rfl rfl)
theorem dX6_grown_21 : decode cX6_grown 21 = .ok (.lconst 0, 1) := dk_9 (dk_at dksX6_grown_0 21 rfl rfl)
theorem dX6_grown_22 : decode cX6_grown 22 = .ok (.ldc2_w 72, 3) := dk_20 0 72 (dk_at dksX6_grown_1 0 rfl rfl)
theorem dX6_grown_25 : decode cX6_grown 25 = .ok (.invokestatic 46, 3) := dk_184 0 46 (dk_at dksX6_grown_1 3 rfl rfl)
theorem dX6_grown_28 : decode cX6_grown 28 = .ok (.ifCond .ne 10, 3) := dk_154 0 10 (dk_at dksX6_grown_1 6 rfl rfl)
theorem dX6_grown_31 : decode cX6_grown 31 = .ok (.aload_n 0, 1) := dk_42 (dk_at dksX6_grown_1 9 rfl rfl)
theorem dX6_grown_32 : decode cX6_grown 32 = .ok (.ldc 67, 2) := dk_18 67 (dk_at dksX6_grown_1 10 rfl rfl)
theorem dX6_grown_34 : decode cX6_grown 34 = .ok (.invokevirtual 68, 3) := dk_182 0 68 (dk_at dksX6_grown_1 12 rfl rfl)
theorem dX6_grown_37 : decode cX6_grown 37 = .ok (.ireturn, 1) := dk_172 (dk_at dksX6_grown_1 15 rfl rfl)
theorem dX6_grown_38 : decode cX6_grown 38 = .ok (.iconst 0, 1) := dk_3 (dk_at dksX6_grown_1 16 rfl rfl)
theorem dX6_grown_39 : decode cX6_grown 39 = .ok (.istore 4, 2) := dk_54 4 (dk_at dksX6_grown_1 17 rfl rfl)
theorem dX6_grown_41 : decode cX6_grown 41 = .ok (.iconst 0, 1) := dk_3 (dk_at dksX6_grown_1 19 rfl rfl)
theorem dX6_grown_42 : decode cX6_grown 42 = .ok (.istore 5, 2) := dk_54 5 (dk_at dksX6_grown_1 20 rfl rfl)
theorem dX6_grown_44 : decode cX6_grown 44 = .ok (.iload 5, 2) := dk_21 5 (dk_at dksX6_grown_1 22 rfl rfl)
theorem dX6_grown_46 : decode cX6_grown 46 = .ok (.bipush 8, 2) := dk_16 8 (dk_at dksX6_grown_2 0 rfl rfl)
theorem dX6_grown_48 : decode cX6_grown 48 = .ok (.if_icmp .ge 67, 3) := dk_162 0 67 (dk_at dksX6_grown_2 2 rfl rfl)
theorem dX6_grown_51 : decode cX6_grown 51 = .ok (.aload_n 0, 1) := dk_42 (dk_at dksX6_grown_2 5 rfl rfl)
theorem dX6_grown_52 : decode cX6_grown 52 = .ok (.getfield 7, 3) := dk_180 0 7 (dk_at dksX6_grown_2 6 rfl rfl)
theorem dX6_grown_55 : decode cX6_grown 55 = .ok (.bipush 72, 2) := dk_16 72 (dk_at dksX6_grown_2 9 rfl rfl)
theorem dX6_grown_57 : decode cX6_grown 57 = .ok (.bipush 8, 2) := dk_16 8 (dk_at dksX6_grown_2 11 rfl rfl)
theorem dX6_grown_59 : decode cX6_grown 59 = .ok (.iload_n 1, 1) := dk_27 (dk_at dksX6_grown_2 13 rfl rfl)
theorem dX6_grown_60 : decode cX6_grown 60 = .ok (.imul, 1) := dk_104 (dk_at dksX6_grown_2 14 rfl rfl)
theorem dX6_grown_61 : decode cX6_grown 61 = .ok (.iadd, 1) := dk_96 (dk_at dksX6_grown_2 15 rfl rfl)
theorem dX6_grown_62 : decode cX6_grown 62 = .ok (.iload 5, 2) := dk_21 5 (dk_at dksX6_grown_2 16 rfl rfl)
theorem dX6_grown_64 : decode cX6_grown 64 = .ok (.iadd, 1) := dk_96 (dk_at dksX6_grown_2 18 rfl rfl)
theorem dX6_grown_65 : decode cX6_grown 65 = .ok (.iaload, 1) := dk_46 (dk_at dksX6_grown_2 19 rfl rfl)
theorem dX6_grown_66 : decode cX6_grown 66 = .ok (.istore 6, 2) := dk_54 6 (dk_at dksX6_grown_2 20 rfl rfl)
theorem dX6_grown_68 : decode cX6_grown 68 = .ok (.iconst 0, 1) := dk_3 (dk_at dksX6_grown_2 22 rfl rfl)
theorem dX6_grown_69 : decode cX6_grown 69 = .ok (.istore 7, 2) := dk_54 7 (dk_at dksX6_grown_3 0 rfl rfl)
theorem dX6_grown_71 : decode cX6_grown 71 = .ok (.iload 7, 2) := dk_21 7 (dk_at dksX6_grown_3 2 rfl rfl)
theorem dX6_grown_73 : decode cX6_grown 73 = .ok (.iload_n 2, 1) := dk_28 (dk_at dksX6_grown_3 4 rfl rfl)
theorem dX6_grown_74 : decode cX6_grown 74 = .ok (.if_icmp .ge 28, 3) := dk_162 0 28 (dk_at dksX6_grown_3 5 rfl rfl)
theorem dX6_grown_77 : decode cX6_grown 77 = .ok (.iload 6, 2) := dk_21 6 (dk_at dksX6_grown_3 8 rfl rfl)
theorem dX6_grown_79 : decode cX6_grown 79 = .ok (.iload 6, 2) := dk_21 6 (dk_at dksX6_grown_3 10 rfl rfl)
theorem dX6_grown_81 : decode cX6_grown 81 = .ok (.iload_n 3, 1) := dk_29 (dk_at dksX6_grown_3 12 rfl rfl)
theorem dX6_grown_82 : decode cX6_grown 82 = .ok (.imul, 1) := dk_104 (dk_at dksX6_grown_3 13 rfl rfl)
theorem dX6_grown_83 : decode cX6_grown 83 = .ok (.bipush 100, 2) := dk_16 100 (dk_at dksX6_grown_3 14 rfl rfl)
theorem dX6_grown_85 : decode cX6_grown 85 = .ok (.idiv, 1) := dk_108 (dk_at dksX6_grown_3 16 rfl rfl)
theorem dX6_grown_86 : decode cX6_grown 86 = .ok (.iadd, 1) := dk_96 (dk_at dksX6_grown_3 17 rfl rfl)
theorem dX6_grown_87 : decode cX6_grown 87 = .ok (.iconst 0, 1) := dk_3 (dk_at dksX6_grown_3 18 rfl rfl)
theorem dX6_grown_88 : decode cX6_grown 88 = .ok (.sipush 9999, 3) := dk_17 39 15 (dk_at dksX6_grown_3 19 rfl rfl)
theorem dX6_grown_91 : decode cX6_grown 91 = .ok (.invokestatic 193, 3) := dk_184 0 193 (dk_at dksX6_grown_4 0 rfl rfl)
theorem dX6_grown_94 : decode cX6_grown 94 = .ok (.istore 6, 2) := dk_54 6 (dk_at dksX6_grown_4 3 rfl rfl)
theorem dX6_grown_96 : decode cX6_grown 96 = .ok (.iinc 7 1, 3) := dk_132 7 1 (dk_at dksX6_grown_4 5 rfl rfl)
theorem dX6_grown_99 : decode cX6_grown 99 = .ok (.goto (-28), 3) := dk_167 255 228 (dk_at dksX6_grown_4 8 rfl rfl)
theorem dX6_grown_102 : decode cX6_grown 102 = .ok (.iload 4, 2) := dk_21 4 (dk_at dksX6_grown_4 11 rfl rfl)
theorem dX6_grown_104 : decode cX6_grown 104 = .ok (.iload 6, 2) := dk_21 6 (dk_at dksX6_grown_4 13 rfl rfl)
theorem dX6_grown_106 : decode cX6_grown 106 = .ok (.iadd, 1) := dk_96 (dk_at dksX6_grown_4 15 rfl rfl)
theorem dX6_grown_107 : decode cX6_grown 107 = .ok (.istore 4, 2) := dk_54 4 (dk_at dksX6_grown_4 16 rfl rfl)
theorem dX6_grown_109 : decode cX6_grown 109 = .ok (.iinc 5 1, 3) := dk_132 5 1 (dk_at dksX6_grown_4 18 rfl rfl)
theorem dX6_grown_112 : decode cX6_grown 112 = .ok (.goto (-68), 3) := dk_167 255 188 (dk_at dksX6_grown_4 21 rfl rfl)
theorem dX6_grown_115 : decode cX6_grown 115 = .ok (.iload 4, 2) := dk_21 4 (dk_at dksX6_grown_5 0 rfl rfl)
theorem dX6_grown_117 : decode cX6_grown 117 = .ok (.ireturn, 1) := dk_172 (dk_at dksX6_grown_5 2 rfl rfl)
abbrev cX6_seed : ByteArray := prog_30_method_78_code
def yX6_seed : MethodName := ⟨RX6, "seed", "(I)I"⟩
def dkwX6_seed_0 : List UInt8 := [42, 17, 0, 176, 27, 182, 0, 64, 172]
abbrev dktX6_seed_0 : List UInt8 := dkwX6_seed_0 ++ []
theorem dksX6_seed_0 : cX6_seed.data.toList.drop 0 = dktX6_seed_0 := by decide +kernel
theorem dX6_seed_0 : decode cX6_seed 0 = .ok (.aload_n 0, 1) := dk_42 (dk_at dksX6_seed_0 0 rfl rfl)
theorem dX6_seed_1 : decode cX6_seed 1 = .ok (.sipush 176, 3) := dk_17 0 176 (dk_at dksX6_seed_0 1 rfl rfl)
theorem dX6_seed_4 : decode cX6_seed 4 = .ok (.iload_n 1, 1) := dk_27 (dk_at dksX6_seed_0 4 rfl rfl)
theorem dX6_seed_5 : decode cX6_seed 5 = .ok (.invokevirtual 64, 3) := dk_182 0 64 (dk_at dksX6_seed_0 5 rfl rfl)
theorem dX6_seed_8 : decode cX6_seed 8 = .ok (.ireturn, 1) := dk_172 (dk_at dksX6_seed_0 8 rfl rfl)
abbrev cX6_voice : ByteArray := prog_30_method_90_code
def yX6_voice : MethodName := ⟨RX6, "voice", "(III)I"⟩
def dkwX6_voice_4 : List UInt8 := [42, 29, 182, 1, 53, 172]
abbrev dktX6_voice_4 : List UInt8 := dkwX6_voice_4 ++ []
def dkwX6_voice_3 : List UInt8 := [160, 0, 11, 42, 29, 182, 1, 45, 167, 0, 21, 28, 5, 160, 0, 11, 42, 29, 182, 1, 39, 167, 0, 8]
abbrev dktX6_voice_3 : List UInt8 := dkwX6_voice_3 ++ dktX6_voice_4
def dkwX6_voice_2 : List UInt8 := [42, 42, 27, 4, 182, 0, 79, 181, 1, 24, 28, 154, 0, 11, 42, 29, 182, 1, 33, 167, 0, 34, 28, 4]
abbrev dktX6_voice_2 : List UInt8 := dkwX6_voice_2 ++ dktX6_voice_3
def dkwX6_voice_1 : List UInt8 := [182, 0, 68, 172, 42, 3, 181, 1, 9, 42, 42, 27, 3, 182, 0, 79, 181, 1, 18, 42, 27, 181, 1, 15]
abbrev dktX6_voice_1 : List UInt8 := dkwX6_voice_1 ++ dktX6_voice_2
def dkwX6_voice_0 : List UInt8 := [42, 27, 182, 0, 103, 153, 0, 15, 28, 133, 9, 20, 1, 51, 184, 0, 46, 154, 0, 10, 42, 18, 67]
abbrev dktX6_voice_0 : List UInt8 := dkwX6_voice_0 ++ dktX6_voice_1
theorem dksX6_voice_0 : cX6_voice.data.toList.drop 0 = dktX6_voice_0 := by decide +kernel
theorem dksX6_voice_1 : cX6_voice.data.toList.drop 23 = dktX6_voice_1 := dk_seg dksX6_voice_0 23 rfl rfl
theorem dksX6_voice_2 : cX6_voice.data.toList.drop 47 = dktX6_voice_2 := dk_seg dksX6_voice_1 24 rfl rfl
theorem dksX6_voice_3 : cX6_voice.data.toList.drop 71 = dktX6_voice_3 := dk_seg dksX6_voice_2 24 rfl rfl
theorem dksX6_voice_4 : cX6_voice.data.toList.drop 95 = dktX6_voice_4 := dk_seg dksX6_voice_3 24 rfl rfl
theorem dX6_voice_0 : decode cX6_voice 0 = .ok (.aload_n 0, 1) := dk_42 (dk_at dksX6_voice_0 0 rfl rfl)
theorem dX6_voice_1 : decode cX6_voice 1 = .ok (.iload_n 1, 1) := dk_27 (dk_at dksX6_voice_0 1 rfl rfl)
theorem dX6_voice_2 : decode cX6_voice 2 = .ok (.invokevirtual 103, 3) := dk_182 0 103 (dk_at dksX6_voice_0 2 rfl rfl)
theorem dX6_voice_5 : decode cX6_voice 5 = .ok (.ifCond .eq 15, 3) := dk_153 0 15 (dk_at dksX6_voice_0 5 rfl rfl)
theorem dX6_voice_8 : decode cX6_voice 8 = .ok (.iload_n 2, 1) := dk_28 (dk_at dksX6_voice_0 8 rfl rfl)
theorem dX6_voice_9 : decode cX6_voice 9 = .ok (.i2l, 1) := dk_133 (dk_at dksX6_voice_0 9 rfl rfl)
theorem dX6_voice_10 : decode cX6_voice 10 = .ok (.lconst 0, 1) := dk_9 (dk_at dksX6_voice_0 10 rfl rfl)
theorem dX6_voice_11 : decode cX6_voice 11 = .ok (.ldc2_w 307, 3) := dk_20 1 51 (dk_at dksX6_voice_0 11 rfl rfl)
theorem dX6_voice_14 : decode cX6_voice 14 = .ok (.invokestatic 46, 3) := dk_184 0 46 (dk_at dksX6_voice_0 14 rfl rfl)
theorem dX6_voice_17 : decode cX6_voice 17 = .ok (.ifCond .ne 10, 3) := dk_154 0 10 (dk_at dksX6_voice_0 17 rfl rfl)
theorem dX6_voice_20 : decode cX6_voice 20 = .ok (.aload_n 0, 1) := dk_42 (dk_at dksX6_voice_0 20 rfl rfl)
theorem dX6_voice_21 : decode cX6_voice 21 = .ok (.ldc 67, 2) := dk_18 67 (dk_at dksX6_voice_0 21 rfl rfl)
theorem dX6_voice_23 : decode cX6_voice 23 = .ok (.invokevirtual 68, 3) := dk_182 0 68 (dk_at dksX6_voice_1 0 rfl rfl)
theorem dX6_voice_26 : decode cX6_voice 26 = .ok (.ireturn, 1) := dk_172 (dk_at dksX6_voice_1 3 rfl rfl)
theorem dX6_voice_27 : decode cX6_voice 27 = .ok (.aload_n 0, 1) := dk_42 (dk_at dksX6_voice_1 4 rfl rfl)
theorem dX6_voice_28 : decode cX6_voice 28 = .ok (.iconst 0, 1) := dk_3 (dk_at dksX6_voice_1 5 rfl rfl)
theorem dX6_voice_29 : decode cX6_voice 29 = .ok (.putfield 265, 3) := dk_181 1 9 (dk_at dksX6_voice_1 6 rfl rfl)
theorem dX6_voice_32 : decode cX6_voice 32 = .ok (.aload_n 0, 1) := dk_42 (dk_at dksX6_voice_1 9 rfl rfl)
theorem dX6_voice_33 : decode cX6_voice 33 = .ok (.aload_n 0, 1) := dk_42 (dk_at dksX6_voice_1 10 rfl rfl)
theorem dX6_voice_34 : decode cX6_voice 34 = .ok (.iload_n 1, 1) := dk_27 (dk_at dksX6_voice_1 11 rfl rfl)
theorem dX6_voice_35 : decode cX6_voice 35 = .ok (.iconst 0, 1) := dk_3 (dk_at dksX6_voice_1 12 rfl rfl)
theorem dX6_voice_36 : decode cX6_voice 36 = .ok (.invokevirtual 79, 3) := dk_182 0 79 (dk_at dksX6_voice_1 13 rfl rfl)
theorem dX6_voice_39 : decode cX6_voice 39 = .ok (.putfield 274, 3) := dk_181 1 18 (dk_at dksX6_voice_1 16 rfl rfl)
theorem dX6_voice_42 : decode cX6_voice 42 = .ok (.aload_n 0, 1) := dk_42 (dk_at dksX6_voice_1 19 rfl rfl)
theorem dX6_voice_43 : decode cX6_voice 43 = .ok (.iload_n 1, 1) := dk_27 (dk_at dksX6_voice_1 20 rfl rfl)
theorem dX6_voice_44 : decode cX6_voice 44 = .ok (.putfield 271, 3) := dk_181 1 15 (dk_at dksX6_voice_1 21 rfl rfl)
theorem dX6_voice_47 : decode cX6_voice 47 = .ok (.aload_n 0, 1) := dk_42 (dk_at dksX6_voice_2 0 rfl rfl)
theorem dX6_voice_48 : decode cX6_voice 48 = .ok (.aload_n 0, 1) := dk_42 (dk_at dksX6_voice_2 1 rfl rfl)
theorem dX6_voice_49 : decode cX6_voice 49 = .ok (.iload_n 1, 1) := dk_27 (dk_at dksX6_voice_2 2 rfl rfl)
theorem dX6_voice_50 : decode cX6_voice 50 = .ok (.iconst 1, 1) := dk_4 (dk_at dksX6_voice_2 3 rfl rfl)
theorem dX6_voice_51 : decode cX6_voice 51 = .ok (.invokevirtual 79, 3) := dk_182 0 79 (dk_at dksX6_voice_2 4 rfl rfl)
theorem dX6_voice_54 : decode cX6_voice 54 = .ok (.putfield 280, 3) := dk_181 1 24 (dk_at dksX6_voice_2 7 rfl rfl)
theorem dX6_voice_57 : decode cX6_voice 57 = .ok (.iload_n 2, 1) := dk_28 (dk_at dksX6_voice_2 10 rfl rfl)
theorem dX6_voice_58 : decode cX6_voice 58 = .ok (.ifCond .ne 11, 3) := dk_154 0 11 (dk_at dksX6_voice_2 11 rfl rfl)
theorem dX6_voice_61 : decode cX6_voice 61 = .ok (.aload_n 0, 1) := dk_42 (dk_at dksX6_voice_2 14 rfl rfl)
theorem dX6_voice_62 : decode cX6_voice 62 = .ok (.iload_n 3, 1) := dk_29 (dk_at dksX6_voice_2 15 rfl rfl)
theorem dX6_voice_63 : decode cX6_voice 63 = .ok (.invokevirtual 289, 3) := dk_182 1 33 (dk_at dksX6_voice_2 16 rfl rfl)
theorem dX6_voice_66 : decode cX6_voice 66 = .ok (.goto 34, 3) := dk_167 0 34 (dk_at dksX6_voice_2 19 rfl rfl)
theorem dX6_voice_69 : decode cX6_voice 69 = .ok (.iload_n 2, 1) := dk_28 (dk_at dksX6_voice_2 22 rfl rfl)
theorem dX6_voice_70 : decode cX6_voice 70 = .ok (.iconst 1, 1) := dk_4 (dk_at dksX6_voice_2 23 rfl rfl)
theorem dX6_voice_71 : decode cX6_voice 71 = .ok (.if_icmp .ne 11, 3) := dk_160 0 11 (dk_at dksX6_voice_3 0 rfl rfl)
theorem dX6_voice_74 : decode cX6_voice 74 = .ok (.aload_n 0, 1) := dk_42 (dk_at dksX6_voice_3 3 rfl rfl)
theorem dX6_voice_75 : decode cX6_voice 75 = .ok (.iload_n 3, 1) := dk_29 (dk_at dksX6_voice_3 4 rfl rfl)
theorem dX6_voice_76 : decode cX6_voice 76 = .ok (.invokevirtual 301, 3) := dk_182 1 45 (dk_at dksX6_voice_3 5 rfl rfl)
theorem dX6_voice_79 : decode cX6_voice 79 = .ok (.goto 21, 3) := dk_167 0 21 (dk_at dksX6_voice_3 8 rfl rfl)
theorem dX6_voice_82 : decode cX6_voice 82 = .ok (.iload_n 2, 1) := dk_28 (dk_at dksX6_voice_3 11 rfl rfl)
theorem dX6_voice_83 : decode cX6_voice 83 = .ok (.iconst 2, 1) := dk_5 (dk_at dksX6_voice_3 12 rfl rfl)
theorem dX6_voice_84 : decode cX6_voice 84 = .ok (.if_icmp .ne 11, 3) := dk_160 0 11 (dk_at dksX6_voice_3 13 rfl rfl)
theorem dX6_voice_87 : decode cX6_voice 87 = .ok (.aload_n 0, 1) := dk_42 (dk_at dksX6_voice_3 16 rfl rfl)
theorem dX6_voice_88 : decode cX6_voice 88 = .ok (.iload_n 3, 1) := dk_29 (dk_at dksX6_voice_3 17 rfl rfl)
theorem dX6_voice_89 : decode cX6_voice 89 = .ok (.invokevirtual 295, 3) := dk_182 1 39 (dk_at dksX6_voice_3 18 rfl rfl)
theorem dX6_voice_92 : decode cX6_voice 92 = .ok (.goto 8, 3) := dk_167 0 8 (dk_at dksX6_voice_3 21 rfl rfl)
theorem dX6_voice_95 : decode cX6_voice 95 = .ok (.aload_n 0, 1) := dk_42 (dk_at dksX6_voice_4 0 rfl rfl)
theorem dX6_voice_96 : decode cX6_voice 96 = .ok (.iload_n 3, 1) := dk_29 (dk_at dksX6_voice_4 1 rfl rfl)
theorem dX6_voice_97 : decode cX6_voice 97 = .ok (.invokevirtual 309, 3) := dk_182 1 53 (dk_at dksX6_voice_4 2 rfl rfl)
theorem dX6_voice_100 : decode cX6_voice 100 = .ok (.ireturn, 1) := dk_172 (dk_at dksX6_voice_4 5 rfl rfl)
abbrev cX6_readsBy : ByteArray := prog_30_method_81_code
def yX6_readsBy : MethodName := ⟨RX6, "readsBy", "(I)I"⟩
def dkwX6_readsBy_1 : List UInt8 := [27, 182, 1, 21, 6, 104, 172]
abbrev dktX6_readsBy_1 : List UInt8 := dkwX6_readsBy_1 ++ []
def dkwX6_readsBy_0 : List UInt8 := [42, 180, 1, 18, 4, 184, 0, 116, 154, 0, 9, 42, 27, 182, 1, 21, 172, 42, 16, 20, 182, 1, 12, 42]
abbrev dktX6_readsBy_0 : List UInt8 := dkwX6_readsBy_0 ++ dktX6_readsBy_1
theorem dksX6_readsBy_0 : cX6_readsBy.data.toList.drop 0 = dktX6_readsBy_0 := by decide +kernel
theorem dksX6_readsBy_1 : cX6_readsBy.data.toList.drop 24 = dktX6_readsBy_1 := dk_seg dksX6_readsBy_0 24 rfl rfl
theorem dX6_readsBy_0 : decode cX6_readsBy 0 = .ok (.aload_n 0, 1) := dk_42 (dk_at dksX6_readsBy_0 0 rfl rfl)
theorem dX6_readsBy_1 : decode cX6_readsBy 1 = .ok (.getfield 274, 3) := dk_180 1 18 (dk_at dksX6_readsBy_0 1 rfl rfl)
theorem dX6_readsBy_4 : decode cX6_readsBy 4 = .ok (.iconst 1, 1) := dk_4 (dk_at dksX6_readsBy_0 4 rfl rfl)
theorem dX6_readsBy_5 : decode cX6_readsBy 5 = .ok (.invokestatic 116, 3) := dk_184 0 116 (dk_at dksX6_readsBy_0 5 rfl rfl)
theorem dX6_readsBy_8 : decode cX6_readsBy 8 = .ok (.ifCond .ne 9, 3) := dk_154 0 9 (dk_at dksX6_readsBy_0 8 rfl rfl)
theorem dX6_readsBy_11 : decode cX6_readsBy 11 = .ok (.aload_n 0, 1) := dk_42 (dk_at dksX6_readsBy_0 11 rfl rfl)
theorem dX6_readsBy_12 : decode cX6_readsBy 12 = .ok (.iload_n 1, 1) := dk_27 (dk_at dksX6_readsBy_0 12 rfl rfl)
theorem dX6_readsBy_13 : decode cX6_readsBy 13 = .ok (.invokevirtual 277, 3) := dk_182 1 21 (dk_at dksX6_readsBy_0 13 rfl rfl)
theorem dX6_readsBy_16 : decode cX6_readsBy 16 = .ok (.ireturn, 1) := dk_172 (dk_at dksX6_readsBy_0 16 rfl rfl)
theorem dX6_readsBy_17 : decode cX6_readsBy 17 = .ok (.aload_n 0, 1) := dk_42 (dk_at dksX6_readsBy_0 17 rfl rfl)
theorem dX6_readsBy_18 : decode cX6_readsBy 18 = .ok (.bipush 20, 2) := dk_16 20 (dk_at dksX6_readsBy_0 18 rfl rfl)
theorem dX6_readsBy_20 : decode cX6_readsBy 20 = .ok (.invokevirtual 268, 3) := dk_182 1 12 (dk_at dksX6_readsBy_0 20 rfl rfl)
theorem dX6_readsBy_23 : decode cX6_readsBy 23 = .ok (.aload_n 0, 1) := dk_42 (dk_at dksX6_readsBy_0 23 rfl rfl)
theorem dX6_readsBy_24 : decode cX6_readsBy 24 = .ok (.iload_n 1, 1) := dk_27 (dk_at dksX6_readsBy_1 0 rfl rfl)
theorem dX6_readsBy_25 : decode cX6_readsBy 25 = .ok (.invokevirtual 277, 3) := dk_182 1 21 (dk_at dksX6_readsBy_1 1 rfl rfl)
theorem dX6_readsBy_28 : decode cX6_readsBy 28 = .ok (.iconst 3, 1) := dk_6 (dk_at dksX6_readsBy_1 4 rfl rfl)
theorem dX6_readsBy_29 : decode cX6_readsBy 29 = .ok (.imul, 1) := dk_104 (dk_at dksX6_readsBy_1 5 rfl rfl)
theorem dX6_readsBy_30 : decode cX6_readsBy 30 = .ok (.ireturn, 1) := dk_172 (dk_at dksX6_readsBy_1 6 rfl rfl)
abbrev cX6_plainReads : ByteArray := prog_30_method_80_code
def yX6_plainReads : MethodName := ⟨RX6, "plainReads", "(I)I"⟩
def dkwX6_plainReads_0 : List UInt8 := [42, 16, 10, 182, 1, 12, 27, 42, 180, 1, 15, 96, 172]
abbrev dktX6_plainReads_0 : List UInt8 := dkwX6_plainReads_0 ++ []
theorem dksX6_plainReads_0 : cX6_plainReads.data.toList.drop 0 = dktX6_plainReads_0 := by decide +kernel
theorem dX6_plainReads_0 : decode cX6_plainReads 0 = .ok (.aload_n 0, 1) := dk_42 (dk_at dksX6_plainReads_0 0 rfl rfl)
theorem dX6_plainReads_1 : decode cX6_plainReads 1 = .ok (.bipush 10, 2) := dk_16 10 (dk_at dksX6_plainReads_0 1 rfl rfl)
theorem dX6_plainReads_3 : decode cX6_plainReads 3 = .ok (.invokevirtual 268, 3) := dk_182 1 12 (dk_at dksX6_plainReads_0 3 rfl rfl)
theorem dX6_plainReads_6 : decode cX6_plainReads 6 = .ok (.iload_n 1, 1) := dk_27 (dk_at dksX6_plainReads_0 6 rfl rfl)
theorem dX6_plainReads_7 : decode cX6_plainReads 7 = .ok (.aload_n 0, 1) := dk_42 (dk_at dksX6_plainReads_0 7 rfl rfl)
theorem dX6_plainReads_8 : decode cX6_plainReads 8 = .ok (.getfield 271, 3) := dk_180 1 15 (dk_at dksX6_plainReads_0 8 rfl rfl)
theorem dX6_plainReads_11 : decode cX6_plainReads 11 = .ok (.iadd, 1) := dk_96 (dk_at dksX6_plainReads_0 11 rfl rfl)
theorem dX6_plainReads_12 : decode cX6_plainReads 12 = .ok (.ireturn, 1) := dk_172 (dk_at dksX6_plainReads_0 12 rfl rfl)
abbrev cX6_ran : ByteArray := prog_30_method_79_code
def yX6_ran : MethodName := ⟨RX6, "ran", "(I)V"⟩
def dkwX6_ran_1 : List UInt8 := [4, 96, 181, 1, 9, 177]
abbrev dktX6_ran_1 : List UInt8 := dkwX6_ran_1 ++ []
def dkwX6_ran_0 : List UInt8 := [42, 180, 1, 9, 16, 40, 162, 0, 23, 42, 180, 0, 28, 42, 180, 1, 9, 27, 79, 42, 89, 180, 1, 9]
abbrev dktX6_ran_0 : List UInt8 := dkwX6_ran_0 ++ dktX6_ran_1
theorem dksX6_ran_0 : cX6_ran.data.toList.drop 0 = dktX6_ran_0 := by decide +kernel
theorem dksX6_ran_1 : cX6_ran.data.toList.drop 24 = dktX6_ran_1 := dk_seg dksX6_ran_0 24 rfl rfl
theorem dX6_ran_0 : decode cX6_ran 0 = .ok (.aload_n 0, 1) := dk_42 (dk_at dksX6_ran_0 0 rfl rfl)
theorem dX6_ran_1 : decode cX6_ran 1 = .ok (.getfield 265, 3) := dk_180 1 9 (dk_at dksX6_ran_0 1 rfl rfl)
theorem dX6_ran_4 : decode cX6_ran 4 = .ok (.bipush 40, 2) := dk_16 40 (dk_at dksX6_ran_0 4 rfl rfl)
theorem dX6_ran_6 : decode cX6_ran 6 = .ok (.if_icmp .ge 23, 3) := dk_162 0 23 (dk_at dksX6_ran_0 6 rfl rfl)
theorem dX6_ran_9 : decode cX6_ran 9 = .ok (.aload_n 0, 1) := dk_42 (dk_at dksX6_ran_0 9 rfl rfl)
theorem dX6_ran_10 : decode cX6_ran 10 = .ok (.getfield 28, 3) := dk_180 0 28 (dk_at dksX6_ran_0 10 rfl rfl)
theorem dX6_ran_13 : decode cX6_ran 13 = .ok (.aload_n 0, 1) := dk_42 (dk_at dksX6_ran_0 13 rfl rfl)
theorem dX6_ran_14 : decode cX6_ran 14 = .ok (.getfield 265, 3) := dk_180 1 9 (dk_at dksX6_ran_0 14 rfl rfl)
theorem dX6_ran_17 : decode cX6_ran 17 = .ok (.iload_n 1, 1) := dk_27 (dk_at dksX6_ran_0 17 rfl rfl)
theorem dX6_ran_18 : decode cX6_ran 18 = .ok (.iastore, 1) := dk_79 (dk_at dksX6_ran_0 18 rfl rfl)
theorem dX6_ran_19 : decode cX6_ran 19 = .ok (.aload_n 0, 1) := dk_42 (dk_at dksX6_ran_0 19 rfl rfl)
theorem dX6_ran_20 : decode cX6_ran 20 = .ok (.dup, 1) := dk_89 (dk_at dksX6_ran_0 20 rfl rfl)
theorem dX6_ran_21 : decode cX6_ran 21 = .ok (.getfield 265, 3) := dk_180 1 9 (dk_at dksX6_ran_0 21 rfl rfl)
theorem dX6_ran_24 : decode cX6_ran 24 = .ok (.iconst 1, 1) := dk_4 (dk_at dksX6_ran_1 0 rfl rfl)
theorem dX6_ran_25 : decode cX6_ran 25 = .ok (.iadd, 1) := dk_96 (dk_at dksX6_ran_1 1 rfl rfl)
theorem dX6_ran_26 : decode cX6_ran 26 = .ok (.putfield 265, 3) := dk_181 1 9 (dk_at dksX6_ran_1 2 rfl rfl)
theorem dX6_ran_29 : decode cX6_ran 29 = .ok (.return_, 1) := dk_177 (dk_at dksX6_ran_1 5 rfl rfl)
abbrev cX6_givesBy : ByteArray := prog_30_method_87_code
def yX6_givesBy : MethodName := ⟨RX6, "givesBy", "(I)I"⟩
def dkwX6_givesBy_1 : List UInt8 := [180, 1, 18, 5, 160, 0, 11, 42, 27, 182, 1, 42, 167, 0, 8, 42, 27, 182, 1, 36, 172]
abbrev dktX6_givesBy_1 : List UInt8 := dkwX6_givesBy_1 ++ []
def dkwX6_givesBy_0 : List UInt8 := [42, 180, 1, 18, 8, 160, 0, 17, 42, 16, 60, 182, 1, 12, 42, 27, 4, 96, 182, 1, 42, 172, 42]
abbrev dktX6_givesBy_0 : List UInt8 := dkwX6_givesBy_0 ++ dktX6_givesBy_1
theorem dksX6_givesBy_0 : cX6_givesBy.data.toList.drop 0 = dktX6_givesBy_0 := by decide +kernel
theorem dksX6_givesBy_1 : cX6_givesBy.data.toList.drop 23 = dktX6_givesBy_1 := dk_seg dksX6_givesBy_0 23 rfl rfl
theorem dX6_givesBy_0 : decode cX6_givesBy 0 = .ok (.aload_n 0, 1) := dk_42 (dk_at dksX6_givesBy_0 0 rfl rfl)
theorem dX6_givesBy_1 : decode cX6_givesBy 1 = .ok (.getfield 274, 3) := dk_180 1 18 (dk_at dksX6_givesBy_0 1 rfl rfl)
theorem dX6_givesBy_4 : decode cX6_givesBy 4 = .ok (.iconst 5, 1) := dk_8 (dk_at dksX6_givesBy_0 4 rfl rfl)
theorem dX6_givesBy_5 : decode cX6_givesBy 5 = .ok (.if_icmp .ne 17, 3) := dk_160 0 17 (dk_at dksX6_givesBy_0 5 rfl rfl)
theorem dX6_givesBy_8 : decode cX6_givesBy 8 = .ok (.aload_n 0, 1) := dk_42 (dk_at dksX6_givesBy_0 8 rfl rfl)
theorem dX6_givesBy_9 : decode cX6_givesBy 9 = .ok (.bipush 60, 2) := dk_16 60 (dk_at dksX6_givesBy_0 9 rfl rfl)
theorem dX6_givesBy_11 : decode cX6_givesBy 11 = .ok (.invokevirtual 268, 3) := dk_182 1 12 (dk_at dksX6_givesBy_0 11 rfl rfl)
theorem dX6_givesBy_14 : decode cX6_givesBy 14 = .ok (.aload_n 0, 1) := dk_42 (dk_at dksX6_givesBy_0 14 rfl rfl)
theorem dX6_givesBy_15 : decode cX6_givesBy 15 = .ok (.iload_n 1, 1) := dk_27 (dk_at dksX6_givesBy_0 15 rfl rfl)
theorem dX6_givesBy_16 : decode cX6_givesBy 16 = .ok (.iconst 1, 1) := dk_4 (dk_at dksX6_givesBy_0 16 rfl rfl)
theorem dX6_givesBy_17 : decode cX6_givesBy 17 = .ok (.iadd, 1) := dk_96 (dk_at dksX6_givesBy_0 17 rfl rfl)
theorem dX6_givesBy_18 : decode cX6_givesBy 18 = .ok (.invokevirtual 298, 3) := dk_182 1 42 (dk_at dksX6_givesBy_0 18 rfl rfl)
theorem dX6_givesBy_21 : decode cX6_givesBy 21 = .ok (.ireturn, 1) := dk_172 (dk_at dksX6_givesBy_0 21 rfl rfl)
theorem dX6_givesBy_22 : decode cX6_givesBy 22 = .ok (.aload_n 0, 1) := dk_42 (dk_at dksX6_givesBy_0 22 rfl rfl)
theorem dX6_givesBy_23 : decode cX6_givesBy 23 = .ok (.getfield 274, 3) := dk_180 1 18 (dk_at dksX6_givesBy_1 0 rfl rfl)
theorem dX6_givesBy_26 : decode cX6_givesBy 26 = .ok (.iconst 2, 1) := dk_5 (dk_at dksX6_givesBy_1 3 rfl rfl)
theorem dX6_givesBy_27 : decode cX6_givesBy 27 = .ok (.if_icmp .ne 11, 3) := dk_160 0 11 (dk_at dksX6_givesBy_1 4 rfl rfl)
theorem dX6_givesBy_30 : decode cX6_givesBy 30 = .ok (.aload_n 0, 1) := dk_42 (dk_at dksX6_givesBy_1 7 rfl rfl)
theorem dX6_givesBy_31 : decode cX6_givesBy 31 = .ok (.iload_n 1, 1) := dk_27 (dk_at dksX6_givesBy_1 8 rfl rfl)
theorem dX6_givesBy_32 : decode cX6_givesBy 32 = .ok (.invokevirtual 298, 3) := dk_182 1 42 (dk_at dksX6_givesBy_1 9 rfl rfl)
theorem dX6_givesBy_35 : decode cX6_givesBy 35 = .ok (.goto 8, 3) := dk_167 0 8 (dk_at dksX6_givesBy_1 12 rfl rfl)
theorem dX6_givesBy_38 : decode cX6_givesBy 38 = .ok (.aload_n 0, 1) := dk_42 (dk_at dksX6_givesBy_1 15 rfl rfl)
theorem dX6_givesBy_39 : decode cX6_givesBy 39 = .ok (.iload_n 1, 1) := dk_27 (dk_at dksX6_givesBy_1 16 rfl rfl)
theorem dX6_givesBy_40 : decode cX6_givesBy 40 = .ok (.invokevirtual 292, 3) := dk_182 1 36 (dk_at dksX6_givesBy_1 17 rfl rfl)
theorem dX6_givesBy_43 : decode cX6_givesBy 43 = .ok (.ireturn, 1) := dk_172 (dk_at dksX6_givesBy_1 20 rfl rfl)
abbrev cX6_poemGives : ByteArray := prog_30_method_86_code
def yX6_poemGives : MethodName := ⟨RX6, "poemGives", "(I)I"⟩
def dkwX6_poemGives_0 : List UInt8 := [42, 16, 30, 182, 1, 12, 42, 27, 182, 1, 36, 61, 28, 42, 4, 182, 1, 39, 100, 172]
abbrev dktX6_poemGives_0 : List UInt8 := dkwX6_poemGives_0 ++ []
theorem dksX6_poemGives_0 : cX6_poemGives.data.toList.drop 0 = dktX6_poemGives_0 := by decide +kernel
theorem dX6_poemGives_0 : decode cX6_poemGives 0 = .ok (.aload_n 0, 1) := dk_42 (dk_at dksX6_poemGives_0 0 rfl rfl)
theorem dX6_poemGives_1 : decode cX6_poemGives 1 = .ok (.bipush 30, 2) := dk_16 30 (dk_at dksX6_poemGives_0 1 rfl rfl)
theorem dX6_poemGives_3 : decode cX6_poemGives 3 = .ok (.invokevirtual 268, 3) := dk_182 1 12 (dk_at dksX6_poemGives_0 3 rfl rfl)
theorem dX6_poemGives_6 : decode cX6_poemGives 6 = .ok (.aload_n 0, 1) := dk_42 (dk_at dksX6_poemGives_0 6 rfl rfl)
theorem dX6_poemGives_7 : decode cX6_poemGives 7 = .ok (.iload_n 1, 1) := dk_27 (dk_at dksX6_poemGives_0 7 rfl rfl)
theorem dX6_poemGives_8 : decode cX6_poemGives 8 = .ok (.invokevirtual 292, 3) := dk_182 1 36 (dk_at dksX6_poemGives_0 8 rfl rfl)
theorem dX6_poemGives_11 : decode cX6_poemGives 11 = .ok (.istore_n 2, 1) := dk_61 (dk_at dksX6_poemGives_0 11 rfl rfl)
theorem dX6_poemGives_12 : decode cX6_poemGives 12 = .ok (.iload_n 2, 1) := dk_28 (dk_at dksX6_poemGives_0 12 rfl rfl)
theorem dX6_poemGives_13 : decode cX6_poemGives 13 = .ok (.aload_n 0, 1) := dk_42 (dk_at dksX6_poemGives_0 13 rfl rfl)
theorem dX6_poemGives_14 : decode cX6_poemGives 14 = .ok (.iconst 1, 1) := dk_4 (dk_at dksX6_poemGives_0 14 rfl rfl)
theorem dX6_poemGives_15 : decode cX6_poemGives 15 = .ok (.invokevirtual 295, 3) := dk_182 1 39 (dk_at dksX6_poemGives_0 15 rfl rfl)
theorem dX6_poemGives_18 : decode cX6_poemGives 18 = .ok (.isub, 1) := dk_100 (dk_at dksX6_poemGives_0 18 rfl rfl)
theorem dX6_poemGives_19 : decode cX6_poemGives 19 = .ok (.ireturn, 1) := dk_172 (dk_at dksX6_poemGives_0 19 rfl rfl)
abbrev cX6_plainGives : ByteArray := prog_30_method_85_code
def yX6_plainGives : MethodName := ⟨RX6, "plainGives", "(I)I"⟩
def dkwX6_plainGives_0 : List UInt8 := [42, 16, 11, 182, 1, 12, 42, 27, 182, 1, 33, 5, 104, 172]
abbrev dktX6_plainGives_0 : List UInt8 := dkwX6_plainGives_0 ++ []
theorem dksX6_plainGives_0 : cX6_plainGives.data.toList.drop 0 = dktX6_plainGives_0 := by decide +kernel
theorem dX6_plainGives_0 : decode cX6_plainGives 0 = .ok (.aload_n 0, 1) := dk_42 (dk_at dksX6_plainGives_0 0 rfl rfl)
theorem dX6_plainGives_1 : decode cX6_plainGives 1 = .ok (.bipush 11, 2) := dk_16 11 (dk_at dksX6_plainGives_0 1 rfl rfl)
theorem dX6_plainGives_3 : decode cX6_plainGives 3 = .ok (.invokevirtual 268, 3) := dk_182 1 12 (dk_at dksX6_plainGives_0 3 rfl rfl)
theorem dX6_plainGives_6 : decode cX6_plainGives 6 = .ok (.aload_n 0, 1) := dk_42 (dk_at dksX6_plainGives_0 6 rfl rfl)
theorem dX6_plainGives_7 : decode cX6_plainGives 7 = .ok (.iload_n 1, 1) := dk_27 (dk_at dksX6_plainGives_0 7 rfl rfl)
theorem dX6_plainGives_8 : decode cX6_plainGives 8 = .ok (.invokevirtual 289, 3) := dk_182 1 33 (dk_at dksX6_plainGives_0 8 rfl rfl)
theorem dX6_plainGives_11 : decode cX6_plainGives 11 = .ok (.iconst 2, 1) := dk_5 (dk_at dksX6_plainGives_0 11 rfl rfl)
theorem dX6_plainGives_12 : decode cX6_plainGives 12 = .ok (.imul, 1) := dk_104 (dk_at dksX6_plainGives_0 12 rfl rfl)
theorem dX6_plainGives_13 : decode cX6_plainGives 13 = .ok (.ireturn, 1) := dk_172 (dk_at dksX6_plainGives_0 13 rfl rfl)
abbrev cX6_takesBy : ByteArray := prog_30_method_84_code
def yX6_takesBy : MethodName := ⟨RX6, "takesBy", "(I)I"⟩
def dkwX6_takesBy_1 : List UInt8 := [130, 172, 42, 180, 1, 18, 6, 160, 0, 11, 42, 27, 182, 1, 30, 167, 0, 8, 42, 27, 182, 1, 27, 172]
abbrev dktX6_takesBy_1 : List UInt8 := dkwX6_takesBy_1 ++ []
def dkwX6_takesBy_0 : List UInt8 := [42, 180, 1, 18, 16, 6, 160, 0, 20, 42, 16, 70, 182, 1, 12, 42, 27, 182, 1, 30, 42, 180, 1, 15]
abbrev dktX6_takesBy_0 : List UInt8 := dkwX6_takesBy_0 ++ dktX6_takesBy_1
theorem dksX6_takesBy_0 : cX6_takesBy.data.toList.drop 0 = dktX6_takesBy_0 := by decide +kernel
theorem dksX6_takesBy_1 : cX6_takesBy.data.toList.drop 24 = dktX6_takesBy_1 := dk_seg dksX6_takesBy_0 24 rfl rfl
theorem dX6_takesBy_0 : decode cX6_takesBy 0 = .ok (.aload_n 0, 1) := dk_42 (dk_at dksX6_takesBy_0 0 rfl rfl)
theorem dX6_takesBy_1 : decode cX6_takesBy 1 = .ok (.getfield 274, 3) := dk_180 1 18 (dk_at dksX6_takesBy_0 1 rfl rfl)
theorem dX6_takesBy_4 : decode cX6_takesBy 4 = .ok (.bipush 6, 2) := dk_16 6 (dk_at dksX6_takesBy_0 4 rfl rfl)
theorem dX6_takesBy_6 : decode cX6_takesBy 6 = .ok (.if_icmp .ne 20, 3) := dk_160 0 20 (dk_at dksX6_takesBy_0 6 rfl rfl)
theorem dX6_takesBy_9 : decode cX6_takesBy 9 = .ok (.aload_n 0, 1) := dk_42 (dk_at dksX6_takesBy_0 9 rfl rfl)
theorem dX6_takesBy_10 : decode cX6_takesBy 10 = .ok (.bipush 70, 2) := dk_16 70 (dk_at dksX6_takesBy_0 10 rfl rfl)
theorem dX6_takesBy_12 : decode cX6_takesBy 12 = .ok (.invokevirtual 268, 3) := dk_182 1 12 (dk_at dksX6_takesBy_0 12 rfl rfl)
theorem dX6_takesBy_15 : decode cX6_takesBy 15 = .ok (.aload_n 0, 1) := dk_42 (dk_at dksX6_takesBy_0 15 rfl rfl)
theorem dX6_takesBy_16 : decode cX6_takesBy 16 = .ok (.iload_n 1, 1) := dk_27 (dk_at dksX6_takesBy_0 16 rfl rfl)
theorem dX6_takesBy_17 : decode cX6_takesBy 17 = .ok (.invokevirtual 286, 3) := dk_182 1 30 (dk_at dksX6_takesBy_0 17 rfl rfl)
theorem dX6_takesBy_20 : decode cX6_takesBy 20 = .ok (.aload_n 0, 1) := dk_42 (dk_at dksX6_takesBy_0 20 rfl rfl)
theorem dX6_takesBy_21 : decode cX6_takesBy 21 = .ok (.getfield 271, 3) := dk_180 1 15 (dk_at dksX6_takesBy_0 21 rfl rfl)
theorem dX6_takesBy_24 : decode cX6_takesBy 24 = .ok (.ixor, 1) := dk_130 (dk_at dksX6_takesBy_1 0 rfl rfl)
theorem dX6_takesBy_25 : decode cX6_takesBy 25 = .ok (.ireturn, 1) := dk_172 (dk_at dksX6_takesBy_1 1 rfl rfl)
theorem dX6_takesBy_26 : decode cX6_takesBy 26 = .ok (.aload_n 0, 1) := dk_42 (dk_at dksX6_takesBy_1 2 rfl rfl)
theorem dX6_takesBy_27 : decode cX6_takesBy 27 = .ok (.getfield 274, 3) := dk_180 1 18 (dk_at dksX6_takesBy_1 3 rfl rfl)
theorem dX6_takesBy_30 : decode cX6_takesBy 30 = .ok (.iconst 3, 1) := dk_6 (dk_at dksX6_takesBy_1 6 rfl rfl)
theorem dX6_takesBy_31 : decode cX6_takesBy 31 = .ok (.if_icmp .ne 11, 3) := dk_160 0 11 (dk_at dksX6_takesBy_1 7 rfl rfl)
theorem dX6_takesBy_34 : decode cX6_takesBy 34 = .ok (.aload_n 0, 1) := dk_42 (dk_at dksX6_takesBy_1 10 rfl rfl)
theorem dX6_takesBy_35 : decode cX6_takesBy 35 = .ok (.iload_n 1, 1) := dk_27 (dk_at dksX6_takesBy_1 11 rfl rfl)
theorem dX6_takesBy_36 : decode cX6_takesBy 36 = .ok (.invokevirtual 286, 3) := dk_182 1 30 (dk_at dksX6_takesBy_1 12 rfl rfl)
theorem dX6_takesBy_39 : decode cX6_takesBy 39 = .ok (.goto 8, 3) := dk_167 0 8 (dk_at dksX6_takesBy_1 15 rfl rfl)
theorem dX6_takesBy_42 : decode cX6_takesBy 42 = .ok (.aload_n 0, 1) := dk_42 (dk_at dksX6_takesBy_1 18 rfl rfl)
theorem dX6_takesBy_43 : decode cX6_takesBy 43 = .ok (.iload_n 1, 1) := dk_27 (dk_at dksX6_takesBy_1 19 rfl rfl)
theorem dX6_takesBy_44 : decode cX6_takesBy 44 = .ok (.invokevirtual 283, 3) := dk_182 1 27 (dk_at dksX6_takesBy_1 20 rfl rfl)
theorem dX6_takesBy_47 : decode cX6_takesBy 47 = .ok (.ireturn, 1) := dk_172 (dk_at dksX6_takesBy_1 23 rfl rfl)
abbrev cX6_lawTakes : ByteArray := prog_30_method_83_code
def yX6_lawTakes : MethodName := ⟨RX6, "lawTakes", "(I)I"⟩
def dkwX6_lawTakes_0 : List UInt8 := [42, 16, 40, 182, 1, 12, 42, 27, 182, 1, 27, 116, 172]
abbrev dktX6_lawTakes_0 : List UInt8 := dkwX6_lawTakes_0 ++ []
theorem dksX6_lawTakes_0 : cX6_lawTakes.data.toList.drop 0 = dktX6_lawTakes_0 := by decide +kernel
theorem dX6_lawTakes_0 : decode cX6_lawTakes 0 = .ok (.aload_n 0, 1) := dk_42 (dk_at dksX6_lawTakes_0 0 rfl rfl)
theorem dX6_lawTakes_1 : decode cX6_lawTakes 1 = .ok (.bipush 40, 2) := dk_16 40 (dk_at dksX6_lawTakes_0 1 rfl rfl)
theorem dX6_lawTakes_3 : decode cX6_lawTakes 3 = .ok (.invokevirtual 268, 3) := dk_182 1 12 (dk_at dksX6_lawTakes_0 3 rfl rfl)
theorem dX6_lawTakes_6 : decode cX6_lawTakes 6 = .ok (.aload_n 0, 1) := dk_42 (dk_at dksX6_lawTakes_0 6 rfl rfl)
theorem dX6_lawTakes_7 : decode cX6_lawTakes 7 = .ok (.iload_n 1, 1) := dk_27 (dk_at dksX6_lawTakes_0 7 rfl rfl)
theorem dX6_lawTakes_8 : decode cX6_lawTakes 8 = .ok (.invokevirtual 283, 3) := dk_182 1 27 (dk_at dksX6_lawTakes_0 8 rfl rfl)
theorem dX6_lawTakes_11 : decode cX6_lawTakes 11 = .ok (.ineg, 1) := dk_116 (dk_at dksX6_lawTakes_0 11 rfl rfl)
theorem dX6_lawTakes_12 : decode cX6_lawTakes 12 = .ok (.ireturn, 1) := dk_172 (dk_at dksX6_lawTakes_0 12 rfl rfl)
abbrev cX6_plainTakes : ByteArray := prog_30_method_82_code
def yX6_plainTakes : MethodName := ⟨RX6, "plainTakes", "(I)I"⟩
def dkwX6_plainTakes_0 : List UInt8 := [42, 16, 12, 182, 1, 12, 27, 42, 180, 1, 24, 100, 172]
abbrev dktX6_plainTakes_0 : List UInt8 := dkwX6_plainTakes_0 ++ []
theorem dksX6_plainTakes_0 : cX6_plainTakes.data.toList.drop 0 = dktX6_plainTakes_0 := by decide +kernel
theorem dX6_plainTakes_0 : decode cX6_plainTakes 0 = .ok (.aload_n 0, 1) := dk_42 (dk_at dksX6_plainTakes_0 0 rfl rfl)
theorem dX6_plainTakes_1 : decode cX6_plainTakes 1 = .ok (.bipush 12, 2) := dk_16 12 (dk_at dksX6_plainTakes_0 1 rfl rfl)
theorem dX6_plainTakes_3 : decode cX6_plainTakes 3 = .ok (.invokevirtual 268, 3) := dk_182 1 12 (dk_at dksX6_plainTakes_0 3 rfl rfl)
theorem dX6_plainTakes_6 : decode cX6_plainTakes 6 = .ok (.iload_n 1, 1) := dk_27 (dk_at dksX6_plainTakes_0 6 rfl rfl)
theorem dX6_plainTakes_7 : decode cX6_plainTakes 7 = .ok (.aload_n 0, 1) := dk_42 (dk_at dksX6_plainTakes_0 7 rfl rfl)
theorem dX6_plainTakes_8 : decode cX6_plainTakes 8 = .ok (.getfield 280, 3) := dk_180 1 24 (dk_at dksX6_plainTakes_0 8 rfl rfl)
theorem dX6_plainTakes_11 : decode cX6_plainTakes 11 = .ok (.isub, 1) := dk_100 (dk_at dksX6_plainTakes_0 11 rfl rfl)
theorem dX6_plainTakes_12 : decode cX6_plainTakes 12 = .ok (.ireturn, 1) := dk_172 (dk_at dksX6_plainTakes_0 12 rfl rfl)
abbrev cX6_tellsBy : ByteArray := prog_30_method_89_code
def yX6_tellsBy : MethodName := ⟨RX6, "tellsBy", "(I)I"⟩
def dkwX6_tellsBy_2 : List UInt8 := [182, 1, 45, 61, 28, 42, 27, 182, 1, 48, 100, 172, 42, 27, 182, 1, 48, 172]
abbrev dktX6_tellsBy_2 : List UInt8 := dkwX6_tellsBy_2 ++ []
def dkwX6_tellsBy_1 : List UInt8 := [182, 1, 33, 100, 172, 42, 180, 1, 18, 16, 6, 160, 0, 23, 42, 16, 71, 182, 1, 12, 42, 27]
abbrev dktX6_tellsBy_1 : List UInt8 := dkwX6_tellsBy_1 ++ dktX6_tellsBy_2
def dkwX6_tellsBy_0 : List UInt8 := [42, 180, 1, 18, 7, 160, 0, 23, 42, 16, 50, 182, 1, 12, 42, 27, 182, 1, 48, 61, 28, 42, 5]
abbrev dktX6_tellsBy_0 : List UInt8 := dkwX6_tellsBy_0 ++ dktX6_tellsBy_1
theorem dksX6_tellsBy_0 : cX6_tellsBy.data.toList.drop 0 = dktX6_tellsBy_0 := by decide +kernel
theorem dksX6_tellsBy_1 : cX6_tellsBy.data.toList.drop 23 = dktX6_tellsBy_1 := dk_seg dksX6_tellsBy_0 23 rfl rfl
theorem dksX6_tellsBy_2 : cX6_tellsBy.data.toList.drop 45 = dktX6_tellsBy_2 := dk_seg dksX6_tellsBy_1 22 rfl rfl
theorem dX6_tellsBy_0 : decode cX6_tellsBy 0 = .ok (.aload_n 0, 1) := dk_42 (dk_at dksX6_tellsBy_0 0 rfl rfl)
theorem dX6_tellsBy_1 : decode cX6_tellsBy 1 = .ok (.getfield 274, 3) := dk_180 1 18 (dk_at dksX6_tellsBy_0 1 rfl rfl)
theorem dX6_tellsBy_4 : decode cX6_tellsBy 4 = .ok (.iconst 4, 1) := dk_7 (dk_at dksX6_tellsBy_0 4 rfl rfl)
theorem dX6_tellsBy_5 : decode cX6_tellsBy 5 = .ok (.if_icmp .ne 23, 3) := dk_160 0 23 (dk_at dksX6_tellsBy_0 5 rfl rfl)
theorem dX6_tellsBy_8 : decode cX6_tellsBy 8 = .ok (.aload_n 0, 1) := dk_42 (dk_at dksX6_tellsBy_0 8 rfl rfl)
theorem dX6_tellsBy_9 : decode cX6_tellsBy 9 = .ok (.bipush 50, 2) := dk_16 50 (dk_at dksX6_tellsBy_0 9 rfl rfl)
theorem dX6_tellsBy_11 : decode cX6_tellsBy 11 = .ok (.invokevirtual 268, 3) := dk_182 1 12 (dk_at dksX6_tellsBy_0 11 rfl rfl)
theorem dX6_tellsBy_14 : decode cX6_tellsBy 14 = .ok (.aload_n 0, 1) := dk_42 (dk_at dksX6_tellsBy_0 14 rfl rfl)
theorem dX6_tellsBy_15 : decode cX6_tellsBy 15 = .ok (.iload_n 1, 1) := dk_27 (dk_at dksX6_tellsBy_0 15 rfl rfl)
theorem dX6_tellsBy_16 : decode cX6_tellsBy 16 = .ok (.invokevirtual 304, 3) := dk_182 1 48 (dk_at dksX6_tellsBy_0 16 rfl rfl)
theorem dX6_tellsBy_19 : decode cX6_tellsBy 19 = .ok (.istore_n 2, 1) := dk_61 (dk_at dksX6_tellsBy_0 19 rfl rfl)
theorem dX6_tellsBy_20 : decode cX6_tellsBy 20 = .ok (.iload_n 2, 1) := dk_28 (dk_at dksX6_tellsBy_0 20 rfl rfl)
theorem dX6_tellsBy_21 : decode cX6_tellsBy 21 = .ok (.aload_n 0, 1) := dk_42 (dk_at dksX6_tellsBy_0 21 rfl rfl)
theorem dX6_tellsBy_22 : decode cX6_tellsBy 22 = .ok (.iconst 2, 1) := dk_5 (dk_at dksX6_tellsBy_0 22 rfl rfl)
theorem dX6_tellsBy_23 : decode cX6_tellsBy 23 = .ok (.invokevirtual 289, 3) := dk_182 1 33 (dk_at dksX6_tellsBy_1 0 rfl rfl)
theorem dX6_tellsBy_26 : decode cX6_tellsBy 26 = .ok (.isub, 1) := dk_100 (dk_at dksX6_tellsBy_1 3 rfl rfl)
theorem dX6_tellsBy_27 : decode cX6_tellsBy 27 = .ok (.ireturn, 1) := dk_172 (dk_at dksX6_tellsBy_1 4 rfl rfl)
theorem dX6_tellsBy_28 : decode cX6_tellsBy 28 = .ok (.aload_n 0, 1) := dk_42 (dk_at dksX6_tellsBy_1 5 rfl rfl)
theorem dX6_tellsBy_29 : decode cX6_tellsBy 29 = .ok (.getfield 274, 3) := dk_180 1 18 (dk_at dksX6_tellsBy_1 6 rfl rfl)
theorem dX6_tellsBy_32 : decode cX6_tellsBy 32 = .ok (.bipush 6, 2) := dk_16 6 (dk_at dksX6_tellsBy_1 9 rfl rfl)
theorem dX6_tellsBy_34 : decode cX6_tellsBy 34 = .ok (.if_icmp .ne 23, 3) := dk_160 0 23 (dk_at dksX6_tellsBy_1 11 rfl rfl)
theorem dX6_tellsBy_37 : decode cX6_tellsBy 37 = .ok (.aload_n 0, 1) := dk_42 (dk_at dksX6_tellsBy_1 14 rfl rfl)
theorem dX6_tellsBy_38 : decode cX6_tellsBy 38 = .ok (.bipush 71, 2) := dk_16 71 (dk_at dksX6_tellsBy_1 15 rfl rfl)
theorem dX6_tellsBy_40 : decode cX6_tellsBy 40 = .ok (.invokevirtual 268, 3) := dk_182 1 12 (dk_at dksX6_tellsBy_1 17 rfl rfl)
theorem dX6_tellsBy_43 : decode cX6_tellsBy 43 = .ok (.aload_n 0, 1) := dk_42 (dk_at dksX6_tellsBy_1 20 rfl rfl)
theorem dX6_tellsBy_44 : decode cX6_tellsBy 44 = .ok (.iload_n 1, 1) := dk_27 (dk_at dksX6_tellsBy_1 21 rfl rfl)
theorem dX6_tellsBy_45 : decode cX6_tellsBy 45 = .ok (.invokevirtual 301, 3) := dk_182 1 45 (dk_at dksX6_tellsBy_2 0 rfl rfl)
theorem dX6_tellsBy_48 : decode cX6_tellsBy 48 = .ok (.istore_n 2, 1) := dk_61 (dk_at dksX6_tellsBy_2 3 rfl rfl)
theorem dX6_tellsBy_49 : decode cX6_tellsBy 49 = .ok (.iload_n 2, 1) := dk_28 (dk_at dksX6_tellsBy_2 4 rfl rfl)
theorem dX6_tellsBy_50 : decode cX6_tellsBy 50 = .ok (.aload_n 0, 1) := dk_42 (dk_at dksX6_tellsBy_2 5 rfl rfl)
theorem dX6_tellsBy_51 : decode cX6_tellsBy 51 = .ok (.iload_n 1, 1) := dk_27 (dk_at dksX6_tellsBy_2 6 rfl rfl)
theorem dX6_tellsBy_52 : decode cX6_tellsBy 52 = .ok (.invokevirtual 304, 3) := dk_182 1 48 (dk_at dksX6_tellsBy_2 7 rfl rfl)
theorem dX6_tellsBy_55 : decode cX6_tellsBy 55 = .ok (.isub, 1) := dk_100 (dk_at dksX6_tellsBy_2 10 rfl rfl)
theorem dX6_tellsBy_56 : decode cX6_tellsBy 56 = .ok (.ireturn, 1) := dk_172 (dk_at dksX6_tellsBy_2 11 rfl rfl)
theorem dX6_tellsBy_57 : decode cX6_tellsBy 57 = .ok (.aload_n 0, 1) := dk_42 (dk_at dksX6_tellsBy_2 12 rfl rfl)
theorem dX6_tellsBy_58 : decode cX6_tellsBy 58 = .ok (.iload_n 1, 1) := dk_27 (dk_at dksX6_tellsBy_2 13 rfl rfl)
theorem dX6_tellsBy_59 : decode cX6_tellsBy 59 = .ok (.invokevirtual 304, 3) := dk_182 1 48 (dk_at dksX6_tellsBy_2 14 rfl rfl)
theorem dX6_tellsBy_62 : decode cX6_tellsBy 62 = .ok (.ireturn, 1) := dk_172 (dk_at dksX6_tellsBy_2 17 rfl rfl)
abbrev cX6_plainTells : ByteArray := prog_30_method_88_code
def yX6_plainTells : MethodName := ⟨RX6, "plainTells", "(I)I"⟩
def dkwX6_plainTells_0 : List UInt8 := [42, 16, 13, 182, 1, 12, 42, 27, 182, 1, 45, 61, 28, 42, 27, 182, 1, 39, 130, 172]
abbrev dktX6_plainTells_0 : List UInt8 := dkwX6_plainTells_0 ++ []
theorem dksX6_plainTells_0 : cX6_plainTells.data.toList.drop 0 = dktX6_plainTells_0 := by decide +kernel
theorem dX6_plainTells_0 : decode cX6_plainTells 0 = .ok (.aload_n 0, 1) := dk_42 (dk_at dksX6_plainTells_0 0 rfl rfl)
theorem dX6_plainTells_1 : decode cX6_plainTells 1 = .ok (.bipush 13, 2) := dk_16 13 (dk_at dksX6_plainTells_0 1 rfl rfl)
theorem dX6_plainTells_3 : decode cX6_plainTells 3 = .ok (.invokevirtual 268, 3) := dk_182 1 12 (dk_at dksX6_plainTells_0 3 rfl rfl)
theorem dX6_plainTells_6 : decode cX6_plainTells 6 = .ok (.aload_n 0, 1) := dk_42 (dk_at dksX6_plainTells_0 6 rfl rfl)
theorem dX6_plainTells_7 : decode cX6_plainTells 7 = .ok (.iload_n 1, 1) := dk_27 (dk_at dksX6_plainTells_0 7 rfl rfl)
theorem dX6_plainTells_8 : decode cX6_plainTells 8 = .ok (.invokevirtual 301, 3) := dk_182 1 45 (dk_at dksX6_plainTells_0 8 rfl rfl)
theorem dX6_plainTells_11 : decode cX6_plainTells 11 = .ok (.istore_n 2, 1) := dk_61 (dk_at dksX6_plainTells_0 11 rfl rfl)
theorem dX6_plainTells_12 : decode cX6_plainTells 12 = .ok (.iload_n 2, 1) := dk_28 (dk_at dksX6_plainTells_0 12 rfl rfl)
theorem dX6_plainTells_13 : decode cX6_plainTells 13 = .ok (.aload_n 0, 1) := dk_42 (dk_at dksX6_plainTells_0 13 rfl rfl)
theorem dX6_plainTells_14 : decode cX6_plainTells 14 = .ok (.iload_n 1, 1) := dk_27 (dk_at dksX6_plainTells_0 14 rfl rfl)
theorem dX6_plainTells_15 : decode cX6_plainTells 15 = .ok (.invokevirtual 295, 3) := dk_182 1 39 (dk_at dksX6_plainTells_0 15 rfl rfl)
theorem dX6_plainTells_18 : decode cX6_plainTells 18 = .ok (.ixor, 1) := dk_130 (dk_at dksX6_plainTells_0 18 rfl rfl)
theorem dX6_plainTells_19 : decode cX6_plainTells 19 = .ok (.ireturn, 1) := dk_172 (dk_at dksX6_plainTells_0 19 rfl rfl)
abbrev cX6_trace : ByteArray := prog_30_method_91_code
def yX6_trace : MethodName := ⟨RX6, "trace", "(I)I"⟩
def dkwX6_trace_1 : List UInt8 := [167, 0, 9, 42, 18, 249, 182, 0, 68, 172]
abbrev dktX6_trace_1 : List UInt8 := dkwX6_trace_1 ++ []
def dkwX6_trace_0 : List UInt8 := [27, 133, 9, 42, 180, 1, 9, 4, 100, 133, 184, 0, 46, 153, 0, 12, 42, 180, 0, 28, 27, 46]
abbrev dktX6_trace_0 : List UInt8 := dkwX6_trace_0 ++ dktX6_trace_1
theorem dksX6_trace_0 : cX6_trace.data.toList.drop 0 = dktX6_trace_0 := by decide +kernel
theorem dksX6_trace_1 : cX6_trace.data.toList.drop 22 = dktX6_trace_1 := dk_seg dksX6_trace_0 22 rfl rfl
theorem dX6_trace_0 : decode cX6_trace 0 = .ok (.iload_n 1, 1) := dk_27 (dk_at dksX6_trace_0 0 rfl rfl)
theorem dX6_trace_1 : decode cX6_trace 1 = .ok (.i2l, 1) := dk_133 (dk_at dksX6_trace_0 1 rfl rfl)
theorem dX6_trace_2 : decode cX6_trace 2 = .ok (.lconst 0, 1) := dk_9 (dk_at dksX6_trace_0 2 rfl rfl)
theorem dX6_trace_3 : decode cX6_trace 3 = .ok (.aload_n 0, 1) := dk_42 (dk_at dksX6_trace_0 3 rfl rfl)
theorem dX6_trace_4 : decode cX6_trace 4 = .ok (.getfield 265, 3) := dk_180 1 9 (dk_at dksX6_trace_0 4 rfl rfl)
theorem dX6_trace_7 : decode cX6_trace 7 = .ok (.iconst 1, 1) := dk_4 (dk_at dksX6_trace_0 7 rfl rfl)
theorem dX6_trace_8 : decode cX6_trace 8 = .ok (.isub, 1) := dk_100 (dk_at dksX6_trace_0 8 rfl rfl)
theorem dX6_trace_9 : decode cX6_trace 9 = .ok (.i2l, 1) := dk_133 (dk_at dksX6_trace_0 9 rfl rfl)
theorem dX6_trace_10 : decode cX6_trace 10 = .ok (.invokestatic 46, 3) := dk_184 0 46 (dk_at dksX6_trace_0 10 rfl rfl)
theorem dX6_trace_13 : decode cX6_trace 13 = .ok (.ifCond .eq 12, 3) := dk_153 0 12 (dk_at dksX6_trace_0 13 rfl rfl)
theorem dX6_trace_16 : decode cX6_trace 16 = .ok (.aload_n 0, 1) := dk_42 (dk_at dksX6_trace_0 16 rfl rfl)
theorem dX6_trace_17 : decode cX6_trace 17 = .ok (.getfield 28, 3) := dk_180 0 28 (dk_at dksX6_trace_0 17 rfl rfl)
theorem dX6_trace_20 : decode cX6_trace 20 = .ok (.iload_n 1, 1) := dk_27 (dk_at dksX6_trace_0 20 rfl rfl)
theorem dX6_trace_21 : decode cX6_trace 21 = .ok (.iaload, 1) := dk_46 (dk_at dksX6_trace_0 21 rfl rfl)
theorem dX6_trace_22 : decode cX6_trace 22 = .ok (.goto 9, 3) := dk_167 0 9 (dk_at dksX6_trace_1 0 rfl rfl)
theorem dX6_trace_25 : decode cX6_trace 25 = .ok (.aload_n 0, 1) := dk_42 (dk_at dksX6_trace_1 3 rfl rfl)
theorem dX6_trace_26 : decode cX6_trace 26 = .ok (.ldc 249, 2) := dk_18 249 (dk_at dksX6_trace_1 4 rfl rfl)
theorem dX6_trace_28 : decode cX6_trace 28 = .ok (.invokevirtual 68, 3) := dk_182 0 68 (dk_at dksX6_trace_1 6 rfl rfl)
theorem dX6_trace_31 : decode cX6_trace 31 = .ok (.ireturn, 1) := dk_172 (dk_at dksX6_trace_1 9 rfl rfl)
abbrev cX6_sheet : ByteArray := prog_30_method_93_code
def yX6_sheet : MethodName := ⟨RX6, "sheet", "(III)I"⟩
def dkwX6_sheet_5 : List UInt8 := [167, 255, 233, 4, 172]
abbrev dktX6_sheet_5 : List UInt8 := dkwX6_sheet_5 ++ []
def dkwX6_sheet_4 : List UInt8 := [21, 4, 16, 40, 162, 0, 22, 42, 180, 0, 37, 16, 40, 27, 104, 21, 4, 96, 3, 79, 132, 4, 1]
abbrev dktX6_sheet_4 : List UInt8 := dkwX6_sheet_4 ++ dktX6_sheet_5
def dkwX6_sheet_3 : List UInt8 := [180, 0, 31, 27, 28, 79, 42, 180, 0, 34, 27, 28, 154, 0, 7, 3, 167, 0, 4, 29, 79, 3, 54, 4]
abbrev dktX6_sheet_3 : List UInt8 := dkwX6_sheet_3 ++ dktX6_sheet_4
def dkwX6_sheet_2 : List UInt8 := [182, 0, 68, 172, 28, 153, 0, 16, 29, 16, 40, 164, 0, 10, 42, 18, 67, 182, 0, 68, 172, 42]
abbrev dktX6_sheet_2 : List UInt8 := dkwX6_sheet_2 ++ dktX6_sheet_3
def dkwX6_sheet_1 : List UInt8 := [16, 32, 159, 0, 10, 42, 18, 67, 182, 0, 68, 172, 28, 153, 0, 14, 29, 156, 0, 10, 42, 18, 199]
abbrev dktX6_sheet_1 : List UInt8 := dkwX6_sheet_1 ++ dktX6_sheet_2
def dkwX6_sheet_0 : List UInt8 := [27, 184, 1, 1, 153, 0, 25, 28, 153, 0, 28, 28, 16, 8, 159, 0, 22, 28, 16, 16, 159, 0, 16, 28]
abbrev dktX6_sheet_0 : List UInt8 := dkwX6_sheet_0 ++ dktX6_sheet_1
theorem dksX6_sheet_0 : cX6_sheet.data.toList.drop 0 = dktX6_sheet_0 := by decide +kernel
theorem dksX6_sheet_1 : cX6_sheet.data.toList.drop 24 = dktX6_sheet_1 := dk_seg dksX6_sheet_0 24 rfl rfl
theorem dksX6_sheet_2 : cX6_sheet.data.toList.drop 47 = dktX6_sheet_2 := dk_seg dksX6_sheet_1 23 rfl rfl
theorem dksX6_sheet_3 : cX6_sheet.data.toList.drop 69 = dktX6_sheet_3 := dk_seg dksX6_sheet_2 22 rfl rfl
theorem dksX6_sheet_4 : cX6_sheet.data.toList.drop 93 = dktX6_sheet_4 := dk_seg dksX6_sheet_3 24 rfl rfl
theorem dksX6_sheet_5 : cX6_sheet.data.toList.drop 116 = dktX6_sheet_5 := dk_seg dksX6_sheet_4 23 rfl rfl
theorem dX6_sheet_0 : decode cX6_sheet 0 = .ok (.iload_n 1, 1) := dk_27 (dk_at dksX6_sheet_0 0 rfl rfl)
theorem dX6_sheet_1 : decode cX6_sheet 1 = .ok (.invokestatic 257, 3) := dk_184 1 1 (dk_at dksX6_sheet_0 1 rfl rfl)
theorem dX6_sheet_4 : decode cX6_sheet 4 = .ok (.ifCond .eq 25, 3) := dk_153 0 25 (dk_at dksX6_sheet_0 4 rfl rfl)
theorem dX6_sheet_7 : decode cX6_sheet 7 = .ok (.iload_n 2, 1) := dk_28 (dk_at dksX6_sheet_0 7 rfl rfl)
theorem dX6_sheet_8 : decode cX6_sheet 8 = .ok (.ifCond .eq 28, 3) := dk_153 0 28 (dk_at dksX6_sheet_0 8 rfl rfl)
theorem dX6_sheet_11 : decode cX6_sheet 11 = .ok (.iload_n 2, 1) := dk_28 (dk_at dksX6_sheet_0 11 rfl rfl)
theorem dX6_sheet_12 : decode cX6_sheet 12 = .ok (.bipush 8, 2) := dk_16 8 (dk_at dksX6_sheet_0 12 rfl rfl)
theorem dX6_sheet_14 : decode cX6_sheet 14 = .ok (.if_icmp .eq 22, 3) := dk_159 0 22 (dk_at dksX6_sheet_0 14 rfl rfl)
theorem dX6_sheet_17 : decode cX6_sheet 17 = .ok (.iload_n 2, 1) := dk_28 (dk_at dksX6_sheet_0 17 rfl rfl)
theorem dX6_sheet_18 : decode cX6_sheet 18 = .ok (.bipush 16, 2) := dk_16 16 (dk_at dksX6_sheet_0 18 rfl rfl)
theorem dX6_sheet_20 : decode cX6_sheet 20 = .ok (.if_icmp .eq 16, 3) := dk_159 0 16 (dk_at dksX6_sheet_0 20 rfl rfl)
theorem dX6_sheet_23 : decode cX6_sheet 23 = .ok (.iload_n 2, 1) := dk_28 (dk_at dksX6_sheet_0 23 rfl rfl)
theorem dX6_sheet_24 : decode cX6_sheet 24 = .ok (.bipush 32, 2) := dk_16 32 (dk_at dksX6_sheet_1 0 rfl rfl)
theorem dX6_sheet_26 : decode cX6_sheet 26 = .ok (.if_icmp .eq 10, 3) := dk_159 0 10 (dk_at dksX6_sheet_1 2 rfl rfl)
theorem dX6_sheet_29 : decode cX6_sheet 29 = .ok (.aload_n 0, 1) := dk_42 (dk_at dksX6_sheet_1 5 rfl rfl)
theorem dX6_sheet_30 : decode cX6_sheet 30 = .ok (.ldc 67, 2) := dk_18 67 (dk_at dksX6_sheet_1 6 rfl rfl)
theorem dX6_sheet_32 : decode cX6_sheet 32 = .ok (.invokevirtual 68, 3) := dk_182 0 68 (dk_at dksX6_sheet_1 8 rfl rfl)
theorem dX6_sheet_35 : decode cX6_sheet 35 = .ok (.ireturn, 1) := dk_172 (dk_at dksX6_sheet_1 11 rfl rfl)
theorem dX6_sheet_36 : decode cX6_sheet 36 = .ok (.iload_n 2, 1) := dk_28 (dk_at dksX6_sheet_1 12 rfl rfl)
theorem dX6_sheet_37 : decode cX6_sheet 37 = .ok (.ifCond .eq 14, 3) := dk_153 0 14 (dk_at dksX6_sheet_1 13 rfl rfl)
theorem dX6_sheet_40 : decode cX6_sheet 40 = .ok (.iload_n 3, 1) := dk_29 (dk_at dksX6_sheet_1 16 rfl rfl)
theorem dX6_sheet_41 : decode cX6_sheet 41 = .ok (.ifCond .ge 10, 3) := dk_156 0 10 (dk_at dksX6_sheet_1 17 rfl rfl)
theorem dX6_sheet_44 : decode cX6_sheet 44 = .ok (.aload_n 0, 1) := dk_42 (dk_at dksX6_sheet_1 20 rfl rfl)
theorem dX6_sheet_45 : decode cX6_sheet 45 = .ok (.ldc 199, 2) := dk_18 199 (dk_at dksX6_sheet_1 21 rfl rfl)
theorem dX6_sheet_47 : decode cX6_sheet 47 = .ok (.invokevirtual 68, 3) := dk_182 0 68 (dk_at dksX6_sheet_2 0 rfl rfl)
theorem dX6_sheet_50 : decode cX6_sheet 50 = .ok (.ireturn, 1) := dk_172 (dk_at dksX6_sheet_2 3 rfl rfl)
theorem dX6_sheet_51 : decode cX6_sheet 51 = .ok (.iload_n 2, 1) := dk_28 (dk_at dksX6_sheet_2 4 rfl rfl)
theorem dX6_sheet_52 : decode cX6_sheet 52 = .ok (.ifCond .eq 16, 3) := dk_153 0 16 (dk_at dksX6_sheet_2 5 rfl rfl)
theorem dX6_sheet_55 : decode cX6_sheet 55 = .ok (.iload_n 3, 1) := dk_29 (dk_at dksX6_sheet_2 8 rfl rfl)
theorem dX6_sheet_56 : decode cX6_sheet 56 = .ok (.bipush 40, 2) := dk_16 40 (dk_at dksX6_sheet_2 9 rfl rfl)
theorem dX6_sheet_58 : decode cX6_sheet 58 = .ok (.if_icmp .le 10, 3) := dk_164 0 10 (dk_at dksX6_sheet_2 11 rfl rfl)
theorem dX6_sheet_61 : decode cX6_sheet 61 = .ok (.aload_n 0, 1) := dk_42 (dk_at dksX6_sheet_2 14 rfl rfl)
theorem dX6_sheet_62 : decode cX6_sheet 62 = .ok (.ldc 67, 2) := dk_18 67 (dk_at dksX6_sheet_2 15 rfl rfl)
theorem dX6_sheet_64 : decode cX6_sheet 64 = .ok (.invokevirtual 68, 3) := dk_182 0 68 (dk_at dksX6_sheet_2 17 rfl rfl)
theorem dX6_sheet_67 : decode cX6_sheet 67 = .ok (.ireturn, 1) := dk_172 (dk_at dksX6_sheet_2 20 rfl rfl)
theorem dX6_sheet_68 : decode cX6_sheet 68 = .ok (.aload_n 0, 1) := dk_42 (dk_at dksX6_sheet_2 21 rfl rfl)
theorem dX6_sheet_69 : decode cX6_sheet 69 = .ok (.getfield 31, 3) := dk_180 0 31 (dk_at dksX6_sheet_3 0 rfl rfl)
theorem dX6_sheet_72 : decode cX6_sheet 72 = .ok (.iload_n 1, 1) := dk_27 (dk_at dksX6_sheet_3 3 rfl rfl)
theorem dX6_sheet_73 : decode cX6_sheet 73 = .ok (.iload_n 2, 1) := dk_28 (dk_at dksX6_sheet_3 4 rfl rfl)
theorem dX6_sheet_74 : decode cX6_sheet 74 = .ok (.iastore, 1) := dk_79 (dk_at dksX6_sheet_3 5 rfl rfl)
theorem dX6_sheet_75 : decode cX6_sheet 75 = .ok (.aload_n 0, 1) := dk_42 (dk_at dksX6_sheet_3 6 rfl rfl)
theorem dX6_sheet_76 : decode cX6_sheet 76 = .ok (.getfield 34, 3) := dk_180 0 34 (dk_at dksX6_sheet_3 7 rfl rfl)
theorem dX6_sheet_79 : decode cX6_sheet 79 = .ok (.iload_n 1, 1) := dk_27 (dk_at dksX6_sheet_3 10 rfl rfl)
theorem dX6_sheet_80 : decode cX6_sheet 80 = .ok (.iload_n 2, 1) := dk_28 (dk_at dksX6_sheet_3 11 rfl rfl)
theorem dX6_sheet_81 : decode cX6_sheet 81 = .ok (.ifCond .ne 7, 3) := dk_154 0 7 (dk_at dksX6_sheet_3 12 rfl rfl)
theorem dX6_sheet_84 : decode cX6_sheet 84 = .ok (.iconst 0, 1) := dk_3 (dk_at dksX6_sheet_3 15 rfl rfl)
theorem dX6_sheet_85 : decode cX6_sheet 85 = .ok (.goto 4, 3) := dk_167 0 4 (dk_at dksX6_sheet_3 16 rfl rfl)
theorem dX6_sheet_88 : decode cX6_sheet 88 = .ok (.iload_n 3, 1) := dk_29 (dk_at dksX6_sheet_3 19 rfl rfl)
theorem dX6_sheet_89 : decode cX6_sheet 89 = .ok (.iastore, 1) := dk_79 (dk_at dksX6_sheet_3 20 rfl rfl)
theorem dX6_sheet_90 : decode cX6_sheet 90 = .ok (.iconst 0, 1) := dk_3 (dk_at dksX6_sheet_3 21 rfl rfl)
theorem dX6_sheet_91 : decode cX6_sheet 91 = .ok (.istore 4, 2) := dk_54 4 (dk_at dksX6_sheet_3 22 rfl rfl)
theorem dX6_sheet_93 : decode cX6_sheet 93 = .ok (.iload 4, 2) := dk_21 4 (dk_at dksX6_sheet_4 0 rfl rfl)
theorem dX6_sheet_95 : decode cX6_sheet 95 = .ok (.bipush 40, 2) := dk_16 40 (dk_at dksX6_sheet_4 2 rfl rfl)
theorem dX6_sheet_97 : decode cX6_sheet 97 = .ok (.if_icmp .ge 22, 3) := dk_162 0 22 (dk_at dksX6_sheet_4 4 rfl rfl)
theorem dX6_sheet_100 : decode cX6_sheet 100 = .ok (.aload_n 0, 1) := dk_42 (dk_at dksX6_sheet_4 7 rfl rfl)
theorem dX6_sheet_101 : decode cX6_sheet 101 = .ok (.getfield 37, 3) := dk_180 0 37 (dk_at dksX6_sheet_4 8 rfl rfl)
theorem dX6_sheet_104 : decode cX6_sheet 104 = .ok (.bipush 40, 2) := dk_16 40 (dk_at dksX6_sheet_4 11 rfl rfl)
theorem dX6_sheet_106 : decode cX6_sheet 106 = .ok (.iload_n 1, 1) := dk_27 (dk_at dksX6_sheet_4 13 rfl rfl)
theorem dX6_sheet_107 : decode cX6_sheet 107 = .ok (.imul, 1) := dk_104 (dk_at dksX6_sheet_4 14 rfl rfl)
theorem dX6_sheet_108 : decode cX6_sheet 108 = .ok (.iload 4, 2) := dk_21 4 (dk_at dksX6_sheet_4 15 rfl rfl)
theorem dX6_sheet_110 : decode cX6_sheet 110 = .ok (.iadd, 1) := dk_96 (dk_at dksX6_sheet_4 17 rfl rfl)
theorem dX6_sheet_111 : decode cX6_sheet 111 = .ok (.iconst 0, 1) := dk_3 (dk_at dksX6_sheet_4 18 rfl rfl)
theorem dX6_sheet_112 : decode cX6_sheet 112 = .ok (.iastore, 1) := dk_79 (dk_at dksX6_sheet_4 19 rfl rfl)
theorem dX6_sheet_113 : decode cX6_sheet 113 = .ok (.iinc 4 1, 3) := dk_132 4 1 (dk_at dksX6_sheet_4 20 rfl rfl)
theorem dX6_sheet_116 : decode cX6_sheet 116 = .ok (.goto (-23), 3) := dk_167 255 233 (dk_at dksX6_sheet_5 0 rfl rfl)
theorem dX6_sheet_119 : decode cX6_sheet 119 = .ok (.iconst 1, 1) := dk_4 (dk_at dksX6_sheet_5 3 rfl rfl)
theorem dX6_sheet_120 : decode cX6_sheet 120 = .ok (.ireturn, 1) := dk_172 (dk_at dksX6_sheet_5 4 rfl rfl)
abbrev cX6_put : ByteArray := prog_30_method_95_code
def yX6_put : MethodName := ⟨RX6, "put", "(III)I"⟩
def dkwX6_put_4 : List UInt8 := [29, 79, 4, 172]
abbrev dktX6_put_4 : List UInt8 := dkwX6_put_4 ++ []
def dkwX6_put_3 : List UInt8 := [160, 0, 8, 29, 145, 167, 0, 20, 42, 180, 0, 31, 27, 46, 16, 16, 160, 0, 8, 29, 147, 167, 0, 4]
abbrev dktX6_put_3 : List UInt8 := dkwX6_put_3 ++ dktX6_put_4
def dkwX6_put_2 : List UInt8 := [182, 0, 68, 172, 42, 180, 0, 37, 16, 40, 27, 104, 28, 96, 42, 180, 0, 31, 27, 46, 16, 8]
abbrev dktX6_put_2 : List UInt8 := dkwX6_put_2 ++ dktX6_put_3
def dkwX6_put_1 : List UInt8 := [184, 0, 46, 154, 0, 8, 18, 67, 167, 0, 5, 21, 4, 54, 4, 21, 4, 153, 0, 10, 42, 21, 4]
abbrev dktX6_put_1 : List UInt8 := dkwX6_put_1 ++ dktX6_put_2
def dkwX6_put_0 : List UInt8 := [42, 27, 182, 1, 56, 54, 4, 21, 4, 154, 0, 26, 28, 133, 9, 42, 180, 0, 34, 27, 46, 4, 100, 133]
abbrev dktX6_put_0 : List UInt8 := dkwX6_put_0 ++ dktX6_put_1
theorem dksX6_put_0 : cX6_put.data.toList.drop 0 = dktX6_put_0 := by decide +kernel
theorem dksX6_put_1 : cX6_put.data.toList.drop 24 = dktX6_put_1 := dk_seg dksX6_put_0 24 rfl rfl
theorem dksX6_put_2 : cX6_put.data.toList.drop 47 = dktX6_put_2 := dk_seg dksX6_put_1 23 rfl rfl
theorem dksX6_put_3 : cX6_put.data.toList.drop 69 = dktX6_put_3 := dk_seg dksX6_put_2 22 rfl rfl
theorem dksX6_put_4 : cX6_put.data.toList.drop 93 = dktX6_put_4 := dk_seg dksX6_put_3 24 rfl rfl
theorem dX6_put_0 : decode cX6_put 0 = .ok (.aload_n 0, 1) := dk_42 (dk_at dksX6_put_0 0 rfl rfl)
theorem dX6_put_1 : decode cX6_put 1 = .ok (.iload_n 1, 1) := dk_27 (dk_at dksX6_put_0 1 rfl rfl)
theorem dX6_put_2 : decode cX6_put 2 = .ok (.invokevirtual 312, 3) := dk_182 1 56 (dk_at dksX6_put_0 2 rfl rfl)
theorem dX6_put_5 : decode cX6_put 5 = .ok (.istore 4, 2) := dk_54 4 (dk_at dksX6_put_0 5 rfl rfl)
theorem dX6_put_7 : decode cX6_put 7 = .ok (.iload 4, 2) := dk_21 4 (dk_at dksX6_put_0 7 rfl rfl)
theorem dX6_put_9 : decode cX6_put 9 = .ok (.ifCond .ne 26, 3) := dk_154 0 26 (dk_at dksX6_put_0 9 rfl rfl)
theorem dX6_put_12 : decode cX6_put 12 = .ok (.iload_n 2, 1) := dk_28 (dk_at dksX6_put_0 12 rfl rfl)
theorem dX6_put_13 : decode cX6_put 13 = .ok (.i2l, 1) := dk_133 (dk_at dksX6_put_0 13 rfl rfl)
theorem dX6_put_14 : decode cX6_put 14 = .ok (.lconst 0, 1) := dk_9 (dk_at dksX6_put_0 14 rfl rfl)
theorem dX6_put_15 : decode cX6_put 15 = .ok (.aload_n 0, 1) := dk_42 (dk_at dksX6_put_0 15 rfl rfl)
theorem dX6_put_16 : decode cX6_put 16 = .ok (.getfield 34, 3) := dk_180 0 34 (dk_at dksX6_put_0 16 rfl rfl)
theorem dX6_put_19 : decode cX6_put 19 = .ok (.iload_n 1, 1) := dk_27 (dk_at dksX6_put_0 19 rfl rfl)
theorem dX6_put_20 : decode cX6_put 20 = .ok (.iaload, 1) := dk_46 (dk_at dksX6_put_0 20 rfl rfl)
theorem dX6_put_21 : decode cX6_put 21 = .ok (.iconst 1, 1) := dk_4 (dk_at dksX6_put_0 21 rfl rfl)
theorem dX6_put_22 : decode cX6_put 22 = .ok (.isub, 1) := dk_100 (dk_at dksX6_put_0 22 rfl rfl)
theorem dX6_put_23 : decode cX6_put 23 = .ok (.i2l, 1) := dk_133 (dk_at dksX6_put_0 23 rfl rfl)
theorem dX6_put_24 : decode cX6_put 24 = .ok (.invokestatic 46, 3) := dk_184 0 46 (dk_at dksX6_put_1 0 rfl rfl)
theorem dX6_put_27 : decode cX6_put 27 = .ok (.ifCond .ne 8, 3) := dk_154 0 8 (dk_at dksX6_put_1 3 rfl rfl)
theorem dX6_put_30 : decode cX6_put 30 = .ok (.ldc 67, 2) := dk_18 67 (dk_at dksX6_put_1 6 rfl rfl)
theorem dX6_put_32 : decode cX6_put 32 = .ok (.goto 5, 3) := dk_167 0 5 (dk_at dksX6_put_1 8 rfl rfl)
theorem dX6_put_35 : decode cX6_put 35 = .ok (.iload 4, 2) := dk_21 4 (dk_at dksX6_put_1 11 rfl rfl)
theorem dX6_put_37 : decode cX6_put 37 = .ok (.istore 4, 2) := dk_54 4 (dk_at dksX6_put_1 13 rfl rfl)
theorem dX6_put_39 : decode cX6_put 39 = .ok (.iload 4, 2) := dk_21 4 (dk_at dksX6_put_1 15 rfl rfl)
theorem dX6_put_41 : decode cX6_put 41 = .ok (.ifCond .eq 10, 3) := dk_153 0 10 (dk_at dksX6_put_1 17 rfl rfl)
theorem dX6_put_44 : decode cX6_put 44 = .ok (.aload_n 0, 1) := dk_42 (dk_at dksX6_put_1 20 rfl rfl)
theorem dX6_put_45 : decode cX6_put 45 = .ok (.iload 4, 2) := dk_21 4 (dk_at dksX6_put_1 21 rfl rfl)
theorem dX6_put_47 : decode cX6_put 47 = .ok (.invokevirtual 68, 3) := dk_182 0 68 (dk_at dksX6_put_2 0 rfl rfl)
theorem dX6_put_50 : decode cX6_put 50 = .ok (.ireturn, 1) := dk_172 (dk_at dksX6_put_2 3 rfl rfl)
theorem dX6_put_51 : decode cX6_put 51 = .ok (.aload_n 0, 1) := dk_42 (dk_at dksX6_put_2 4 rfl rfl)
theorem dX6_put_52 : decode cX6_put 52 = .ok (.getfield 37, 3) := dk_180 0 37 (dk_at dksX6_put_2 5 rfl rfl)
theorem dX6_put_55 : decode cX6_put 55 = .ok (.bipush 40, 2) := dk_16 40 (dk_at dksX6_put_2 8 rfl rfl)
theorem dX6_put_57 : decode cX6_put 57 = .ok (.iload_n 1, 1) := dk_27 (dk_at dksX6_put_2 10 rfl rfl)
theorem dX6_put_58 : decode cX6_put 58 = .ok (.imul, 1) := dk_104 (dk_at dksX6_put_2 11 rfl rfl)
theorem dX6_put_59 : decode cX6_put 59 = .ok (.iload_n 2, 1) := dk_28 (dk_at dksX6_put_2 12 rfl rfl)
theorem dX6_put_60 : decode cX6_put 60 = .ok (.iadd, 1) := dk_96 (dk_at dksX6_put_2 13 rfl rfl)
theorem dX6_put_61 : decode cX6_put 61 = .ok (.aload_n 0, 1) := dk_42 (dk_at dksX6_put_2 14 rfl rfl)
theorem dX6_put_62 : decode cX6_put 62 = .ok (.getfield 31, 3) := dk_180 0 31 (dk_at dksX6_put_2 15 rfl rfl)
theorem dX6_put_65 : decode cX6_put 65 = .ok (.iload_n 1, 1) := dk_27 (dk_at dksX6_put_2 18 rfl rfl)
theorem dX6_put_66 : decode cX6_put 66 = .ok (.iaload, 1) := dk_46 (dk_at dksX6_put_2 19 rfl rfl)
theorem dX6_put_67 : decode cX6_put 67 = .ok (.bipush 8, 2) := dk_16 8 (dk_at dksX6_put_2 20 rfl rfl)
theorem dX6_put_69 : decode cX6_put 69 = .ok (.if_icmp .ne 8, 3) := dk_160 0 8 (dk_at dksX6_put_3 0 rfl rfl)
theorem dX6_put_72 : decode cX6_put 72 = .ok (.iload_n 3, 1) := dk_29 (dk_at dksX6_put_3 3 rfl rfl)
theorem dX6_put_73 : decode cX6_put 73 = .ok (.i2b, 1) := dk_145 (dk_at dksX6_put_3 4 rfl rfl)
theorem dX6_put_74 : decode cX6_put 74 = .ok (.goto 20, 3) := dk_167 0 20 (dk_at dksX6_put_3 5 rfl rfl)
theorem dX6_put_77 : decode cX6_put 77 = .ok (.aload_n 0, 1) := dk_42 (dk_at dksX6_put_3 8 rfl rfl)
theorem dX6_put_78 : decode cX6_put 78 = .ok (.getfield 31, 3) := dk_180 0 31 (dk_at dksX6_put_3 9 rfl rfl)
theorem dX6_put_81 : decode cX6_put 81 = .ok (.iload_n 1, 1) := dk_27 (dk_at dksX6_put_3 12 rfl rfl)
theorem dX6_put_82 : decode cX6_put 82 = .ok (.iaload, 1) := dk_46 (dk_at dksX6_put_3 13 rfl rfl)
theorem dX6_put_83 : decode cX6_put 83 = .ok (.bipush 16, 2) := dk_16 16 (dk_at dksX6_put_3 14 rfl rfl)
theorem dX6_put_85 : decode cX6_put 85 = .ok (.if_icmp .ne 8, 3) := dk_160 0 8 (dk_at dksX6_put_3 16 rfl rfl)
theorem dX6_put_88 : decode cX6_put 88 = .ok (.iload_n 3, 1) := dk_29 (dk_at dksX6_put_3 19 rfl rfl)
theorem dX6_put_89 : decode cX6_put 89 = .ok (.i2s, 1) := dk_147 (dk_at dksX6_put_3 20 rfl rfl)
theorem dX6_put_90 : decode cX6_put 90 = .ok (.goto 4, 3) := dk_167 0 4 (dk_at dksX6_put_3 21 rfl rfl)
theorem dX6_put_93 : decode cX6_put 93 = .ok (.iload_n 3, 1) := dk_29 (dk_at dksX6_put_4 0 rfl rfl)
theorem dX6_put_94 : decode cX6_put 94 = .ok (.iastore, 1) := dk_79 (dk_at dksX6_put_4 1 rfl rfl)
theorem dX6_put_95 : decode cX6_put 95 = .ok (.iconst 1, 1) := dk_4 (dk_at dksX6_put_4 2 rfl rfl)
theorem dX6_put_96 : decode cX6_put 96 = .ok (.ireturn, 1) := dk_172 (dk_at dksX6_put_4 3 rfl rfl)
abbrev cX6_wrong : ByteArray := prog_30_method_94_code
def yX6_wrong : MethodName := ⟨RX6, "wrong", "(I)I"⟩
def dkwX6_wrong_1 : List UInt8 := [167, 0, 4, 3, 172]
abbrev dktX6_wrong_1 : List UInt8 := dkwX6_wrong_1 ++ []
def dkwX6_wrong_0 : List UInt8 := [27, 184, 1, 1, 154, 0, 8, 18, 67, 167, 0, 18, 42, 180, 0, 31, 27, 46, 154, 0, 8, 18, 249]
abbrev dktX6_wrong_0 : List UInt8 := dkwX6_wrong_0 ++ dktX6_wrong_1
theorem dksX6_wrong_0 : cX6_wrong.data.toList.drop 0 = dktX6_wrong_0 := by decide +kernel
theorem dksX6_wrong_1 : cX6_wrong.data.toList.drop 23 = dktX6_wrong_1 := dk_seg dksX6_wrong_0 23 rfl rfl
theorem dX6_wrong_0 : decode cX6_wrong 0 = .ok (.iload_n 1, 1) := dk_27 (dk_at dksX6_wrong_0 0 rfl rfl)
theorem dX6_wrong_1 : decode cX6_wrong 1 = .ok (.invokestatic 257, 3) := dk_184 1 1 (dk_at dksX6_wrong_0 1 rfl rfl)
theorem dX6_wrong_4 : decode cX6_wrong 4 = .ok (.ifCond .ne 8, 3) := dk_154 0 8 (dk_at dksX6_wrong_0 4 rfl rfl)
theorem dX6_wrong_7 : decode cX6_wrong 7 = .ok (.ldc 67, 2) := dk_18 67 (dk_at dksX6_wrong_0 7 rfl rfl)
theorem dX6_wrong_9 : decode cX6_wrong 9 = .ok (.goto 18, 3) := dk_167 0 18 (dk_at dksX6_wrong_0 9 rfl rfl)
theorem dX6_wrong_12 : decode cX6_wrong 12 = .ok (.aload_n 0, 1) := dk_42 (dk_at dksX6_wrong_0 12 rfl rfl)
theorem dX6_wrong_13 : decode cX6_wrong 13 = .ok (.getfield 31, 3) := dk_180 0 31 (dk_at dksX6_wrong_0 13 rfl rfl)
theorem dX6_wrong_16 : decode cX6_wrong 16 = .ok (.iload_n 1, 1) := dk_27 (dk_at dksX6_wrong_0 16 rfl rfl)
theorem dX6_wrong_17 : decode cX6_wrong 17 = .ok (.iaload, 1) := dk_46 (dk_at dksX6_wrong_0 17 rfl rfl)
theorem dX6_wrong_18 : decode cX6_wrong 18 = .ok (.ifCond .ne 8, 3) := dk_154 0 8 (dk_at dksX6_wrong_0 18 rfl rfl)
theorem dX6_wrong_21 : decode cX6_wrong 21 = .ok (.ldc 249, 2) := dk_18 249 (dk_at dksX6_wrong_0 21 rfl rfl)
theorem dX6_wrong_23 : decode cX6_wrong 23 = .ok (.goto 4, 3) := dk_167 0 4 (dk_at dksX6_wrong_1 0 rfl rfl)
theorem dX6_wrong_26 : decode cX6_wrong 26 = .ok (.iconst 0, 1) := dk_3 (dk_at dksX6_wrong_1 3 rfl rfl)
theorem dX6_wrong_27 : decode cX6_wrong 27 = .ok (.ireturn, 1) := dk_172 (dk_at dksX6_wrong_1 4 rfl rfl)
abbrev cX6_move : ByteArray := prog_30_method_96_code
def yX6_move : MethodName := ⟨RX6, "move", "(IIIII)I"⟩
def dkwX6_move_8 : List UInt8 := [167, 255, 224, 21, 5, 172]
abbrev dktX6_move_8 : List UInt8 := dkwX6_move_8 ++ []
def dkwX6_move_7 : List UInt8 := [180, 0, 37, 16, 40, 29, 104, 21, 4, 96, 21, 6, 96, 42, 180, 0, 40, 21, 6, 46, 79, 132, 6, 1]
abbrev dktX6_move_7 : List UInt8 := dkwX6_move_7 ++ dktX6_move_8
def dkwX6_move_6 : List UInt8 := [28, 96, 21, 6, 96, 46, 79, 132, 6, 1, 167, 255, 225, 3, 54, 6, 21, 6, 21, 5, 162, 0, 31, 42]
abbrev dktX6_move_6 : List UInt8 := dkwX6_move_6 ++ dktX6_move_7
def dkwX6_move_5 : List UInt8 := [3, 54, 6, 21, 6, 21, 5, 162, 0, 30, 42, 180, 0, 40, 21, 6, 42, 180, 0, 37, 16, 40, 27, 104]
abbrev dktX6_move_5 : List UInt8 := dkwX6_move_5 ++ dktX6_move_6
def dkwX6_move_4 : List UInt8 := [163, 0, 17, 21, 5, 42, 180, 0, 34, 29, 46, 21, 4, 100, 164, 0, 10, 42, 18, 67, 182, 0, 68, 172]
abbrev dktX6_move_4 : List UInt8 := dkwX6_move_4 ++ dktX6_move_5
def dkwX6_move_3 : List UInt8 := [155, 0, 40, 21, 4, 155, 0, 35, 21, 5, 155, 0, 30, 21, 5, 42, 180, 0, 34, 27, 46, 28, 100]
abbrev dktX6_move_3 : List UInt8 := dkwX6_move_3 ++ dktX6_move_4
def dkwX6_move_2 : List UInt8 := [42, 180, 0, 31, 27, 46, 42, 180, 0, 31, 29, 46, 159, 0, 10, 42, 18, 120, 182, 0, 68, 172, 28]
abbrev dktX6_move_2 : List UInt8 := dkwX6_move_2 ++ dktX6_move_3
def dkwX6_move_1 : List UInt8 := [180, 0, 31, 27, 46, 153, 0, 12, 42, 180, 0, 31, 29, 46, 154, 0, 10, 42, 18, 249, 182, 0, 68, 172]
abbrev dktX6_move_1 : List UInt8 := dkwX6_move_1 ++ dktX6_move_2
def dkwX6_move_0 : List UInt8 := [27, 184, 1, 1, 153, 0, 10, 29, 184, 1, 1, 154, 0, 10, 42, 18, 67, 182, 0, 68, 172, 42]
abbrev dktX6_move_0 : List UInt8 := dkwX6_move_0 ++ dktX6_move_1
theorem dksX6_move_0 : cX6_move.data.toList.drop 0 = dktX6_move_0 := by decide +kernel
theorem dksX6_move_1 : cX6_move.data.toList.drop 22 = dktX6_move_1 := dk_seg dksX6_move_0 22 rfl rfl
theorem dksX6_move_2 : cX6_move.data.toList.drop 46 = dktX6_move_2 := dk_seg dksX6_move_1 24 rfl rfl
theorem dksX6_move_3 : cX6_move.data.toList.drop 69 = dktX6_move_3 := dk_seg dksX6_move_2 23 rfl rfl
theorem dksX6_move_4 : cX6_move.data.toList.drop 92 = dktX6_move_4 := dk_seg dksX6_move_3 23 rfl rfl
theorem dksX6_move_5 : cX6_move.data.toList.drop 116 = dktX6_move_5 := dk_seg dksX6_move_4 24 rfl rfl
theorem dksX6_move_6 : cX6_move.data.toList.drop 140 = dktX6_move_6 := dk_seg dksX6_move_5 24 rfl rfl
theorem dksX6_move_7 : cX6_move.data.toList.drop 164 = dktX6_move_7 := dk_seg dksX6_move_6 24 rfl rfl
theorem dksX6_move_8 : cX6_move.data.toList.drop 188 = dktX6_move_8 := dk_seg dksX6_move_7 24 rfl rfl
theorem dX6_move_0 : decode cX6_move 0 = .ok (.iload_n 1, 1) := dk_27 (dk_at dksX6_move_0 0 rfl rfl)
theorem dX6_move_1 : decode cX6_move 1 = .ok (.invokestatic 257, 3) := dk_184 1 1 (dk_at dksX6_move_0 1 rfl rfl)
theorem dX6_move_4 : decode cX6_move 4 = .ok (.ifCond .eq 10, 3) := dk_153 0 10 (dk_at dksX6_move_0 4 rfl rfl)
theorem dX6_move_7 : decode cX6_move 7 = .ok (.iload_n 3, 1) := dk_29 (dk_at dksX6_move_0 7 rfl rfl)
theorem dX6_move_8 : decode cX6_move 8 = .ok (.invokestatic 257, 3) := dk_184 1 1 (dk_at dksX6_move_0 8 rfl rfl)
theorem dX6_move_11 : decode cX6_move 11 = .ok (.ifCond .ne 10, 3) := dk_154 0 10 (dk_at dksX6_move_0 11 rfl rfl)
theorem dX6_move_14 : decode cX6_move 14 = .ok (.aload_n 0, 1) := dk_42 (dk_at dksX6_move_0 14 rfl rfl)
theorem dX6_move_15 : decode cX6_move 15 = .ok (.ldc 67, 2) := dk_18 67 (dk_at dksX6_move_0 15 rfl rfl)
theorem dX6_move_17 : decode cX6_move 17 = .ok (.invokevirtual 68, 3) := dk_182 0 68 (dk_at dksX6_move_0 17 rfl rfl)
theorem dX6_move_20 : decode cX6_move 20 = .ok (.ireturn, 1) := dk_172 (dk_at dksX6_move_0 20 rfl rfl)
theorem dX6_move_21 : decode cX6_move 21 = .ok (.aload_n 0, 1) := dk_42 (dk_at dksX6_move_0 21 rfl rfl)
theorem dX6_move_22 : decode cX6_move 22 = .ok (.getfield 31, 3) := dk_180 0 31 (dk_at dksX6_move_1 0 rfl rfl)
theorem dX6_move_25 : decode cX6_move 25 = .ok (.iload_n 1, 1) := dk_27 (dk_at dksX6_move_1 3 rfl rfl)
theorem dX6_move_26 : decode cX6_move 26 = .ok (.iaload, 1) := dk_46 (dk_at dksX6_move_1 4 rfl rfl)
theorem dX6_move_27 : decode cX6_move 27 = .ok (.ifCond .eq 12, 3) := dk_153 0 12 (dk_at dksX6_move_1 5 rfl rfl)
theorem dX6_move_30 : decode cX6_move 30 = .ok (.aload_n 0, 1) := dk_42 (dk_at dksX6_move_1 8 rfl rfl)
theorem dX6_move_31 : decode cX6_move 31 = .ok (.getfield 31, 3) := dk_180 0 31 (dk_at dksX6_move_1 9 rfl rfl)
theorem dX6_move_34 : decode cX6_move 34 = .ok (.iload_n 3, 1) := dk_29 (dk_at dksX6_move_1 12 rfl rfl)
theorem dX6_move_35 : decode cX6_move 35 = .ok (.iaload, 1) := dk_46 (dk_at dksX6_move_1 13 rfl rfl)
theorem dX6_move_36 : decode cX6_move 36 = .ok (.ifCond .ne 10, 3) := dk_154 0 10 (dk_at dksX6_move_1 14 rfl rfl)
theorem dX6_move_39 : decode cX6_move 39 = .ok (.aload_n 0, 1) := dk_42 (dk_at dksX6_move_1 17 rfl rfl)
theorem dX6_move_40 : decode cX6_move 40 = .ok (.ldc 249, 2) := dk_18 249 (dk_at dksX6_move_1 18 rfl rfl)
theorem dX6_move_42 : decode cX6_move 42 = .ok (.invokevirtual 68, 3) := dk_182 0 68 (dk_at dksX6_move_1 20 rfl rfl)
theorem dX6_move_45 : decode cX6_move 45 = .ok (.ireturn, 1) := dk_172 (dk_at dksX6_move_1 23 rfl rfl)
theorem dX6_move_46 : decode cX6_move 46 = .ok (.aload_n 0, 1) := dk_42 (dk_at dksX6_move_2 0 rfl rfl)
theorem dX6_move_47 : decode cX6_move 47 = .ok (.getfield 31, 3) := dk_180 0 31 (dk_at dksX6_move_2 1 rfl rfl)
theorem dX6_move_50 : decode cX6_move 50 = .ok (.iload_n 1, 1) := dk_27 (dk_at dksX6_move_2 4 rfl rfl)
theorem dX6_move_51 : decode cX6_move 51 = .ok (.iaload, 1) := dk_46 (dk_at dksX6_move_2 5 rfl rfl)
theorem dX6_move_52 : decode cX6_move 52 = .ok (.aload_n 0, 1) := dk_42 (dk_at dksX6_move_2 6 rfl rfl)
theorem dX6_move_53 : decode cX6_move 53 = .ok (.getfield 31, 3) := dk_180 0 31 (dk_at dksX6_move_2 7 rfl rfl)
theorem dX6_move_56 : decode cX6_move 56 = .ok (.iload_n 3, 1) := dk_29 (dk_at dksX6_move_2 10 rfl rfl)
theorem dX6_move_57 : decode cX6_move 57 = .ok (.iaload, 1) := dk_46 (dk_at dksX6_move_2 11 rfl rfl)
theorem dX6_move_58 : decode cX6_move 58 = .ok (.if_icmp .eq 10, 3) := dk_159 0 10 (dk_at dksX6_move_2 12 rfl rfl)
theorem dX6_move_61 : decode cX6_move 61 = .ok (.aload_n 0, 1) := dk_42 (dk_at dksX6_move_2 15 rfl rfl)
theorem dX6_move_62 : decode cX6_move 62 = .ok (.ldc 120, 2) := dk_18 120 (dk_at dksX6_move_2 16 rfl rfl)
theorem dX6_move_64 : decode cX6_move 64 = .ok (.invokevirtual 68, 3) := dk_182 0 68 (dk_at dksX6_move_2 18 rfl rfl)
theorem dX6_move_67 : decode cX6_move 67 = .ok (.ireturn, 1) := dk_172 (dk_at dksX6_move_2 21 rfl rfl)
theorem dX6_move_68 : decode cX6_move 68 = .ok (.iload_n 2, 1) := dk_28 (dk_at dksX6_move_2 22 rfl rfl)
theorem dX6_move_69 : decode cX6_move 69 = .ok (.ifCond .lt 40, 3) := dk_155 0 40 (dk_at dksX6_move_3 0 rfl rfl)
theorem dX6_move_72 : decode cX6_move 72 = .ok (.iload 4, 2) := dk_21 4 (dk_at dksX6_move_3 3 rfl rfl)
theorem dX6_move_74 : decode cX6_move 74 = .ok (.ifCond .lt 35, 3) := dk_155 0 35 (dk_at dksX6_move_3 5 rfl rfl)
theorem dX6_move_77 : decode cX6_move 77 = .ok (.iload 5, 2) := dk_21 5 (dk_at dksX6_move_3 8 rfl rfl)
theorem dX6_move_79 : decode cX6_move 79 = .ok (.ifCond .lt 30, 3) := dk_155 0 30 (dk_at dksX6_move_3 10 rfl rfl)
theorem dX6_move_82 : decode cX6_move 82 = .ok (.iload 5, 2) := dk_21 5 (dk_at dksX6_move_3 13 rfl rfl)
theorem dX6_move_84 : decode cX6_move 84 = .ok (.aload_n 0, 1) := dk_42 (dk_at dksX6_move_3 15 rfl rfl)
theorem dX6_move_85 : decode cX6_move 85 = .ok (.getfield 34, 3) := dk_180 0 34 (dk_at dksX6_move_3 16 rfl rfl)
theorem dX6_move_88 : decode cX6_move 88 = .ok (.iload_n 1, 1) := dk_27 (dk_at dksX6_move_3 19 rfl rfl)
theorem dX6_move_89 : decode cX6_move 89 = .ok (.iaload, 1) := dk_46 (dk_at dksX6_move_3 20 rfl rfl)
theorem dX6_move_90 : decode cX6_move 90 = .ok (.iload_n 2, 1) := dk_28 (dk_at dksX6_move_3 21 rfl rfl)
theorem dX6_move_91 : decode cX6_move 91 = .ok (.isub, 1) := dk_100 (dk_at dksX6_move_3 22 rfl rfl)
theorem dX6_move_92 : decode cX6_move 92 = .ok (.if_icmp .gt 17, 3) := dk_163 0 17 (dk_at dksX6_move_4 0 rfl rfl)
theorem dX6_move_95 : decode cX6_move 95 = .ok (.iload 5, 2) := dk_21 5 (dk_at dksX6_move_4 3 rfl rfl)
theorem dX6_move_97 : decode cX6_move 97 = .ok (.aload_n 0, 1) := dk_42 (dk_at dksX6_move_4 5 rfl rfl)
theorem dX6_move_98 : decode cX6_move 98 = .ok (.getfield 34, 3) := dk_180 0 34 (dk_at dksX6_move_4 6 rfl rfl)
theorem dX6_move_101 : decode cX6_move 101 = .ok (.iload_n 3, 1) := dk_29 (dk_at dksX6_move_4 9 rfl rfl)
theorem dX6_move_102 : decode cX6_move 102 = .ok (.iaload, 1) := dk_46 (dk_at dksX6_move_4 10 rfl rfl)
theorem dX6_move_103 : decode cX6_move 103 = .ok (.iload 4, 2) := dk_21 4 (dk_at dksX6_move_4 11 rfl rfl)
theorem dX6_move_105 : decode cX6_move 105 = .ok (.isub, 1) := dk_100 (dk_at dksX6_move_4 13 rfl rfl)
theorem dX6_move_106 : decode cX6_move 106 = .ok (.if_icmp .le 10, 3) := dk_164 0 10 (dk_at dksX6_move_4 14 rfl rfl)
theorem dX6_move_109 : decode cX6_move 109 = .ok (.aload_n 0, 1) := dk_42 (dk_at dksX6_move_4 17 rfl rfl)
theorem dX6_move_110 : decode cX6_move 110 = .ok (.ldc 67, 2) := dk_18 67 (dk_at dksX6_move_4 18 rfl rfl)
theorem dX6_move_112 : decode cX6_move 112 = .ok (.invokevirtual 68, 3) := dk_182 0 68 (dk_at dksX6_move_4 20 rfl rfl)
theorem dX6_move_115 : decode cX6_move 115 = .ok (.ireturn, 1) := dk_172 (dk_at dksX6_move_4 23 rfl rfl)
theorem dX6_move_116 : decode cX6_move 116 = .ok (.iconst 0, 1) := dk_3 (dk_at dksX6_move_5 0 rfl rfl)
theorem dX6_move_117 : decode cX6_move 117 = .ok (.istore 6, 2) := dk_54 6 (dk_at dksX6_move_5 1 rfl rfl)
theorem dX6_move_119 : decode cX6_move 119 = .ok (.iload 6, 2) := dk_21 6 (dk_at dksX6_move_5 3 rfl rfl)
theorem dX6_move_121 : decode cX6_move 121 = .ok (.iload 5, 2) := dk_21 5 (dk_at dksX6_move_5 5 rfl rfl)
theorem dX6_move_123 : decode cX6_move 123 = .ok (.if_icmp .ge 30, 3) := dk_162 0 30 (dk_at dksX6_move_5 7 rfl rfl)
theorem dX6_move_126 : decode cX6_move 126 = .ok (.aload_n 0, 1) := dk_42 (dk_at dksX6_move_5 10 rfl rfl)
theorem dX6_move_127 : decode cX6_move 127 = .ok (.getfield 40, 3) := dk_180 0 40 (dk_at dksX6_move_5 11 rfl rfl)
theorem dX6_move_130 : decode cX6_move 130 = .ok (.iload 6, 2) := dk_21 6 (dk_at dksX6_move_5 14 rfl rfl)
theorem dX6_move_132 : decode cX6_move 132 = .ok (.aload_n 0, 1) := dk_42 (dk_at dksX6_move_5 16 rfl rfl)
theorem dX6_move_133 : decode cX6_move 133 = .ok (.getfield 37, 3) := dk_180 0 37 (dk_at dksX6_move_5 17 rfl rfl)
theorem dX6_move_136 : decode cX6_move 136 = .ok (.bipush 40, 2) := dk_16 40 (dk_at dksX6_move_5 20 rfl rfl)
theorem dX6_move_138 : decode cX6_move 138 = .ok (.iload_n 1, 1) := dk_27 (dk_at dksX6_move_5 22 rfl rfl)
theorem dX6_move_139 : decode cX6_move 139 = .ok (.imul, 1) := dk_104 (dk_at dksX6_move_5 23 rfl rfl)
theorem dX6_move_140 : decode cX6_move 140 = .ok (.iload_n 2, 1) := dk_28 (dk_at dksX6_move_6 0 rfl rfl)
theorem dX6_move_141 : decode cX6_move 141 = .ok (.iadd, 1) := dk_96 (dk_at dksX6_move_6 1 rfl rfl)
theorem dX6_move_142 : decode cX6_move 142 = .ok (.iload 6, 2) := dk_21 6 (dk_at dksX6_move_6 2 rfl rfl)
theorem dX6_move_144 : decode cX6_move 144 = .ok (.iadd, 1) := dk_96 (dk_at dksX6_move_6 4 rfl rfl)
theorem dX6_move_145 : decode cX6_move 145 = .ok (.iaload, 1) := dk_46 (dk_at dksX6_move_6 5 rfl rfl)
theorem dX6_move_146 : decode cX6_move 146 = .ok (.iastore, 1) := dk_79 (dk_at dksX6_move_6 6 rfl rfl)
theorem dX6_move_147 : decode cX6_move 147 = .ok (.iinc 6 1, 3) := dk_132 6 1 (dk_at dksX6_move_6 7 rfl rfl)
theorem dX6_move_150 : decode cX6_move 150 = .ok (.goto (-31), 3) := dk_167 255 225 (dk_at dksX6_move_6 10 rfl rfl)
theorem dX6_move_153 : decode cX6_move 153 = .ok (.iconst 0, 1) := dk_3 (dk_at dksX6_move_6 13 rfl rfl)
theorem dX6_move_154 : decode cX6_move 154 = .ok (.istore 6, 2) := dk_54 6 (dk_at dksX6_move_6 14 rfl rfl)
theorem dX6_move_156 : decode cX6_move 156 = .ok (.iload 6, 2) := dk_21 6 (dk_at dksX6_move_6 16 rfl rfl)
theorem dX6_move_158 : decode cX6_move 158 = .ok (.iload 5, 2) := dk_21 5 (dk_at dksX6_move_6 18 rfl rfl)
theorem dX6_move_160 : decode cX6_move 160 = .ok (.if_icmp .ge 31, 3) := dk_162 0 31 (dk_at dksX6_move_6 20 rfl rfl)
theorem dX6_move_163 : decode cX6_move 163 = .ok (.aload_n 0, 1) := dk_42 (dk_at dksX6_move_6 23 rfl rfl)
theorem dX6_move_164 : decode cX6_move 164 = .ok (.getfield 37, 3) := dk_180 0 37 (dk_at dksX6_move_7 0 rfl rfl)
theorem dX6_move_167 : decode cX6_move 167 = .ok (.bipush 40, 2) := dk_16 40 (dk_at dksX6_move_7 3 rfl rfl)
theorem dX6_move_169 : decode cX6_move 169 = .ok (.iload_n 3, 1) := dk_29 (dk_at dksX6_move_7 5 rfl rfl)
theorem dX6_move_170 : decode cX6_move 170 = .ok (.imul, 1) := dk_104 (dk_at dksX6_move_7 6 rfl rfl)
theorem dX6_move_171 : decode cX6_move 171 = .ok (.iload 4, 2) := dk_21 4 (dk_at dksX6_move_7 7 rfl rfl)
theorem dX6_move_173 : decode cX6_move 173 = .ok (.iadd, 1) := dk_96 (dk_at dksX6_move_7 9 rfl rfl)
theorem dX6_move_174 : decode cX6_move 174 = .ok (.iload 6, 2) := dk_21 6 (dk_at dksX6_move_7 10 rfl rfl)
theorem dX6_move_176 : decode cX6_move 176 = .ok (.iadd, 1) := dk_96 (dk_at dksX6_move_7 12 rfl rfl)
theorem dX6_move_177 : decode cX6_move 177 = .ok (.aload_n 0, 1) := dk_42 (dk_at dksX6_move_7 13 rfl rfl)
theorem dX6_move_178 : decode cX6_move 178 = .ok (.getfield 40, 3) := dk_180 0 40 (dk_at dksX6_move_7 14 rfl rfl)
theorem dX6_move_181 : decode cX6_move 181 = .ok (.iload 6, 2) := dk_21 6 (dk_at dksX6_move_7 17 rfl rfl)
theorem dX6_move_183 : decode cX6_move 183 = .ok (.iaload, 1) := dk_46 (dk_at dksX6_move_7 19 rfl rfl)
theorem dX6_move_184 : decode cX6_move 184 = .ok (.iastore, 1) := dk_79 (dk_at dksX6_move_7 20 rfl rfl)
theorem dX6_move_185 : decode cX6_move 185 = .ok (.iinc 6 1, 3) := dk_132 6 1 (dk_at dksX6_move_7 21 rfl rfl)
theorem dX6_move_188 : decode cX6_move 188 = .ok (.goto (-32), 3) := dk_167 255 224 (dk_at dksX6_move_8 0 rfl rfl)
theorem dX6_move_191 : decode cX6_move 191 = .ok (.iload 5, 2) := dk_21 5 (dk_at dksX6_move_8 3 rfl rfl)
theorem dX6_move_193 : decode cX6_move 193 = .ok (.ireturn, 1) := dk_172 (dk_at dksX6_move_8 5 rfl rfl)
abbrev cX6_waters : ByteArray := prog_30_method_97_code
def yX6_waters : MethodName := ⟨RX6, "waters", "(I)I"⟩
def dkwX6_waters_3 : List UInt8 := [29, 96, 46, 79, 132, 3, 1, 167, 255, 196, 29, 172]
abbrev dktX6_waters_3 : List UInt8 := dkwX6_waters_3 ++ []
def dkwX6_waters_2 : List UInt8 := [20, 0, 62, 184, 0, 46, 153, 0, 28, 42, 180, 0, 7, 3, 29, 96, 42, 180, 0, 37, 16, 40, 27, 104]
abbrev dktX6_waters_2 : List UInt8 := dkwX6_waters_2 ++ dktX6_waters_3
def dkwX6_waters_1 : List UInt8 := [46, 162, 0, 56, 29, 16, 8, 162, 0, 50, 42, 180, 0, 37, 16, 40, 27, 104, 29, 96, 46, 133, 9]
abbrev dktX6_waters_1 : List UInt8 := dkwX6_waters_1 ++ dktX6_waters_2
def dkwX6_waters_0 : List UInt8 := [42, 27, 182, 1, 56, 61, 28, 153, 0, 9, 42, 28, 182, 0, 68, 172, 3, 62, 29, 42, 180, 0, 34, 27]
abbrev dktX6_waters_0 : List UInt8 := dkwX6_waters_0 ++ dktX6_waters_1
theorem dksX6_waters_0 : cX6_waters.data.toList.drop 0 = dktX6_waters_0 := by decide +kernel
theorem dksX6_waters_1 : cX6_waters.data.toList.drop 24 = dktX6_waters_1 := dk_seg dksX6_waters_0 24 rfl rfl
theorem dksX6_waters_2 : cX6_waters.data.toList.drop 47 = dktX6_waters_2 := dk_seg dksX6_waters_1 23 rfl rfl
theorem dksX6_waters_3 : cX6_waters.data.toList.drop 71 = dktX6_waters_3 := dk_seg dksX6_waters_2 24 rfl rfl
theorem dX6_waters_0 : decode cX6_waters 0 = .ok (.aload_n 0, 1) := dk_42 (dk_at dksX6_waters_0 0 rfl rfl)
theorem dX6_waters_1 : decode cX6_waters 1 = .ok (.iload_n 1, 1) := dk_27 (dk_at dksX6_waters_0 1 rfl rfl)
theorem dX6_waters_2 : decode cX6_waters 2 = .ok (.invokevirtual 312, 3) := dk_182 1 56 (dk_at dksX6_waters_0 2 rfl rfl)
theorem dX6_waters_5 : decode cX6_waters 5 = .ok (.istore_n 2, 1) := dk_61 (dk_at dksX6_waters_0 5 rfl rfl)
theorem dX6_waters_6 : decode cX6_waters 6 = .ok (.iload_n 2, 1) := dk_28 (dk_at dksX6_waters_0 6 rfl rfl)
theorem dX6_waters_7 : decode cX6_waters 7 = .ok (.ifCond .eq 9, 3) := dk_153 0 9 (dk_at dksX6_waters_0 7 rfl rfl)
theorem dX6_waters_10 : decode cX6_waters 10 = .ok (.aload_n 0, 1) := dk_42 (dk_at dksX6_waters_0 10 rfl rfl)
theorem dX6_waters_11 : decode cX6_waters 11 = .ok (.iload_n 2, 1) := dk_28 (dk_at dksX6_waters_0 11 rfl rfl)
theorem dX6_waters_12 : decode cX6_waters 12 = .ok (.invokevirtual 68, 3) := dk_182 0 68 (dk_at dksX6_waters_0 12 rfl rfl)
theorem dX6_waters_15 : decode cX6_waters 15 = .ok (.ireturn, 1) := dk_172 (dk_at dksX6_waters_0 15 rfl rfl)
theorem dX6_waters_16 : decode cX6_waters 16 = .ok (.iconst 0, 1) := dk_3 (dk_at dksX6_waters_0 16 rfl rfl)
theorem dX6_waters_17 : decode cX6_waters 17 = .ok (.istore_n 3, 1) := dk_62 (dk_at dksX6_waters_0 17 rfl rfl)
theorem dX6_waters_18 : decode cX6_waters 18 = .ok (.iload_n 3, 1) := dk_29 (dk_at dksX6_waters_0 18 rfl rfl)
theorem dX6_waters_19 : decode cX6_waters 19 = .ok (.aload_n 0, 1) := dk_42 (dk_at dksX6_waters_0 19 rfl rfl)
theorem dX6_waters_20 : decode cX6_waters 20 = .ok (.getfield 34, 3) := dk_180 0 34 (dk_at dksX6_waters_0 20 rfl rfl)
theorem dX6_waters_23 : decode cX6_waters 23 = .ok (.iload_n 1, 1) := dk_27 (dk_at dksX6_waters_0 23 rfl rfl)
theorem dX6_waters_24 : decode cX6_waters 24 = .ok (.iaload, 1) := dk_46 (dk_at dksX6_waters_1 0 rfl rfl)
theorem dX6_waters_25 : decode cX6_waters 25 = .ok (.if_icmp .ge 56, 3) := dk_162 0 56 (dk_at dksX6_waters_1 1 rfl rfl)
theorem dX6_waters_28 : decode cX6_waters 28 = .ok (.iload_n 3, 1) := dk_29 (dk_at dksX6_waters_1 4 rfl rfl)
theorem dX6_waters_29 : decode cX6_waters 29 = .ok (.bipush 8, 2) := dk_16 8 (dk_at dksX6_waters_1 5 rfl rfl)
theorem dX6_waters_31 : decode cX6_waters 31 = .ok (.if_icmp .ge 50, 3) := dk_162 0 50 (dk_at dksX6_waters_1 7 rfl rfl)
theorem dX6_waters_34 : decode cX6_waters 34 = .ok (.aload_n 0, 1) := dk_42 (dk_at dksX6_waters_1 10 rfl rfl)
theorem dX6_waters_35 : decode cX6_waters 35 = .ok (.getfield 37, 3) := dk_180 0 37 (dk_at dksX6_waters_1 11 rfl rfl)
theorem dX6_waters_38 : decode cX6_waters 38 = .ok (.bipush 40, 2) := dk_16 40 (dk_at dksX6_waters_1 14 rfl rfl)
theorem dX6_waters_40 : decode cX6_waters 40 = .ok (.iload_n 1, 1) := dk_27 (dk_at dksX6_waters_1 16 rfl rfl)
theorem dX6_waters_41 : decode cX6_waters 41 = .ok (.imul, 1) := dk_104 (dk_at dksX6_waters_1 17 rfl rfl)
theorem dX6_waters_42 : decode cX6_waters 42 = .ok (.iload_n 3, 1) := dk_29 (dk_at dksX6_waters_1 18 rfl rfl)
theorem dX6_waters_43 : decode cX6_waters 43 = .ok (.iadd, 1) := dk_96 (dk_at dksX6_waters_1 19 rfl rfl)
theorem dX6_waters_44 : decode cX6_waters 44 = .ok (.iaload, 1) := dk_46 (dk_at dksX6_waters_1 20 rfl rfl)
theorem dX6_waters_45 : decode cX6_waters 45 = .ok (.i2l, 1) := dk_133 (dk_at dksX6_waters_1 21 rfl rfl)
theorem dX6_waters_46 : decode cX6_waters 46 = .ok (.lconst 0, 1) := dk_9 (dk_at dksX6_waters_1 22 rfl rfl)
theorem dX6_waters_47 : decode cX6_waters 47 = .ok (.ldc2_w 62, 3) := dk_20 0 62 (dk_at dksX6_waters_2 0 rfl rfl)
theorem dX6_waters_50 : decode cX6_waters 50 = .ok (.invokestatic 46, 3) := dk_184 0 46 (dk_at dksX6_waters_2 3 rfl rfl)
theorem dX6_waters_53 : decode cX6_waters 53 = .ok (.ifCond .eq 28, 3) := dk_153 0 28 (dk_at dksX6_waters_2 6 rfl rfl)
theorem dX6_waters_56 : decode cX6_waters 56 = .ok (.aload_n 0, 1) := dk_42 (dk_at dksX6_waters_2 9 rfl rfl)
theorem dX6_waters_57 : decode cX6_waters 57 = .ok (.getfield 7, 3) := dk_180 0 7 (dk_at dksX6_waters_2 10 rfl rfl)
theorem dX6_waters_60 : decode cX6_waters 60 = .ok (.iconst 0, 1) := dk_3 (dk_at dksX6_waters_2 13 rfl rfl)
theorem dX6_waters_61 : decode cX6_waters 61 = .ok (.iload_n 3, 1) := dk_29 (dk_at dksX6_waters_2 14 rfl rfl)
theorem dX6_waters_62 : decode cX6_waters 62 = .ok (.iadd, 1) := dk_96 (dk_at dksX6_waters_2 15 rfl rfl)
theorem dX6_waters_63 : decode cX6_waters 63 = .ok (.aload_n 0, 1) := dk_42 (dk_at dksX6_waters_2 16 rfl rfl)
theorem dX6_waters_64 : decode cX6_waters 64 = .ok (.getfield 37, 3) := dk_180 0 37 (dk_at dksX6_waters_2 17 rfl rfl)
theorem dX6_waters_67 : decode cX6_waters 67 = .ok (.bipush 40, 2) := dk_16 40 (dk_at dksX6_waters_2 20 rfl rfl)
theorem dX6_waters_69 : decode cX6_waters 69 = .ok (.iload_n 1, 1) := dk_27 (dk_at dksX6_waters_2 22 rfl rfl)
theorem dX6_waters_70 : decode cX6_waters 70 = .ok (.imul, 1) := dk_104 (dk_at dksX6_waters_2 23 rfl rfl)
theorem dX6_waters_71 : decode cX6_waters 71 = .ok (.iload_n 3, 1) := dk_29 (dk_at dksX6_waters_3 0 rfl rfl)
theorem dX6_waters_72 : decode cX6_waters 72 = .ok (.iadd, 1) := dk_96 (dk_at dksX6_waters_3 1 rfl rfl)
theorem dX6_waters_73 : decode cX6_waters 73 = .ok (.iaload, 1) := dk_46 (dk_at dksX6_waters_3 2 rfl rfl)
theorem dX6_waters_74 : decode cX6_waters 74 = .ok (.iastore, 1) := dk_79 (dk_at dksX6_waters_3 3 rfl rfl)
theorem dX6_waters_75 : decode cX6_waters 75 = .ok (.iinc 3 1, 3) := dk_132 3 1 (dk_at dksX6_waters_3 4 rfl rfl)
theorem dX6_waters_78 : decode cX6_waters 78 = .ok (.goto (-60), 3) := dk_167 255 196 (dk_at dksX6_waters_3 7 rfl rfl)
theorem dX6_waters_81 : decode cX6_waters 81 = .ok (.iload_n 3, 1) := dk_29 (dk_at dksX6_waters_3 10 rfl rfl)
theorem dX6_waters_82 : decode cX6_waters 82 = .ok (.ireturn, 1) := dk_172 (dk_at dksX6_waters_3 11 rfl rfl)
abbrev cX6_judge : ByteArray := prog_30_method_98_code
def yX6_judge : MethodName := ⟨RX6, "judge", "(I)I"⟩
def dkwX6_judge_4 : List UInt8 := [2, 167, 0, 4, 29, 172]
abbrev dktX6_judge_4 : List UInt8 := dkwX6_judge_4 ++ []
def dkwX6_judge_3 : List UInt8 := [17, 0, 139, 46, 160, 0, 24, 42, 180, 0, 34, 27, 46, 42, 180, 0, 7, 17, 0, 139, 46, 160, 0, 7]
abbrev dktX6_judge_3 : List UInt8 := dkwX6_judge_3 ++ dktX6_judge_4
def dkwX6_judge_2 : List UInt8 := [29, 96, 46, 42, 29, 6, 182, 0, 79, 160, 0, 9, 132, 3, 1, 167, 255, 211, 29, 42, 180, 0, 7]
abbrev dktX6_judge_2 : List UInt8 := dkwX6_judge_2 ++ dktX6_judge_3
def dkwX6_judge_1 : List UInt8 := [46, 162, 0, 41, 29, 42, 180, 0, 7, 17, 0, 139, 46, 162, 0, 29, 42, 180, 0, 37, 16, 40, 27, 104]
abbrev dktX6_judge_1 : List UInt8 := dkwX6_judge_1 ++ dktX6_judge_2
def dkwX6_judge_0 : List UInt8 := [42, 27, 182, 1, 56, 61, 28, 153, 0, 9, 42, 28, 182, 0, 68, 172, 3, 62, 29, 42, 180, 0, 34, 27]
abbrev dktX6_judge_0 : List UInt8 := dkwX6_judge_0 ++ dktX6_judge_1
theorem dksX6_judge_0 : cX6_judge.data.toList.drop 0 = dktX6_judge_0 := by decide +kernel
theorem dksX6_judge_1 : cX6_judge.data.toList.drop 24 = dktX6_judge_1 := dk_seg dksX6_judge_0 24 rfl rfl
theorem dksX6_judge_2 : cX6_judge.data.toList.drop 48 = dktX6_judge_2 := dk_seg dksX6_judge_1 24 rfl rfl
theorem dksX6_judge_3 : cX6_judge.data.toList.drop 71 = dktX6_judge_3 := dk_seg dksX6_judge_2 23 rfl rfl
theorem dksX6_judge_4 : cX6_judge.data.toList.drop 95 = dktX6_judge_4 := dk_seg dksX6_judge_3 24 rfl rfl
theorem dX6_judge_0 : decode cX6_judge 0 = .ok (.aload_n 0, 1) := dk_42 (dk_at dksX6_judge_0 0 rfl rfl)
theorem dX6_judge_1 : decode cX6_judge 1 = .ok (.iload_n 1, 1) := dk_27 (dk_at dksX6_judge_0 1 rfl rfl)
theorem dX6_judge_2 : decode cX6_judge 2 = .ok (.invokevirtual 312, 3) := dk_182 1 56 (dk_at dksX6_judge_0 2 rfl rfl)
theorem dX6_judge_5 : decode cX6_judge 5 = .ok (.istore_n 2, 1) := dk_61 (dk_at dksX6_judge_0 5 rfl rfl)
theorem dX6_judge_6 : decode cX6_judge 6 = .ok (.iload_n 2, 1) := dk_28 (dk_at dksX6_judge_0 6 rfl rfl)
theorem dX6_judge_7 : decode cX6_judge 7 = .ok (.ifCond .eq 9, 3) := dk_153 0 9 (dk_at dksX6_judge_0 7 rfl rfl)
theorem dX6_judge_10 : decode cX6_judge 10 = .ok (.aload_n 0, 1) := dk_42 (dk_at dksX6_judge_0 10 rfl rfl)
theorem dX6_judge_11 : decode cX6_judge 11 = .ok (.iload_n 2, 1) := dk_28 (dk_at dksX6_judge_0 11 rfl rfl)
theorem dX6_judge_12 : decode cX6_judge 12 = .ok (.invokevirtual 68, 3) := dk_182 0 68 (dk_at dksX6_judge_0 12 rfl rfl)
theorem dX6_judge_15 : decode cX6_judge 15 = .ok (.ireturn, 1) := dk_172 (dk_at dksX6_judge_0 15 rfl rfl)
theorem dX6_judge_16 : decode cX6_judge 16 = .ok (.iconst 0, 1) := dk_3 (dk_at dksX6_judge_0 16 rfl rfl)
theorem dX6_judge_17 : decode cX6_judge 17 = .ok (.istore_n 3, 1) := dk_62 (dk_at dksX6_judge_0 17 rfl rfl)
theorem dX6_judge_18 : decode cX6_judge 18 = .ok (.iload_n 3, 1) := dk_29 (dk_at dksX6_judge_0 18 rfl rfl)
theorem dX6_judge_19 : decode cX6_judge 19 = .ok (.aload_n 0, 1) := dk_42 (dk_at dksX6_judge_0 19 rfl rfl)
theorem dX6_judge_20 : decode cX6_judge 20 = .ok (.getfield 34, 3) := dk_180 0 34 (dk_at dksX6_judge_0 20 rfl rfl)
theorem dX6_judge_23 : decode cX6_judge 23 = .ok (.iload_n 1, 1) := dk_27 (dk_at dksX6_judge_0 23 rfl rfl)
theorem dX6_judge_24 : decode cX6_judge 24 = .ok (.iaload, 1) := dk_46 (dk_at dksX6_judge_1 0 rfl rfl)
theorem dX6_judge_25 : decode cX6_judge 25 = .ok (.if_icmp .ge 41, 3) := dk_162 0 41 (dk_at dksX6_judge_1 1 rfl rfl)
theorem dX6_judge_28 : decode cX6_judge 28 = .ok (.iload_n 3, 1) := dk_29 (dk_at dksX6_judge_1 4 rfl rfl)
theorem dX6_judge_29 : decode cX6_judge 29 = .ok (.aload_n 0, 1) := dk_42 (dk_at dksX6_judge_1 5 rfl rfl)
theorem dX6_judge_30 : decode cX6_judge 30 = .ok (.getfield 7, 3) := dk_180 0 7 (dk_at dksX6_judge_1 6 rfl rfl)
theorem dX6_judge_33 : decode cX6_judge 33 = .ok (.sipush 139, 3) := dk_17 0 139 (dk_at dksX6_judge_1 9 rfl rfl)
theorem dX6_judge_36 : decode cX6_judge 36 = .ok (.iaload, 1) := dk_46 (dk_at dksX6_judge_1 12 rfl rfl)
theorem dX6_judge_37 : decode cX6_judge 37 = .ok (.if_icmp .ge 29, 3) := dk_162 0 29 (dk_at dksX6_judge_1 13 rfl rfl)
theorem dX6_judge_40 : decode cX6_judge 40 = .ok (.aload_n 0, 1) := dk_42 (dk_at dksX6_judge_1 16 rfl rfl)
theorem dX6_judge_41 : decode cX6_judge 41 = .ok (.getfield 37, 3) := dk_180 0 37 (dk_at dksX6_judge_1 17 rfl rfl)
theorem dX6_judge_44 : decode cX6_judge 44 = .ok (.bipush 40, 2) := dk_16 40 (dk_at dksX6_judge_1 20 rfl rfl)
theorem dX6_judge_46 : decode cX6_judge 46 = .ok (.iload_n 1, 1) := dk_27 (dk_at dksX6_judge_1 22 rfl rfl)
theorem dX6_judge_47 : decode cX6_judge 47 = .ok (.imul, 1) := dk_104 (dk_at dksX6_judge_1 23 rfl rfl)
theorem dX6_judge_48 : decode cX6_judge 48 = .ok (.iload_n 3, 1) := dk_29 (dk_at dksX6_judge_2 0 rfl rfl)
theorem dX6_judge_49 : decode cX6_judge 49 = .ok (.iadd, 1) := dk_96 (dk_at dksX6_judge_2 1 rfl rfl)
theorem dX6_judge_50 : decode cX6_judge 50 = .ok (.iaload, 1) := dk_46 (dk_at dksX6_judge_2 2 rfl rfl)
theorem dX6_judge_51 : decode cX6_judge 51 = .ok (.aload_n 0, 1) := dk_42 (dk_at dksX6_judge_2 3 rfl rfl)
theorem dX6_judge_52 : decode cX6_judge 52 = .ok (.iload_n 3, 1) := dk_29 (dk_at dksX6_judge_2 4 rfl rfl)
theorem dX6_judge_53 : decode cX6_judge 53 = .ok (.iconst 3, 1) := dk_6 (dk_at dksX6_judge_2 5 rfl rfl)
theorem dX6_judge_54 : decode cX6_judge 54 = .ok (.invokevirtual 79, 3) := dk_182 0 79 (dk_at dksX6_judge_2 6 rfl rfl)
theorem dX6_judge_57 : decode cX6_judge 57 = .ok (.if_icmp .ne 9, 3) := dk_160 0 9 (dk_at dksX6_judge_2 9 rfl rfl)
theorem dX6_judge_60 : decode cX6_judge 60 = .ok (.iinc 3 1, 3) := dk_132 3 1 (dk_at dksX6_judge_2 12 rfl rfl)
theorem dX6_judge_63 : decode cX6_judge 63 = .ok (.goto (-45), 3) := dk_167 255 211 (dk_at dksX6_judge_2 15 rfl rfl)
theorem dX6_judge_66 : decode cX6_judge 66 = .ok (.iload_n 3, 1) := dk_29 (dk_at dksX6_judge_2 18 rfl rfl)
theorem dX6_judge_67 : decode cX6_judge 67 = .ok (.aload_n 0, 1) := dk_42 (dk_at dksX6_judge_2 19 rfl rfl)
theorem dX6_judge_68 : decode cX6_judge 68 = .ok (.getfield 7, 3) := dk_180 0 7 (dk_at dksX6_judge_2 20 rfl rfl)
theorem dX6_judge_71 : decode cX6_judge 71 = .ok (.sipush 139, 3) := dk_17 0 139 (dk_at dksX6_judge_3 0 rfl rfl)
theorem dX6_judge_74 : decode cX6_judge 74 = .ok (.iaload, 1) := dk_46 (dk_at dksX6_judge_3 3 rfl rfl)
theorem dX6_judge_75 : decode cX6_judge 75 = .ok (.if_icmp .ne 24, 3) := dk_160 0 24 (dk_at dksX6_judge_3 4 rfl rfl)
theorem dX6_judge_78 : decode cX6_judge 78 = .ok (.aload_n 0, 1) := dk_42 (dk_at dksX6_judge_3 7 rfl rfl)
theorem dX6_judge_79 : decode cX6_judge 79 = .ok (.getfield 34, 3) := dk_180 0 34 (dk_at dksX6_judge_3 8 rfl rfl)
theorem dX6_judge_82 : decode cX6_judge 82 = .ok (.iload_n 1, 1) := dk_27 (dk_at dksX6_judge_3 11 rfl rfl)
theorem dX6_judge_83 : decode cX6_judge 83 = .ok (.iaload, 1) := dk_46 (dk_at dksX6_judge_3 12 rfl rfl)
theorem dX6_judge_84 : decode cX6_judge 84 = .ok (.aload_n 0, 1) := dk_42 (dk_at dksX6_judge_3 13 rfl rfl)
theorem dX6_judge_85 : decode cX6_judge 85 = .ok (.getfield 7, 3) := dk_180 0 7 (dk_at dksX6_judge_3 14 rfl rfl)
theorem dX6_judge_88 : decode cX6_judge 88 = .ok (.sipush 139, 3) := dk_17 0 139 (dk_at dksX6_judge_3 17 rfl rfl)
theorem dX6_judge_91 : decode cX6_judge 91 = .ok (.iaload, 1) := dk_46 (dk_at dksX6_judge_3 20 rfl rfl)
theorem dX6_judge_92 : decode cX6_judge 92 = .ok (.if_icmp .ne 7, 3) := dk_160 0 7 (dk_at dksX6_judge_3 21 rfl rfl)
theorem dX6_judge_95 : decode cX6_judge 95 = .ok (.iconst (-1), 1) := dk_2 (dk_at dksX6_judge_4 0 rfl rfl)
theorem dX6_judge_96 : decode cX6_judge 96 = .ok (.goto 4, 3) := dk_167 0 4 (dk_at dksX6_judge_4 1 rfl rfl)
theorem dX6_judge_99 : decode cX6_judge 99 = .ok (.iload_n 3, 1) := dk_29 (dk_at dksX6_judge_4 4 rfl rfl)
theorem dX6_judge_100 : decode cX6_judge 100 = .ok (.ireturn, 1) := dk_172 (dk_at dksX6_judge_4 5 rfl rfl)
abbrev cX6_image : ByteArray := prog_30_method_99_code
def yX6_image : MethodName := ⟨RX6, "image", "()I"⟩
def dkwX6_image_1 : List UInt8 := [167, 255, 234, 42, 89, 180, 1, 59, 4, 96, 181, 1, 59, 42, 180, 1, 59, 172]
abbrev dktX6_image_1 : List UInt8 := dkwX6_image_1 ++ []
def dkwX6_image_0 : List UInt8 := [3, 60, 27, 17, 1, 95, 162, 0, 21, 42, 180, 0, 13, 27, 42, 180, 0, 7, 27, 46, 79, 132, 1, 1]
abbrev dktX6_image_0 : List UInt8 := dkwX6_image_0 ++ dktX6_image_1
theorem dksX6_image_0 : cX6_image.data.toList.drop 0 = dktX6_image_0 := by decide +kernel
theorem dksX6_image_1 : cX6_image.data.toList.drop 24 = dktX6_image_1 := dk_seg dksX6_image_0 24 rfl rfl
theorem dX6_image_0 : decode cX6_image 0 = .ok (.iconst 0, 1) := dk_3 (dk_at dksX6_image_0 0 rfl rfl)
theorem dX6_image_1 : decode cX6_image 1 = .ok (.istore_n 1, 1) := dk_60 (dk_at dksX6_image_0 1 rfl rfl)
theorem dX6_image_2 : decode cX6_image 2 = .ok (.iload_n 1, 1) := dk_27 (dk_at dksX6_image_0 2 rfl rfl)
theorem dX6_image_3 : decode cX6_image 3 = .ok (.sipush 351, 3) := dk_17 1 95 (dk_at dksX6_image_0 3 rfl rfl)
theorem dX6_image_6 : decode cX6_image 6 = .ok (.if_icmp .ge 21, 3) := dk_162 0 21 (dk_at dksX6_image_0 6 rfl rfl)
theorem dX6_image_9 : decode cX6_image 9 = .ok (.aload_n 0, 1) := dk_42 (dk_at dksX6_image_0 9 rfl rfl)
theorem dX6_image_10 : decode cX6_image 10 = .ok (.getfield 13, 3) := dk_180 0 13 (dk_at dksX6_image_0 10 rfl rfl)
theorem dX6_image_13 : decode cX6_image 13 = .ok (.iload_n 1, 1) := dk_27 (dk_at dksX6_image_0 13 rfl rfl)
theorem dX6_image_14 : decode cX6_image 14 = .ok (.aload_n 0, 1) := dk_42 (dk_at dksX6_image_0 14 rfl rfl)
theorem dX6_image_15 : decode cX6_image 15 = .ok (.getfield 7, 3) := dk_180 0 7 (dk_at dksX6_image_0 15 rfl rfl)
theorem dX6_image_18 : decode cX6_image 18 = .ok (.iload_n 1, 1) := dk_27 (dk_at dksX6_image_0 18 rfl rfl)
theorem dX6_image_19 : decode cX6_image 19 = .ok (.iaload, 1) := dk_46 (dk_at dksX6_image_0 19 rfl rfl)
theorem dX6_image_20 : decode cX6_image 20 = .ok (.iastore, 1) := dk_79 (dk_at dksX6_image_0 20 rfl rfl)
theorem dX6_image_21 : decode cX6_image 21 = .ok (.iinc 1 1, 3) := dk_132 1 1 (dk_at dksX6_image_0 21 rfl rfl)
theorem dX6_image_24 : decode cX6_image 24 = .ok (.goto (-22), 3) := dk_167 255 234 (dk_at dksX6_image_1 0 rfl rfl)
theorem dX6_image_27 : decode cX6_image 27 = .ok (.aload_n 0, 1) := dk_42 (dk_at dksX6_image_1 3 rfl rfl)
theorem dX6_image_28 : decode cX6_image 28 = .ok (.dup, 1) := dk_89 (dk_at dksX6_image_1 4 rfl rfl)
theorem dX6_image_29 : decode cX6_image 29 = .ok (.getfield 315, 3) := dk_180 1 59 (dk_at dksX6_image_1 5 rfl rfl)
theorem dX6_image_32 : decode cX6_image 32 = .ok (.iconst 1, 1) := dk_4 (dk_at dksX6_image_1 8 rfl rfl)
theorem dX6_image_33 : decode cX6_image 33 = .ok (.iadd, 1) := dk_96 (dk_at dksX6_image_1 9 rfl rfl)
theorem dX6_image_34 : decode cX6_image 34 = .ok (.putfield 315, 3) := dk_181 1 59 (dk_at dksX6_image_1 10 rfl rfl)
theorem dX6_image_37 : decode cX6_image 37 = .ok (.aload_n 0, 1) := dk_42 (dk_at dksX6_image_1 13 rfl rfl)
theorem dX6_image_38 : decode cX6_image 38 = .ok (.getfield 315, 3) := dk_180 1 59 (dk_at dksX6_image_1 14 rfl rfl)
theorem dX6_image_41 : decode cX6_image 41 = .ok (.ireturn, 1) := dk_172 (dk_at dksX6_image_1 17 rfl rfl)
abbrev cX6_restore : ByteArray := prog_30_method_100_code
def yX6_restore : MethodName := ⟨RX6, "restore", "()I"⟩
def dkwX6_restore_2 : List UInt8 := [46, 172]
abbrev dktX6_restore_2 : List UInt8 := dkwX6_restore_2 ++ []
def dkwX6_restore_1 : List UInt8 := [180, 0, 7, 27, 42, 180, 0, 13, 27, 46, 79, 132, 1, 1, 167, 255, 234, 42, 180, 0, 7, 17, 0, 137]
abbrev dktX6_restore_1 : List UInt8 := dkwX6_restore_1 ++ dktX6_restore_2
def dkwX6_restore_0 : List UInt8 := [42, 180, 1, 59, 154, 0, 10, 42, 18, 249, 182, 0, 68, 172, 3, 60, 27, 17, 1, 95, 162, 0, 21, 42]
abbrev dktX6_restore_0 : List UInt8 := dkwX6_restore_0 ++ dktX6_restore_1
theorem dksX6_restore_0 : cX6_restore.data.toList.drop 0 = dktX6_restore_0 := by decide +kernel
theorem dksX6_restore_1 : cX6_restore.data.toList.drop 24 = dktX6_restore_1 := dk_seg dksX6_restore_0 24 rfl rfl
theorem dksX6_restore_2 : cX6_restore.data.toList.drop 48 = dktX6_restore_2 := dk_seg dksX6_restore_1 24 rfl rfl
theorem dX6_restore_0 : decode cX6_restore 0 = .ok (.aload_n 0, 1) := dk_42 (dk_at dksX6_restore_0 0 rfl rfl)
theorem dX6_restore_1 : decode cX6_restore 1 = .ok (.getfield 315, 3) := dk_180 1 59 (dk_at dksX6_restore_0 1 rfl rfl)
theorem dX6_restore_4 : decode cX6_restore 4 = .ok (.ifCond .ne 10, 3) := dk_154 0 10 (dk_at dksX6_restore_0 4 rfl rfl)
theorem dX6_restore_7 : decode cX6_restore 7 = .ok (.aload_n 0, 1) := dk_42 (dk_at dksX6_restore_0 7 rfl rfl)
theorem dX6_restore_8 : decode cX6_restore 8 = .ok (.ldc 249, 2) := dk_18 249 (dk_at dksX6_restore_0 8 rfl rfl)
theorem dX6_restore_10 : decode cX6_restore 10 = .ok (.invokevirtual 68, 3) := dk_182 0 68 (dk_at dksX6_restore_0 10 rfl rfl)
theorem dX6_restore_13 : decode cX6_restore 13 = .ok (.ireturn, 1) := dk_172 (dk_at dksX6_restore_0 13 rfl rfl)
theorem dX6_restore_14 : decode cX6_restore 14 = .ok (.iconst 0, 1) := dk_3 (dk_at dksX6_restore_0 14 rfl rfl)
theorem dX6_restore_15 : decode cX6_restore 15 = .ok (.istore_n 1, 1) := dk_60 (dk_at dksX6_restore_0 15 rfl rfl)
theorem dX6_restore_16 : decode cX6_restore 16 = .ok (.iload_n 1, 1) := dk_27 (dk_at dksX6_restore_0 16 rfl rfl)
theorem dX6_restore_17 : decode cX6_restore 17 = .ok (.sipush 351, 3) := dk_17 1 95 (dk_at dksX6_restore_0 17 rfl rfl)
theorem dX6_restore_20 : decode cX6_restore 20 = .ok (.if_icmp .ge 21, 3) := dk_162 0 21 (dk_at dksX6_restore_0 20 rfl rfl)
theorem dX6_restore_23 : decode cX6_restore 23 = .ok (.aload_n 0, 1) := dk_42 (dk_at dksX6_restore_0 23 rfl rfl)
theorem dX6_restore_24 : decode cX6_restore 24 = .ok (.getfield 7, 3) := dk_180 0 7 (dk_at dksX6_restore_1 0 rfl rfl)
theorem dX6_restore_27 : decode cX6_restore 27 = .ok (.iload_n 1, 1) := dk_27 (dk_at dksX6_restore_1 3 rfl rfl)
theorem dX6_restore_28 : decode cX6_restore 28 = .ok (.aload_n 0, 1) := dk_42 (dk_at dksX6_restore_1 4 rfl rfl)
theorem dX6_restore_29 : decode cX6_restore 29 = .ok (.getfield 13, 3) := dk_180 0 13 (dk_at dksX6_restore_1 5 rfl rfl)
theorem dX6_restore_32 : decode cX6_restore 32 = .ok (.iload_n 1, 1) := dk_27 (dk_at dksX6_restore_1 8 rfl rfl)
theorem dX6_restore_33 : decode cX6_restore 33 = .ok (.iaload, 1) := dk_46 (dk_at dksX6_restore_1 9 rfl rfl)
theorem dX6_restore_34 : decode cX6_restore 34 = .ok (.iastore, 1) := dk_79 (dk_at dksX6_restore_1 10 rfl rfl)
theorem dX6_restore_35 : decode cX6_restore 35 = .ok (.iinc 1 1, 3) := dk_132 1 1 (dk_at dksX6_restore_1 11 rfl rfl)
theorem dX6_restore_38 : decode cX6_restore 38 = .ok (.goto (-22), 3) := dk_167 255 234 (dk_at dksX6_restore_1 14 rfl rfl)
theorem dX6_restore_41 : decode cX6_restore 41 = .ok (.aload_n 0, 1) := dk_42 (dk_at dksX6_restore_1 17 rfl rfl)
theorem dX6_restore_42 : decode cX6_restore 42 = .ok (.getfield 7, 3) := dk_180 0 7 (dk_at dksX6_restore_1 18 rfl rfl)
theorem dX6_restore_45 : decode cX6_restore 45 = .ok (.sipush 137, 3) := dk_17 0 137 (dk_at dksX6_restore_1 21 rfl rfl)
theorem dX6_restore_48 : decode cX6_restore 48 = .ok (.iaload, 1) := dk_46 (dk_at dksX6_restore_2 0 rfl rfl)
theorem dX6_restore_49 : decode cX6_restore 49 = .ok (.ireturn, 1) := dk_172 (dk_at dksX6_restore_2 1 rfl rfl)
abbrev cX6_tell : ByteArray := prog_30_method_101_code
def yX6_tell : MethodName := ⟨RX6, "tell", "(I)I"⟩
def dkwX6_tell_2 : List UInt8 := [96, 79, 42, 180, 0, 7, 17, 0, 178, 46, 172]
abbrev dktX6_tell_2 : List UInt8 := dkwX6_tell_2 ++ []
def dkwX6_tell_1 : List UInt8 := [17, 1, 75, 42, 180, 0, 7, 17, 0, 178, 46, 96, 27, 79, 42, 180, 0, 7, 17, 0, 178, 92, 46, 4]
abbrev dktX6_tell_1 : List UInt8 := dkwX6_tell_1 ++ dktX6_tell_2
def dkwX6_tell_0 : List UInt8 := [42, 180, 0, 7, 17, 0, 178, 46, 16, 20, 160, 0, 10, 42, 18, 98, 182, 0, 68, 172, 42, 180, 0, 7]
abbrev dktX6_tell_0 : List UInt8 := dkwX6_tell_0 ++ dktX6_tell_1
theorem dksX6_tell_0 : cX6_tell.data.toList.drop 0 = dktX6_tell_0 := by decide +kernel
theorem dksX6_tell_1 : cX6_tell.data.toList.drop 24 = dktX6_tell_1 := dk_seg dksX6_tell_0 24 rfl rfl
theorem dksX6_tell_2 : cX6_tell.data.toList.drop 48 = dktX6_tell_2 := dk_seg dksX6_tell_1 24 rfl rfl
theorem dX6_tell_0 : decode cX6_tell 0 = .ok (.aload_n 0, 1) := dk_42 (dk_at dksX6_tell_0 0 rfl rfl)
theorem dX6_tell_1 : decode cX6_tell 1 = .ok (.getfield 7, 3) := dk_180 0 7 (dk_at dksX6_tell_0 1 rfl rfl)
theorem dX6_tell_4 : decode cX6_tell 4 = .ok (.sipush 178, 3) := dk_17 0 178 (dk_at dksX6_tell_0 4 rfl rfl)
theorem dX6_tell_7 : decode cX6_tell 7 = .ok (.iaload, 1) := dk_46 (dk_at dksX6_tell_0 7 rfl rfl)
theorem dX6_tell_8 : decode cX6_tell 8 = .ok (.bipush 20, 2) := dk_16 20 (dk_at dksX6_tell_0 8 rfl rfl)
theorem dX6_tell_10 : decode cX6_tell 10 = .ok (.if_icmp .ne 10, 3) := dk_160 0 10 (dk_at dksX6_tell_0 10 rfl rfl)
theorem dX6_tell_13 : decode cX6_tell 13 = .ok (.aload_n 0, 1) := dk_42 (dk_at dksX6_tell_0 13 rfl rfl)
theorem dX6_tell_14 : decode cX6_tell 14 = .ok (.ldc 98, 2) := dk_18 98 (dk_at dksX6_tell_0 14 rfl rfl)
theorem dX6_tell_16 : decode cX6_tell 16 = .ok (.invokevirtual 68, 3) := dk_182 0 68 (dk_at dksX6_tell_0 16 rfl rfl)
theorem dX6_tell_19 : decode cX6_tell 19 = .ok (.ireturn, 1) := dk_172 (dk_at dksX6_tell_0 19 rfl rfl)
theorem dX6_tell_20 : decode cX6_tell 20 = .ok (.aload_n 0, 1) := dk_42 (dk_at dksX6_tell_0 20 rfl rfl)
theorem dX6_tell_21 : decode cX6_tell 21 = .ok (.getfield 7, 3) := dk_180 0 7 (dk_at dksX6_tell_0 21 rfl rfl)
theorem dX6_tell_24 : decode cX6_tell 24 = .ok (.sipush 331, 3) := dk_17 1 75 (dk_at dksX6_tell_1 0 rfl rfl)
theorem dX6_tell_27 : decode cX6_tell 27 = .ok (.aload_n 0, 1) := dk_42 (dk_at dksX6_tell_1 3 rfl rfl)
theorem dX6_tell_28 : decode cX6_tell 28 = .ok (.getfield 7, 3) := dk_180 0 7 (dk_at dksX6_tell_1 4 rfl rfl)
theorem dX6_tell_31 : decode cX6_tell 31 = .ok (.sipush 178, 3) := dk_17 0 178 (dk_at dksX6_tell_1 7 rfl rfl)
theorem dX6_tell_34 : decode cX6_tell 34 = .ok (.iaload, 1) := dk_46 (dk_at dksX6_tell_1 10 rfl rfl)
theorem dX6_tell_35 : decode cX6_tell 35 = .ok (.iadd, 1) := dk_96 (dk_at dksX6_tell_1 11 rfl rfl)
theorem dX6_tell_36 : decode cX6_tell 36 = .ok (.iload_n 1, 1) := dk_27 (dk_at dksX6_tell_1 12 rfl rfl)
theorem dX6_tell_37 : decode cX6_tell 37 = .ok (.iastore, 1) := dk_79 (dk_at dksX6_tell_1 13 rfl rfl)
theorem dX6_tell_38 : decode cX6_tell 38 = .ok (.aload_n 0, 1) := dk_42 (dk_at dksX6_tell_1 14 rfl rfl)
theorem dX6_tell_39 : decode cX6_tell 39 = .ok (.getfield 7, 3) := dk_180 0 7 (dk_at dksX6_tell_1 15 rfl rfl)
theorem dX6_tell_42 : decode cX6_tell 42 = .ok (.sipush 178, 3) := dk_17 0 178 (dk_at dksX6_tell_1 18 rfl rfl)
theorem dX6_tell_45 : decode cX6_tell 45 = .ok (.dup2, 1) := dk_92 (dk_at dksX6_tell_1 21 rfl rfl)
theorem dX6_tell_46 : decode cX6_tell 46 = .ok (.iaload, 1) := dk_46 (dk_at dksX6_tell_1 22 rfl rfl)
theorem dX6_tell_47 : decode cX6_tell 47 = .ok (.iconst 1, 1) := dk_4 (dk_at dksX6_tell_1 23 rfl rfl)
theorem dX6_tell_48 : decode cX6_tell 48 = .ok (.iadd, 1) := dk_96 (dk_at dksX6_tell_2 0 rfl rfl)
theorem dX6_tell_49 : decode cX6_tell 49 = .ok (.iastore, 1) := dk_79 (dk_at dksX6_tell_2 1 rfl rfl)
theorem dX6_tell_50 : decode cX6_tell 50 = .ok (.aload_n 0, 1) := dk_42 (dk_at dksX6_tell_2 2 rfl rfl)
theorem dX6_tell_51 : decode cX6_tell 51 = .ok (.getfield 7, 3) := dk_180 0 7 (dk_at dksX6_tell_2 3 rfl rfl)
theorem dX6_tell_54 : decode cX6_tell 54 = .ok (.sipush 178, 3) := dk_17 0 178 (dk_at dksX6_tell_2 6 rfl rfl)
theorem dX6_tell_57 : decode cX6_tell 57 = .ok (.iaload, 1) := dk_46 (dk_at dksX6_tell_2 9 rfl rfl)
theorem dX6_tell_58 : decode cX6_tell 58 = .ok (.ireturn, 1) := dk_172 (dk_at dksX6_tell_2 10 rfl rfl)
abbrev cX6_check : ByteArray := prog_30_method_102_code
def yX6_check : MethodName := ⟨RX6, "check", "()I"⟩
def dkwX6_check_3 : List UInt8 := [28, 182, 1, 65, 172]
abbrev dktX6_check_3 : List UInt8 := dkwX6_check_3 ++ []
def dkwX6_check_2 : List UInt8 := [3, 167, 0, 6, 4, 29, 96, 61, 132, 3, 1, 167, 255, 215, 42, 180, 0, 7, 17, 0, 178, 3, 79, 42]
abbrev dktX6_check_2 : List UInt8 := dkwX6_check_2 ++ dktX6_check_3
def dkwX6_check_1 : List UInt8 := [154, 0, 38, 42, 182, 0, 214, 42, 182, 0, 217, 42, 180, 0, 7, 17, 1, 75, 29, 96, 46, 160, 0, 7]
abbrev dktX6_check_1 : List UInt8 := dkwX6_check_1 ++ dktX6_check_2
def dkwX6_check_0 : List UInt8 := [42, 182, 1, 62, 42, 180, 0, 7, 17, 0, 178, 46, 60, 3, 61, 3, 62, 29, 27, 162, 0, 42, 28]
abbrev dktX6_check_0 : List UInt8 := dkwX6_check_0 ++ dktX6_check_1
theorem dksX6_check_0 : cX6_check.data.toList.drop 0 = dktX6_check_0 := by decide +kernel
theorem dksX6_check_1 : cX6_check.data.toList.drop 23 = dktX6_check_1 := dk_seg dksX6_check_0 23 rfl rfl
theorem dksX6_check_2 : cX6_check.data.toList.drop 47 = dktX6_check_2 := dk_seg dksX6_check_1 24 rfl rfl
theorem dksX6_check_3 : cX6_check.data.toList.drop 71 = dktX6_check_3 := dk_seg dksX6_check_2 24 rfl rfl
theorem dX6_check_0 : decode cX6_check 0 = .ok (.aload_n 0, 1) := dk_42 (dk_at dksX6_check_0 0 rfl rfl)
theorem dX6_check_1 : decode cX6_check 1 = .ok (.invokevirtual 318, 3) := dk_182 1 62 (dk_at dksX6_check_0 1 rfl rfl)
theorem dX6_check_4 : decode cX6_check 4 = .ok (.aload_n 0, 1) := dk_42 (dk_at dksX6_check_0 4 rfl rfl)
theorem dX6_check_5 : decode cX6_check 5 = .ok (.getfield 7, 3) := dk_180 0 7 (dk_at dksX6_check_0 5 rfl rfl)
theorem dX6_check_8 : decode cX6_check 8 = .ok (.sipush 178, 3) := dk_17 0 178 (dk_at dksX6_check_0 8 rfl rfl)
theorem dX6_check_11 : decode cX6_check 11 = .ok (.iaload, 1) := dk_46 (dk_at dksX6_check_0 11 rfl rfl)
theorem dX6_check_12 : decode cX6_check 12 = .ok (.istore_n 1, 1) := dk_60 (dk_at dksX6_check_0 12 rfl rfl)
theorem dX6_check_13 : decode cX6_check 13 = .ok (.iconst 0, 1) := dk_3 (dk_at dksX6_check_0 13 rfl rfl)
theorem dX6_check_14 : decode cX6_check 14 = .ok (.istore_n 2, 1) := dk_61 (dk_at dksX6_check_0 14 rfl rfl)
theorem dX6_check_15 : decode cX6_check 15 = .ok (.iconst 0, 1) := dk_3 (dk_at dksX6_check_0 15 rfl rfl)
theorem dX6_check_16 : decode cX6_check 16 = .ok (.istore_n 3, 1) := dk_62 (dk_at dksX6_check_0 16 rfl rfl)
theorem dX6_check_17 : decode cX6_check 17 = .ok (.iload_n 3, 1) := dk_29 (dk_at dksX6_check_0 17 rfl rfl)
theorem dX6_check_18 : decode cX6_check 18 = .ok (.iload_n 1, 1) := dk_27 (dk_at dksX6_check_0 18 rfl rfl)
theorem dX6_check_19 : decode cX6_check 19 = .ok (.if_icmp .ge 42, 3) := dk_162 0 42 (dk_at dksX6_check_0 19 rfl rfl)
theorem dX6_check_22 : decode cX6_check 22 = .ok (.iload_n 2, 1) := dk_28 (dk_at dksX6_check_0 22 rfl rfl)
theorem dX6_check_23 : decode cX6_check 23 = .ok (.ifCond .ne 38, 3) := dk_154 0 38 (dk_at dksX6_check_1 0 rfl rfl)
theorem dX6_check_26 : decode cX6_check 26 = .ok (.aload_n 0, 1) := dk_42 (dk_at dksX6_check_1 3 rfl rfl)
theorem dX6_check_27 : decode cX6_check 27 = .ok (.invokevirtual 214, 3) := dk_182 0 214 (dk_at dksX6_check_1 4 rfl rfl)
theorem dX6_check_30 : decode cX6_check 30 = .ok (.aload_n 0, 1) := dk_42 (dk_at dksX6_check_1 7 rfl rfl)
theorem dX6_check_31 : decode cX6_check 31 = .ok (.invokevirtual 217, 3) := dk_182 0 217 (dk_at dksX6_check_1 8 rfl rfl)
theorem dX6_check_34 : decode cX6_check 34 = .ok (.aload_n 0, 1) := dk_42 (dk_at dksX6_check_1 11 rfl rfl)
theorem dX6_check_35 : decode cX6_check 35 = .ok (.getfield 7, 3) := dk_180 0 7 (dk_at dksX6_check_1 12 rfl rfl)
theorem dX6_check_38 : decode cX6_check 38 = .ok (.sipush 331, 3) := dk_17 1 75 (dk_at dksX6_check_1 15 rfl rfl)
theorem dX6_check_41 : decode cX6_check 41 = .ok (.iload_n 3, 1) := dk_29 (dk_at dksX6_check_1 18 rfl rfl)
theorem dX6_check_42 : decode cX6_check 42 = .ok (.iadd, 1) := dk_96 (dk_at dksX6_check_1 19 rfl rfl)
theorem dX6_check_43 : decode cX6_check 43 = .ok (.iaload, 1) := dk_46 (dk_at dksX6_check_1 20 rfl rfl)
theorem dX6_check_44 : decode cX6_check 44 = .ok (.if_icmp .ne 7, 3) := dk_160 0 7 (dk_at dksX6_check_1 21 rfl rfl)
theorem dX6_check_47 : decode cX6_check 47 = .ok (.iconst 0, 1) := dk_3 (dk_at dksX6_check_2 0 rfl rfl)
theorem dX6_check_48 : decode cX6_check 48 = .ok (.goto 6, 3) := dk_167 0 6 (dk_at dksX6_check_2 1 rfl rfl)
theorem dX6_check_51 : decode cX6_check 51 = .ok (.iconst 1, 1) := dk_4 (dk_at dksX6_check_2 4 rfl rfl)
theorem dX6_check_52 : decode cX6_check 52 = .ok (.iload_n 3, 1) := dk_29 (dk_at dksX6_check_2 5 rfl rfl)
theorem dX6_check_53 : decode cX6_check 53 = .ok (.iadd, 1) := dk_96 (dk_at dksX6_check_2 6 rfl rfl)
theorem dX6_check_54 : decode cX6_check 54 = .ok (.istore_n 2, 1) := dk_61 (dk_at dksX6_check_2 7 rfl rfl)
theorem dX6_check_55 : decode cX6_check 55 = .ok (.iinc 3 1, 3) := dk_132 3 1 (dk_at dksX6_check_2 8 rfl rfl)
theorem dX6_check_58 : decode cX6_check 58 = .ok (.goto (-41), 3) := dk_167 255 215 (dk_at dksX6_check_2 11 rfl rfl)
theorem dX6_check_61 : decode cX6_check 61 = .ok (.aload_n 0, 1) := dk_42 (dk_at dksX6_check_2 14 rfl rfl)
theorem dX6_check_62 : decode cX6_check 62 = .ok (.getfield 7, 3) := dk_180 0 7 (dk_at dksX6_check_2 15 rfl rfl)
theorem dX6_check_65 : decode cX6_check 65 = .ok (.sipush 178, 3) := dk_17 0 178 (dk_at dksX6_check_2 18 rfl rfl)
theorem dX6_check_68 : decode cX6_check 68 = .ok (.iconst 0, 1) := dk_3 (dk_at dksX6_check_2 21 rfl rfl)
theorem dX6_check_69 : decode cX6_check 69 = .ok (.iastore, 1) := dk_79 (dk_at dksX6_check_2 22 rfl rfl)
theorem dX6_check_70 : decode cX6_check 70 = .ok (.aload_n 0, 1) := dk_42 (dk_at dksX6_check_2 23 rfl rfl)
theorem dX6_check_71 : decode cX6_check 71 = .ok (.iload_n 2, 1) := dk_28 (dk_at dksX6_check_3 0 rfl rfl)
theorem dX6_check_72 : decode cX6_check 72 = .ok (.invokevirtual 321, 3) := dk_182 1 65 (dk_at dksX6_check_3 1 rfl rfl)
theorem dX6_check_75 : decode cX6_check 75 = .ok (.ireturn, 1) := dk_172 (dk_at dksX6_check_3 4 rfl rfl)
abbrev cX6_laysAside : ByteArray := prog_30_method_5_code
def yX6_laysAside : MethodName := ⟨RX6, "laysAside", "()V"⟩
def dkwX6_laysAside_1 : List UInt8 := [167, 255, 234, 177]
abbrev dktX6_laysAside_1 : List UInt8 := dkwX6_laysAside_1 ++ []
def dkwX6_laysAside_0 : List UInt8 := [3, 60, 27, 17, 0, 176, 162, 0, 21, 42, 180, 0, 16, 27, 42, 180, 0, 7, 27, 46, 79, 132, 1, 1]
abbrev dktX6_laysAside_0 : List UInt8 := dkwX6_laysAside_0 ++ dktX6_laysAside_1
theorem dksX6_laysAside_0 : cX6_laysAside.data.toList.drop 0 = dktX6_laysAside_0 := by decide +kernel
theorem dksX6_laysAside_1 : cX6_laysAside.data.toList.drop 24 = dktX6_laysAside_1 := dk_seg dksX6_laysAside_0 24 rfl rfl
theorem dX6_laysAside_0 : decode cX6_laysAside 0 = .ok (.iconst 0, 1) := dk_3 (dk_at dksX6_laysAside_0 0 rfl rfl)
theorem dX6_laysAside_1 : decode cX6_laysAside 1 = .ok (.istore_n 1, 1) := dk_60 (dk_at dksX6_laysAside_0 1 rfl rfl)
theorem dX6_laysAside_2 : decode cX6_laysAside 2 = .ok (.iload_n 1, 1) := dk_27 (dk_at dksX6_laysAside_0 2 rfl rfl)
theorem dX6_laysAside_3 : decode cX6_laysAside 3 = .ok (.sipush 176, 3) := dk_17 0 176 (dk_at dksX6_laysAside_0 3 rfl rfl)
theorem dX6_laysAside_6 : decode cX6_laysAside 6 = .ok (.if_icmp .ge 21, 3) := dk_162 0 21 (dk_at dksX6_laysAside_0 6 rfl rfl)
theorem dX6_laysAside_9 : decode cX6_laysAside 9 = .ok (.aload_n 0, 1) := dk_42 (dk_at dksX6_laysAside_0 9 rfl rfl)
theorem dX6_laysAside_10 : decode cX6_laysAside 10 = .ok (.getfield 16, 3) := dk_180 0 16 (dk_at dksX6_laysAside_0 10 rfl rfl)
theorem dX6_laysAside_13 : decode cX6_laysAside 13 = .ok (.iload_n 1, 1) := dk_27 (dk_at dksX6_laysAside_0 13 rfl rfl)
theorem dX6_laysAside_14 : decode cX6_laysAside 14 = .ok (.aload_n 0, 1) := dk_42 (dk_at dksX6_laysAside_0 14 rfl rfl)
theorem dX6_laysAside_15 : decode cX6_laysAside 15 = .ok (.getfield 7, 3) := dk_180 0 7 (dk_at dksX6_laysAside_0 15 rfl rfl)
theorem dX6_laysAside_18 : decode cX6_laysAside 18 = .ok (.iload_n 1, 1) := dk_27 (dk_at dksX6_laysAside_0 18 rfl rfl)
theorem dX6_laysAside_19 : decode cX6_laysAside 19 = .ok (.iaload, 1) := dk_46 (dk_at dksX6_laysAside_0 19 rfl rfl)
theorem dX6_laysAside_20 : decode cX6_laysAside 20 = .ok (.iastore, 1) := dk_79 (dk_at dksX6_laysAside_0 20 rfl rfl)
theorem dX6_laysAside_21 : decode cX6_laysAside 21 = .ok (.iinc 1 1, 3) := dk_132 1 1 (dk_at dksX6_laysAside_0 21 rfl rfl)
theorem dX6_laysAside_24 : decode cX6_laysAside 24 = .ok (.goto (-22), 3) := dk_167 255 234 (dk_at dksX6_laysAside_1 0 rfl rfl)
theorem dX6_laysAside_27 : decode cX6_laysAside 27 = .ok (.return_, 1) := dk_177 (dk_at dksX6_laysAside_1 3 rfl rfl)
abbrev cX6_takesBack : ByteArray := prog_30_method_6_code
def yX6_takesBack : MethodName := ⟨RX6, "takesBack", "(I)I"⟩
def dkwX6_takesBack_1 : List UInt8 := [167, 255, 234, 27, 172]
abbrev dktX6_takesBack_1 : List UInt8 := dkwX6_takesBack_1 ++ []
def dkwX6_takesBack_0 : List UInt8 := [3, 61, 28, 17, 0, 176, 162, 0, 21, 42, 180, 0, 7, 28, 42, 180, 0, 16, 28, 46, 79, 132, 2, 1]
abbrev dktX6_takesBack_0 : List UInt8 := dkwX6_takesBack_0 ++ dktX6_takesBack_1
theorem dksX6_takesBack_0 : cX6_takesBack.data.toList.drop 0 = dktX6_takesBack_0 := by decide +kernel
theorem dksX6_takesBack_1 : cX6_takesBack.data.toList.drop 24 = dktX6_takesBack_1 := dk_seg dksX6_takesBack_0 24 rfl rfl
theorem dX6_takesBack_0 : decode cX6_takesBack 0 = .ok (.iconst 0, 1) := dk_3 (dk_at dksX6_takesBack_0 0 rfl rfl)
theorem dX6_takesBack_1 : decode cX6_takesBack 1 = .ok (.istore_n 2, 1) := dk_61 (dk_at dksX6_takesBack_0 1 rfl rfl)
theorem dX6_takesBack_2 : decode cX6_takesBack 2 = .ok (.iload_n 2, 1) := dk_28 (dk_at dksX6_takesBack_0 2 rfl rfl)
theorem dX6_takesBack_3 : decode cX6_takesBack 3 = .ok (.sipush 176, 3) := dk_17 0 176 (dk_at dksX6_takesBack_0 3 rfl rfl)
theorem dX6_takesBack_6 : decode cX6_takesBack 6 = .ok (.if_icmp .ge 21, 3) := dk_162 0 21 (dk_at dksX6_takesBack_0 6 rfl rfl)
theorem dX6_takesBack_9 : decode cX6_takesBack 9 = .ok (.aload_n 0, 1) := dk_42 (dk_at dksX6_takesBack_0 9 rfl rfl)
theorem dX6_takesBack_10 : decode cX6_takesBack 10 = .ok (.getfield 7, 3) := dk_180 0 7 (dk_at dksX6_takesBack_0 10 rfl rfl)
theorem dX6_takesBack_13 : decode cX6_takesBack 13 = .ok (.iload_n 2, 1) := dk_28 (dk_at dksX6_takesBack_0 13 rfl rfl)
theorem dX6_takesBack_14 : decode cX6_takesBack 14 = .ok (.aload_n 0, 1) := dk_42 (dk_at dksX6_takesBack_0 14 rfl rfl)
theorem dX6_takesBack_15 : decode cX6_takesBack 15 = .ok (.getfield 16, 3) := dk_180 0 16 (dk_at dksX6_takesBack_0 15 rfl rfl)
theorem dX6_takesBack_18 : decode cX6_takesBack 18 = .ok (.iload_n 2, 1) := dk_28 (dk_at dksX6_takesBack_0 18 rfl rfl)
theorem dX6_takesBack_19 : decode cX6_takesBack 19 = .ok (.iaload, 1) := dk_46 (dk_at dksX6_takesBack_0 19 rfl rfl)
theorem dX6_takesBack_20 : decode cX6_takesBack 20 = .ok (.iastore, 1) := dk_79 (dk_at dksX6_takesBack_0 20 rfl rfl)
theorem dX6_takesBack_21 : decode cX6_takesBack 21 = .ok (.iinc 2 1, 3) := dk_132 2 1 (dk_at dksX6_takesBack_0 21 rfl rfl)
theorem dX6_takesBack_24 : decode cX6_takesBack 24 = .ok (.goto (-22), 3) := dk_167 255 234 (dk_at dksX6_takesBack_1 0 rfl rfl)
theorem dX6_takesBack_27 : decode cX6_takesBack 27 = .ok (.iload_n 1, 1) := dk_27 (dk_at dksX6_takesBack_1 3 rfl rfl)
theorem dX6_takesBack_28 : decode cX6_takesBack 28 = .ok (.ireturn, 1) := dk_172 (dk_at dksX6_takesBack_1 4 rfl rfl)
abbrev cX6_count : ByteArray := prog_30_method_104_code
def yX6_count : MethodName := ⟨RX6, "count", "(I)I"⟩
def dkwX6_count_6 : List UInt8 := [18, 67, 182, 0, 68, 172]
abbrev dktX6_count_6 : List UInt8 := dkwX6_count_6 ++ []
def dkwX6_count_5 : List UInt8 := [180, 0, 7, 17, 0, 178, 46, 172, 42, 180, 1, 9, 172, 42, 180, 0, 7, 17, 0, 176, 46, 172, 42]
abbrev dktX6_count_5 : List UInt8 := dkwX6_count_5 ++ dktX6_count_6
def dkwX6_count_4 : List UInt8 := [17, 0, 136, 46, 172, 42, 16, 72, 16, 64, 182, 1, 68, 172, 42, 180, 0, 7, 17, 0, 177, 46, 172, 42]
abbrev dktX6_count_4 : List UInt8 := dkwX6_count_4 ++ dktX6_count_5
def dkwX6_count_3 : List UInt8 := [17, 0, 138, 46, 172, 42, 182, 0, 217, 172, 42, 3, 16, 8, 182, 1, 68, 172, 42, 180, 0, 7]
abbrev dktX6_count_3 : List UInt8 := dkwX6_count_3 ++ dktX6_count_4
def dkwX6_count_2 : List UInt8 := [42, 180, 0, 7, 17, 0, 139, 46, 172, 42, 180, 0, 7, 17, 0, 137, 46, 172, 42, 180, 0, 7]
abbrev dktX6_count_2 : List UInt8 := dkwX6_count_2 ++ dktX6_count_3
def dkwX6_count_1 : List UInt8 := [170, 0, 0, 0, 0, 0, 149, 0, 0, 0, 0, 0, 0, 0, 10, 0, 0, 0, 59, 0, 0, 0, 68, 0, 0, 0, 77, 0, 0, 0, 86, 0, 0, 0, 91, 0, 0, 0, 99, 0, 0, 0, 108, 0, 0, 0, 117, 0, 0, 0, 126, 0, 0, 0, 135, 0, 0, 0, 140]
abbrev dktX6_count_1 : List UInt8 := dkwX6_count_1 ++ dktX6_count_2
def dkwX6_count_0 : List UInt8 := [27]
abbrev dktX6_count_0 : List UInt8 := dkwX6_count_0 ++ dktX6_count_1
theorem dksX6_count_0 : cX6_count.data.toList.drop 0 = dktX6_count_0 := by decide +kernel
theorem dksX6_count_1 : cX6_count.data.toList.drop 1 = dktX6_count_1 := dk_seg dksX6_count_0 1 rfl rfl
theorem dksX6_count_2 : cX6_count.data.toList.drop 60 = dktX6_count_2 := dk_seg dksX6_count_1 59 rfl rfl
theorem dksX6_count_3 : cX6_count.data.toList.drop 82 = dktX6_count_3 := dk_seg dksX6_count_2 22 rfl rfl
theorem dksX6_count_4 : cX6_count.data.toList.drop 104 = dktX6_count_4 := dk_seg dksX6_count_3 22 rfl rfl
theorem dksX6_count_5 : cX6_count.data.toList.drop 128 = dktX6_count_5 := dk_seg dksX6_count_4 24 rfl rfl
theorem dksX6_count_6 : cX6_count.data.toList.drop 151 = dktX6_count_6 := dk_seg dksX6_count_5 23 rfl rfl
theorem dX6_count_0 : decode cX6_count 0 = .ok (.iload_n 1, 1) := dk_27 (dk_at dksX6_count_0 0 rfl rfl)
theorem dX6_count_1 : decode cX6_count 1 = .ok (.tableswitch 149 0 10 #[59, 68, 77, 86, 91, 99, 108, 117, 126, 135, 140], 59) := by decide +kernel
theorem dX6_count_60 : decode cX6_count 60 = .ok (.aload_n 0, 1) := dk_42 (dk_at dksX6_count_2 0 rfl rfl)
theorem dX6_count_61 : decode cX6_count 61 = .ok (.getfield 7, 3) := dk_180 0 7 (dk_at dksX6_count_2 1 rfl rfl)
theorem dX6_count_64 : decode cX6_count 64 = .ok (.sipush 139, 3) := dk_17 0 139 (dk_at dksX6_count_2 4 rfl rfl)
theorem dX6_count_67 : decode cX6_count 67 = .ok (.iaload, 1) := dk_46 (dk_at dksX6_count_2 7 rfl rfl)
theorem dX6_count_68 : decode cX6_count 68 = .ok (.ireturn, 1) := dk_172 (dk_at dksX6_count_2 8 rfl rfl)
theorem dX6_count_69 : decode cX6_count 69 = .ok (.aload_n 0, 1) := dk_42 (dk_at dksX6_count_2 9 rfl rfl)
theorem dX6_count_70 : decode cX6_count 70 = .ok (.getfield 7, 3) := dk_180 0 7 (dk_at dksX6_count_2 10 rfl rfl)
theorem dX6_count_73 : decode cX6_count 73 = .ok (.sipush 137, 3) := dk_17 0 137 (dk_at dksX6_count_2 13 rfl rfl)
theorem dX6_count_76 : decode cX6_count 76 = .ok (.iaload, 1) := dk_46 (dk_at dksX6_count_2 16 rfl rfl)
theorem dX6_count_77 : decode cX6_count 77 = .ok (.ireturn, 1) := dk_172 (dk_at dksX6_count_2 17 rfl rfl)
theorem dX6_count_78 : decode cX6_count 78 = .ok (.aload_n 0, 1) := dk_42 (dk_at dksX6_count_2 18 rfl rfl)
theorem dX6_count_79 : decode cX6_count 79 = .ok (.getfield 7, 3) := dk_180 0 7 (dk_at dksX6_count_2 19 rfl rfl)
theorem dX6_count_82 : decode cX6_count 82 = .ok (.sipush 138, 3) := dk_17 0 138 (dk_at dksX6_count_3 0 rfl rfl)
theorem dX6_count_85 : decode cX6_count 85 = .ok (.iaload, 1) := dk_46 (dk_at dksX6_count_3 3 rfl rfl)
theorem dX6_count_86 : decode cX6_count 86 = .ok (.ireturn, 1) := dk_172 (dk_at dksX6_count_3 4 rfl rfl)
theorem dX6_count_87 : decode cX6_count 87 = .ok (.aload_n 0, 1) := dk_42 (dk_at dksX6_count_3 5 rfl rfl)
theorem dX6_count_88 : decode cX6_count 88 = .ok (.invokevirtual 217, 3) := dk_182 0 217 (dk_at dksX6_count_3 6 rfl rfl)
theorem dX6_count_91 : decode cX6_count 91 = .ok (.ireturn, 1) := dk_172 (dk_at dksX6_count_3 9 rfl rfl)
theorem dX6_count_92 : decode cX6_count 92 = .ok (.aload_n 0, 1) := dk_42 (dk_at dksX6_count_3 10 rfl rfl)
theorem dX6_count_93 : decode cX6_count 93 = .ok (.iconst 0, 1) := dk_3 (dk_at dksX6_count_3 11 rfl rfl)
theorem dX6_count_94 : decode cX6_count 94 = .ok (.bipush 8, 2) := dk_16 8 (dk_at dksX6_count_3 12 rfl rfl)
theorem dX6_count_96 : decode cX6_count 96 = .ok (.invokevirtual 324, 3) := dk_182 1 68 (dk_at dksX6_count_3 14 rfl rfl)
theorem dX6_count_99 : decode cX6_count 99 = .ok (.ireturn, 1) := dk_172 (dk_at dksX6_count_3 17 rfl rfl)
theorem dX6_count_100 : decode cX6_count 100 = .ok (.aload_n 0, 1) := dk_42 (dk_at dksX6_count_3 18 rfl rfl)
theorem dX6_count_101 : decode cX6_count 101 = .ok (.getfield 7, 3) := dk_180 0 7 (dk_at dksX6_count_3 19 rfl rfl)
theorem dX6_count_104 : decode cX6_count 104 = .ok (.sipush 136, 3) := dk_17 0 136 (dk_at dksX6_count_4 0 rfl rfl)
theorem dX6_count_107 : decode cX6_count 107 = .ok (.iaload, 1) := dk_46 (dk_at dksX6_count_4 3 rfl rfl)
theorem dX6_count_108 : decode cX6_count 108 = .ok (.ireturn, 1) := dk_172 (dk_at dksX6_count_4 4 rfl rfl)
theorem dX6_count_109 : decode cX6_count 109 = .ok (.aload_n 0, 1) := dk_42 (dk_at dksX6_count_4 5 rfl rfl)
theorem dX6_count_110 : decode cX6_count 110 = .ok (.bipush 72, 2) := dk_16 72 (dk_at dksX6_count_4 6 rfl rfl)
theorem dX6_count_112 : decode cX6_count 112 = .ok (.bipush 64, 2) := dk_16 64 (dk_at dksX6_count_4 8 rfl rfl)
theorem dX6_count_114 : decode cX6_count 114 = .ok (.invokevirtual 324, 3) := dk_182 1 68 (dk_at dksX6_count_4 10 rfl rfl)
theorem dX6_count_117 : decode cX6_count 117 = .ok (.ireturn, 1) := dk_172 (dk_at dksX6_count_4 13 rfl rfl)
theorem dX6_count_118 : decode cX6_count 118 = .ok (.aload_n 0, 1) := dk_42 (dk_at dksX6_count_4 14 rfl rfl)
theorem dX6_count_119 : decode cX6_count 119 = .ok (.getfield 7, 3) := dk_180 0 7 (dk_at dksX6_count_4 15 rfl rfl)
theorem dX6_count_122 : decode cX6_count 122 = .ok (.sipush 177, 3) := dk_17 0 177 (dk_at dksX6_count_4 18 rfl rfl)
theorem dX6_count_125 : decode cX6_count 125 = .ok (.iaload, 1) := dk_46 (dk_at dksX6_count_4 21 rfl rfl)
theorem dX6_count_126 : decode cX6_count 126 = .ok (.ireturn, 1) := dk_172 (dk_at dksX6_count_4 22 rfl rfl)
theorem dX6_count_127 : decode cX6_count 127 = .ok (.aload_n 0, 1) := dk_42 (dk_at dksX6_count_4 23 rfl rfl)
theorem dX6_count_128 : decode cX6_count 128 = .ok (.getfield 7, 3) := dk_180 0 7 (dk_at dksX6_count_5 0 rfl rfl)
theorem dX6_count_131 : decode cX6_count 131 = .ok (.sipush 178, 3) := dk_17 0 178 (dk_at dksX6_count_5 3 rfl rfl)
theorem dX6_count_134 : decode cX6_count 134 = .ok (.iaload, 1) := dk_46 (dk_at dksX6_count_5 6 rfl rfl)
theorem dX6_count_135 : decode cX6_count 135 = .ok (.ireturn, 1) := dk_172 (dk_at dksX6_count_5 7 rfl rfl)
theorem dX6_count_136 : decode cX6_count 136 = .ok (.aload_n 0, 1) := dk_42 (dk_at dksX6_count_5 8 rfl rfl)
theorem dX6_count_137 : decode cX6_count 137 = .ok (.getfield 265, 3) := dk_180 1 9 (dk_at dksX6_count_5 9 rfl rfl)
theorem dX6_count_140 : decode cX6_count 140 = .ok (.ireturn, 1) := dk_172 (dk_at dksX6_count_5 12 rfl rfl)
theorem dX6_count_141 : decode cX6_count 141 = .ok (.aload_n 0, 1) := dk_42 (dk_at dksX6_count_5 13 rfl rfl)
theorem dX6_count_142 : decode cX6_count 142 = .ok (.getfield 7, 3) := dk_180 0 7 (dk_at dksX6_count_5 14 rfl rfl)
theorem dX6_count_145 : decode cX6_count 145 = .ok (.sipush 176, 3) := dk_17 0 176 (dk_at dksX6_count_5 17 rfl rfl)
theorem dX6_count_148 : decode cX6_count 148 = .ok (.iaload, 1) := dk_46 (dk_at dksX6_count_5 20 rfl rfl)
theorem dX6_count_149 : decode cX6_count 149 = .ok (.ireturn, 1) := dk_172 (dk_at dksX6_count_5 21 rfl rfl)
theorem dX6_count_150 : decode cX6_count 150 = .ok (.aload_n 0, 1) := dk_42 (dk_at dksX6_count_5 22 rfl rfl)
theorem dX6_count_151 : decode cX6_count 151 = .ok (.ldc 67, 2) := dk_18 67 (dk_at dksX6_count_6 0 rfl rfl)
theorem dX6_count_153 : decode cX6_count 153 = .ok (.invokevirtual 68, 3) := dk_182 0 68 (dk_at dksX6_count_6 2 rfl rfl)
theorem dX6_count_156 : decode cX6_count 156 = .ok (.ireturn, 1) := dk_172 (dk_at dksX6_count_6 5 rfl rfl)
abbrev cX6_sum_2 : ByteArray := prog_30_method_103_code
def yX6_sum_2 : MethodName := ⟨RX6, "sum", "(II)I"⟩
def dkwX6_sum_2_1 : List UInt8 := [132, 4, 1, 167, 255, 235, 29, 172]
abbrev dktX6_sum_2_1 : List UInt8 := dkwX6_sum_2_1 ++ []
def dkwX6_sum_2_0 : List UInt8 := [3, 62, 3, 54, 4, 21, 4, 28, 162, 0, 21, 29, 42, 180, 0, 7, 27, 21, 4, 96, 46, 96, 62]
abbrev dktX6_sum_2_0 : List UInt8 := dkwX6_sum_2_0 ++ dktX6_sum_2_1
theorem dksX6_sum_2_0 : cX6_sum_2.data.toList.drop 0 = dktX6_sum_2_0 := by decide +kernel
theorem dksX6_sum_2_1 : cX6_sum_2.data.toList.drop 23 = dktX6_sum_2_1 := dk_seg dksX6_sum_2_0 23 rfl rfl
theorem dX6_sum_2_0 : decode cX6_sum_2 0 = .ok (.iconst 0, 1) := dk_3 (dk_at dksX6_sum_2_0 0 rfl rfl)
theorem dX6_sum_2_1 : decode cX6_sum_2 1 = .ok (.istore_n 3, 1) := dk_62 (dk_at dksX6_sum_2_0 1 rfl rfl)
theorem dX6_sum_2_2 : decode cX6_sum_2 2 = .ok (.iconst 0, 1) := dk_3 (dk_at dksX6_sum_2_0 2 rfl rfl)
theorem dX6_sum_2_3 : decode cX6_sum_2 3 = .ok (.istore 4, 2) := dk_54 4 (dk_at dksX6_sum_2_0 3 rfl rfl)
theorem dX6_sum_2_5 : decode cX6_sum_2 5 = .ok (.iload 4, 2) := dk_21 4 (dk_at dksX6_sum_2_0 5 rfl rfl)
theorem dX6_sum_2_7 : decode cX6_sum_2 7 = .ok (.iload_n 2, 1) := dk_28 (dk_at dksX6_sum_2_0 7 rfl rfl)
theorem dX6_sum_2_8 : decode cX6_sum_2 8 = .ok (.if_icmp .ge 21, 3) := dk_162 0 21 (dk_at dksX6_sum_2_0 8 rfl rfl)
theorem dX6_sum_2_11 : decode cX6_sum_2 11 = .ok (.iload_n 3, 1) := dk_29 (dk_at dksX6_sum_2_0 11 rfl rfl)
theorem dX6_sum_2_12 : decode cX6_sum_2 12 = .ok (.aload_n 0, 1) := dk_42 (dk_at dksX6_sum_2_0 12 rfl rfl)
theorem dX6_sum_2_13 : decode cX6_sum_2 13 = .ok (.getfield 7, 3) := dk_180 0 7 (dk_at dksX6_sum_2_0 13 rfl rfl)
theorem dX6_sum_2_16 : decode cX6_sum_2 16 = .ok (.iload_n 1, 1) := dk_27 (dk_at dksX6_sum_2_0 16 rfl rfl)
theorem dX6_sum_2_17 : decode cX6_sum_2 17 = .ok (.iload 4, 2) := dk_21 4 (dk_at dksX6_sum_2_0 17 rfl rfl)
theorem dX6_sum_2_19 : decode cX6_sum_2 19 = .ok (.iadd, 1) := dk_96 (dk_at dksX6_sum_2_0 19 rfl rfl)
theorem dX6_sum_2_20 : decode cX6_sum_2 20 = .ok (.iaload, 1) := dk_46 (dk_at dksX6_sum_2_0 20 rfl rfl)
theorem dX6_sum_2_21 : decode cX6_sum_2 21 = .ok (.iadd, 1) := dk_96 (dk_at dksX6_sum_2_0 21 rfl rfl)
theorem dX6_sum_2_22 : decode cX6_sum_2 22 = .ok (.istore_n 3, 1) := dk_62 (dk_at dksX6_sum_2_0 22 rfl rfl)
theorem dX6_sum_2_23 : decode cX6_sum_2 23 = .ok (.iinc 4 1, 3) := dk_132 4 1 (dk_at dksX6_sum_2_1 0 rfl rfl)
theorem dX6_sum_2_26 : decode cX6_sum_2 26 = .ok (.goto (-21), 3) := dk_167 255 235 (dk_at dksX6_sum_2_1 3 rfl rfl)
theorem dX6_sum_2_29 : decode cX6_sum_2 29 = .ok (.iload_n 3, 1) := dk_29 (dk_at dksX6_sum_2_1 6 rfl rfl)
theorem dX6_sum_2_30 : decode cX6_sum_2 30 = .ok (.ireturn, 1) := dk_172 (dk_at dksX6_sum_2_1 7 rfl rfl)
abbrev cX6_told : ByteArray := prog_30_method_105_code
def yX6_told : MethodName := ⟨RX6, "told", "(I)I"⟩
def dkwX6_told_1 : List UInt8 := [182, 0, 68, 172]
abbrev dktX6_told_1 : List UInt8 := dkwX6_told_1 ++ []
def dkwX6_told_0 : List UInt8 := [27, 133, 10, 20, 1, 70, 184, 0, 46, 153, 0, 12, 42, 180, 0, 19, 27, 46, 167, 0, 9, 42, 18, 67]
abbrev dktX6_told_0 : List UInt8 := dkwX6_told_0 ++ dktX6_told_1
theorem dksX6_told_0 : cX6_told.data.toList.drop 0 = dktX6_told_0 := by decide +kernel
theorem dksX6_told_1 : cX6_told.data.toList.drop 24 = dktX6_told_1 := dk_seg dksX6_told_0 24 rfl rfl
theorem dX6_told_0 : decode cX6_told 0 = .ok (.iload_n 1, 1) := dk_27 (dk_at dksX6_told_0 0 rfl rfl)
theorem dX6_told_1 : decode cX6_told 1 = .ok (.i2l, 1) := dk_133 (dk_at dksX6_told_0 1 rfl rfl)
theorem dX6_told_2 : decode cX6_told 2 = .ok (.lconst 1, 1) := dk_10 (dk_at dksX6_told_0 2 rfl rfl)
theorem dX6_told_3 : decode cX6_told 3 = .ok (.ldc2_w 326, 3) := dk_20 1 70 (dk_at dksX6_told_0 3 rfl rfl)
theorem dX6_told_6 : decode cX6_told 6 = .ok (.invokestatic 46, 3) := dk_184 0 46 (dk_at dksX6_told_0 6 rfl rfl)
theorem dX6_told_9 : decode cX6_told 9 = .ok (.ifCond .eq 12, 3) := dk_153 0 12 (dk_at dksX6_told_0 9 rfl rfl)
theorem dX6_told_12 : decode cX6_told 12 = .ok (.aload_n 0, 1) := dk_42 (dk_at dksX6_told_0 12 rfl rfl)
theorem dX6_told_13 : decode cX6_told 13 = .ok (.getfield 19, 3) := dk_180 0 19 (dk_at dksX6_told_0 13 rfl rfl)
theorem dX6_told_16 : decode cX6_told 16 = .ok (.iload_n 1, 1) := dk_27 (dk_at dksX6_told_0 16 rfl rfl)
theorem dX6_told_17 : decode cX6_told 17 = .ok (.iaload, 1) := dk_46 (dk_at dksX6_told_0 17 rfl rfl)
theorem dX6_told_18 : decode cX6_told 18 = .ok (.goto 9, 3) := dk_167 0 9 (dk_at dksX6_told_0 18 rfl rfl)
theorem dX6_told_21 : decode cX6_told 21 = .ok (.aload_n 0, 1) := dk_42 (dk_at dksX6_told_0 21 rfl rfl)
theorem dX6_told_22 : decode cX6_told 22 = .ok (.ldc 67, 2) := dk_18 67 (dk_at dksX6_told_0 22 rfl rfl)
theorem dX6_told_24 : decode cX6_told 24 = .ok (.invokevirtual 68, 3) := dk_182 0 68 (dk_at dksX6_told_1 0 rfl rfl)
theorem dX6_told_27 : decode cX6_told 27 = .ok (.ireturn, 1) := dk_172 (dk_at dksX6_told_1 3 rfl rfl)
theorem q89 : (Jvm.Cond.initialized "WellNamesModel") ∈ lw_all := lw_g (lw_at lw_m1 10 rfl) rfl
theorem q1425 : (Jvm.Cond.instantiable "WellNamesModel" (25 : Nat)) ∈ lw_all := lw_g (lw_at lw_m6 146 rfl) rfl
theorem q1427 : (Jvm.Cond.instanceMethod ({ cls := "WellNamesModel", name := "<init>", desc := "()V" } : Jvm.MethodName)) ∈ lw_all := lw_g (lw_at lw_m6 148 rfl) rfl
theorem q1428 : (Jvm.Cond.code ({ cls := "WellNamesModel", name := "<init>", desc := "()V" } : Jvm.MethodName) prog_30_method_1_code (2 : Nat) (Option.none : Option Jvm.ClassFile.FieldType)) ∈ lw_all := lw_g (lw_at lw_m6 149 rfl) rfl
theorem q1429 : (Jvm.Cond.methodLink "WellNamesModel" (1 : Nat) ({ cls := "java/lang/Object", name := "<init>", desc := "()V" } : Jvm.MethodName)) ∈ lw_all := lw_g (lw_at lw_m6 150 rfl) rfl
theorem q1430 : (Jvm.Cond.fieldLink "WellNamesModel" (7 : Nat) "WellNamesModel" "s" "[I") ∈ lw_all := lw_g (lw_at lw_m6 151 rfl) rfl
theorem q1431 : (Jvm.Cond.fieldLink "WellNamesModel" (13 : Nat) "WellNamesModel" "kept" "[I") ∈ lw_all := lw_g (lw_at lw_m6 152 rfl) rfl
theorem q1432 : (Jvm.Cond.fieldLink "WellNamesModel" (16 : Nat) "WellNamesModel" "aside" "[I") ∈ lw_all := lw_g (lw_at lw_m6 153 rfl) rfl
theorem q1433 : (Jvm.Cond.fieldLink "WellNamesModel" (19 : Nat) "WellNamesModel" "errors" "[I") ∈ lw_all := lw_g (lw_at lw_m6 154 rfl) rfl
theorem q1434 : (Jvm.Cond.fieldLink "WellNamesModel" (315 : Nat) "WellNamesModel" "images" "I") ∈ lw_all := lw_g (lw_at lw_m6 155 rfl) rfl
theorem q1435 : (Jvm.Cond.fieldLink "WellNamesModel" (132 : Nat) "WellNamesModel" "first" "I") ∈ lw_all := lw_g (lw_at lw_m6 156 rfl) rfl
theorem q1436 : (Jvm.Cond.fieldLink "WellNamesModel" (125 : Nat) "WellNamesModel" "size" "I") ∈ lw_all := lw_g (lw_at lw_m6 157 rfl) rfl
theorem q1437 : (Jvm.Cond.fieldLink "WellNamesModel" (121 : Nat) "WellNamesModel" "at" "I") ∈ lw_all := lw_g (lw_at lw_m6 158 rfl) rfl
theorem q1438 : (Jvm.Cond.fieldLink "WellNamesModel" (161 : Nat) "WellNamesModel" "open" "I") ∈ lw_all := lw_g (lw_at lw_m6 159 rfl) rfl
theorem q1439 : (Jvm.Cond.fieldLink "WellNamesModel" (139 : Nat) "WellNamesModel" "use0" "I") ∈ lw_all := lw_g (lw_at lw_m6 160 rfl) rfl
theorem q1440 : (Jvm.Cond.fieldLink "WellNamesModel" (152 : Nat) "WellNamesModel" "one0" "I") ∈ lw_all := lw_g (lw_at lw_m6 161 rfl) rfl
theorem q1441 : (Jvm.Cond.fieldLink "WellNamesModel" (155 : Nat) "WellNamesModel" "two0" "I") ∈ lw_all := lw_g (lw_at lw_m6 162 rfl) rfl
theorem q1442 : (Jvm.Cond.fieldLink "WellNamesModel" (158 : Nat) "WellNamesModel" "three0" "I") ∈ lw_all := lw_g (lw_at lw_m6 163 rfl) rfl
theorem q1443 : (Jvm.Cond.fieldLink "WellNamesModel" (128 : Nat) "WellNamesModel" "isWrong" "Z") ∈ lw_all := lw_g (lw_at lw_m6 164 rfl) rfl
theorem q1444 : (Jvm.Cond.fieldLink "WellNamesModel" (22 : Nat) "WellNamesModel" "least" "[I") ∈ lw_all := lw_g (lw_at lw_m6 165 rfl) rfl
theorem q1445 : (Jvm.Cond.fieldLink "WellNamesModel" (25 : Nat) "WellNamesModel" "road" "[I") ∈ lw_all := lw_g (lw_at lw_m6 166 rfl) rfl
theorem q1446 : (Jvm.Cond.fieldLink "WellNamesModel" (28 : Nat) "WellNamesModel" "trace" "[I") ∈ lw_all := lw_g (lw_at lw_m6 167 rfl) rfl
theorem q1447 : (Jvm.Cond.fieldLink "WellNamesModel" (265 : Nat) "WellNamesModel" "bodies" "I") ∈ lw_all := lw_g (lw_at lw_m6 168 rfl) rfl
theorem q1448 : (Jvm.Cond.fieldLink "WellNamesModel" (274 : Nat) "WellNamesModel" "kind0" "I") ∈ lw_all := lw_g (lw_at lw_m6 169 rfl) rfl
theorem q1449 : (Jvm.Cond.fieldLink "WellNamesModel" (271 : Nat) "WellNamesModel" "number0" "I") ∈ lw_all := lw_g (lw_at lw_m6 170 rfl) rfl
theorem q1450 : (Jvm.Cond.fieldLink "WellNamesModel" (280 : Nat) "WellNamesModel" "m0" "I") ∈ lw_all := lw_g (lw_at lw_m6 171 rfl) rfl
theorem q1451 : (Jvm.Cond.fieldLink "WellNamesModel" (31 : Nat) "WellNamesModel" "bitsOf" "[I") ∈ lw_all := lw_g (lw_at lw_m6 172 rfl) rfl
theorem q1452 : (Jvm.Cond.fieldLink "WellNamesModel" (34 : Nat) "WellNamesModel" "sizeOf" "[I") ∈ lw_all := lw_g (lw_at lw_m6 173 rfl) rfl
theorem q1453 : (Jvm.Cond.fieldLink "WellNamesModel" (37 : Nat) "WellNamesModel" "numbers" "[I") ∈ lw_all := lw_g (lw_at lw_m6 174 rfl) rfl
theorem q1454 : (Jvm.Cond.fieldLink "WellNamesModel" (40 : Nat) "WellNamesModel" "moved" "[I") ∈ lw_all := lw_g (lw_at lw_m6 175 rfl) rfl
theorem q1455 : (Jvm.Cond.laysFinal "WellNamesModel" "WellNamesModel" "s" "[I") ∈ lw_all := lw_g (lw_at lw_m6 176 rfl) rfl
theorem q1456 : (Jvm.Cond.soleField "WellNamesModel" "s") ∈ lw_all := lw_g (lw_at lw_m6 177 rfl) rfl
theorem q1457 : (Jvm.Cond.laysFinal "WellNamesModel" "WellNamesModel" "kept" "[I") ∈ lw_all := lw_g (lw_at lw_m6 178 rfl) rfl
theorem q1458 : (Jvm.Cond.soleField "WellNamesModel" "kept") ∈ lw_all := lw_g (lw_at lw_m6 179 rfl) rfl
theorem q1459 : (Jvm.Cond.laysFinal "WellNamesModel" "WellNamesModel" "aside" "[I") ∈ lw_all := lw_g (lw_at lw_m6 180 rfl) rfl
theorem q1460 : (Jvm.Cond.soleField "WellNamesModel" "aside") ∈ lw_all := lw_g (lw_at lw_m6 181 rfl) rfl
theorem q1461 : (Jvm.Cond.laysFinal "WellNamesModel" "WellNamesModel" "errors" "[I") ∈ lw_all := lw_g (lw_at lw_m6 182 rfl) rfl
theorem q1462 : (Jvm.Cond.soleField "WellNamesModel" "errors") ∈ lw_all := lw_g (lw_at lw_m6 183 rfl) rfl
theorem q1463 : (Jvm.Cond.lays "WellNamesModel" "WellNamesModel" "images" "I") ∈ lw_all := lw_g (lw_at lw_m6 184 rfl) rfl
theorem q1464 : (Jvm.Cond.soleField "WellNamesModel" "images") ∈ lw_all := lw_g (lw_at lw_m6 185 rfl) rfl
theorem q1465 : (Jvm.Cond.lays "WellNamesModel" "WellNamesModel" "first" "I") ∈ lw_all := lw_g (lw_at lw_m6 186 rfl) rfl
theorem q1466 : (Jvm.Cond.soleField "WellNamesModel" "first") ∈ lw_all := lw_g (lw_at lw_m6 187 rfl) rfl
theorem q1467 : (Jvm.Cond.lays "WellNamesModel" "WellNamesModel" "size" "I") ∈ lw_all := lw_g (lw_at lw_m6 188 rfl) rfl
theorem q1468 : (Jvm.Cond.soleField "WellNamesModel" "size") ∈ lw_all := lw_g (lw_at lw_m6 189 rfl) rfl
theorem q1469 : (Jvm.Cond.lays "WellNamesModel" "WellNamesModel" "at" "I") ∈ lw_all := lw_g (lw_at lw_m6 190 rfl) rfl
theorem q1470 : (Jvm.Cond.soleField "WellNamesModel" "at") ∈ lw_all := lw_g (lw_at lw_m6 191 rfl) rfl
theorem q1471 : (Jvm.Cond.lays "WellNamesModel" "WellNamesModel" "open" "I") ∈ lw_all := lw_g (lw_at lw_m6 192 rfl) rfl
theorem q1472 : (Jvm.Cond.soleField "WellNamesModel" "open") ∈ lw_all := lw_g (lw_at lw_m6 193 rfl) rfl
theorem q1473 : (Jvm.Cond.lays "WellNamesModel" "WellNamesModel" "use0" "I") ∈ lw_all := lw_g (lw_at lw_m6 194 rfl) rfl
theorem q1474 : (Jvm.Cond.soleField "WellNamesModel" "use0") ∈ lw_all := lw_g (lw_at lw_m6 195 rfl) rfl
theorem q1475 : (Jvm.Cond.lays "WellNamesModel" "WellNamesModel" "one0" "I") ∈ lw_all := lw_g (lw_at lw_m6 196 rfl) rfl
theorem q1476 : (Jvm.Cond.soleField "WellNamesModel" "one0") ∈ lw_all := lw_g (lw_at lw_m6 197 rfl) rfl
theorem q1477 : (Jvm.Cond.lays "WellNamesModel" "WellNamesModel" "two0" "I") ∈ lw_all := lw_g (lw_at lw_m6 198 rfl) rfl
theorem q1478 : (Jvm.Cond.soleField "WellNamesModel" "two0") ∈ lw_all := lw_g (lw_at lw_m6 199 rfl) rfl
theorem q1479 : (Jvm.Cond.lays "WellNamesModel" "WellNamesModel" "three0" "I") ∈ lw_all := lw_g (lw_at lw_m6 200 rfl) rfl
theorem q1480 : (Jvm.Cond.soleField "WellNamesModel" "three0") ∈ lw_all := lw_g (lw_at lw_m6 201 rfl) rfl
theorem q1481 : (Jvm.Cond.lays "WellNamesModel" "WellNamesModel" "isWrong" "Z") ∈ lw_all := lw_g (lw_at lw_m6 202 rfl) rfl
theorem q1482 : (Jvm.Cond.soleField "WellNamesModel" "isWrong") ∈ lw_all := lw_g (lw_at lw_m6 203 rfl) rfl
theorem q1483 : (Jvm.Cond.laysFinal "WellNamesModel" "WellNamesModel" "least" "[I") ∈ lw_all := lw_g (lw_at lw_m6 204 rfl) rfl
theorem q1484 : (Jvm.Cond.soleField "WellNamesModel" "least") ∈ lw_all := lw_g (lw_at lw_m6 205 rfl) rfl
theorem q1485 : (Jvm.Cond.laysFinal "WellNamesModel" "WellNamesModel" "road" "[I") ∈ lw_all := lw_g (lw_at lw_m6 206 rfl) rfl
theorem q1486 : (Jvm.Cond.soleField "WellNamesModel" "road") ∈ lw_all := lw_g (lw_at lw_m6 207 rfl) rfl
theorem q1487 : (Jvm.Cond.laysFinal "WellNamesModel" "WellNamesModel" "trace" "[I") ∈ lw_all := lw_g (lw_at lw_m6 208 rfl) rfl
theorem q1488 : (Jvm.Cond.soleField "WellNamesModel" "trace") ∈ lw_all := lw_g (lw_at lw_m6 209 rfl) rfl
theorem q1489 : (Jvm.Cond.lays "WellNamesModel" "WellNamesModel" "bodies" "I") ∈ lw_all := lw_g (lw_at lw_m6 210 rfl) rfl
theorem q1490 : (Jvm.Cond.soleField "WellNamesModel" "bodies") ∈ lw_all := lw_g (lw_at lw_m6 211 rfl) rfl
theorem q1491 : (Jvm.Cond.lays "WellNamesModel" "WellNamesModel" "kind0" "I") ∈ lw_all := lw_g (lw_at lw_m6 212 rfl) rfl
theorem q1492 : (Jvm.Cond.soleField "WellNamesModel" "kind0") ∈ lw_all := lw_g (lw_at lw_m6 213 rfl) rfl
theorem q1493 : (Jvm.Cond.lays "WellNamesModel" "WellNamesModel" "number0" "I") ∈ lw_all := lw_g (lw_at lw_m6 214 rfl) rfl
theorem q1494 : (Jvm.Cond.soleField "WellNamesModel" "number0") ∈ lw_all := lw_g (lw_at lw_m6 215 rfl) rfl
theorem q1495 : (Jvm.Cond.lays "WellNamesModel" "WellNamesModel" "m0" "I") ∈ lw_all := lw_g (lw_at lw_m6 216 rfl) rfl
theorem q1496 : (Jvm.Cond.soleField "WellNamesModel" "m0") ∈ lw_all := lw_g (lw_at lw_m6 217 rfl) rfl
theorem q1497 : (Jvm.Cond.laysFinal "WellNamesModel" "WellNamesModel" "bitsOf" "[I") ∈ lw_all := lw_g (lw_at lw_m6 218 rfl) rfl
theorem q1498 : (Jvm.Cond.soleField "WellNamesModel" "bitsOf") ∈ lw_all := lw_g (lw_at lw_m6 219 rfl) rfl
theorem q1499 : (Jvm.Cond.laysFinal "WellNamesModel" "WellNamesModel" "sizeOf" "[I") ∈ lw_all := lw_g (lw_at lw_m6 220 rfl) rfl
theorem q1500 : (Jvm.Cond.soleField "WellNamesModel" "sizeOf") ∈ lw_all := lw_g (lw_at lw_m6 221 rfl) rfl
theorem q1501 : (Jvm.Cond.laysFinal "WellNamesModel" "WellNamesModel" "numbers" "[I") ∈ lw_all := lw_g (lw_at lw_m6 222 rfl) rfl
theorem q1502 : (Jvm.Cond.soleField "WellNamesModel" "numbers") ∈ lw_all := lw_g (lw_at lw_m6 223 rfl) rfl
theorem q1503 : (Jvm.Cond.laysFinal "WellNamesModel" "WellNamesModel" "moved" "[I") ∈ lw_all := lw_g (lw_at lw_m6 224 rfl) rfl
theorem q1504 : (Jvm.Cond.soleField "WellNamesModel" "moved") ∈ lw_all := lw_g (lw_at lw_m6 225 rfl) rfl
theorem q1505 : (Jvm.Cond.superclass "WellNamesModel" "java/lang/Object") ∈ lw_all := lw_g (lw_at lw_m6 226 rfl) rfl
theorem q1507 : (Jvm.Cond.instanceMethod ({ cls := "WellNamesModel", name := "water", desc := "(II)I" } : Jvm.MethodName)) ∈ lw_all := lw_g (lw_at lw_m6 228 rfl) rfl
theorem q1508 : (Jvm.Cond.selects "WellNamesModel" ({ cls := "WellNamesModel", name := "water", desc := "(II)I" } : Jvm.MethodName) ({ cls := "WellNamesModel", name := "water", desc := "(II)I" } : Jvm.MethodName)) ∈ lw_all := lw_g (lw_at lw_m6 229 rfl) rfl
theorem q1509 : (Jvm.Cond.code ({ cls := "WellNamesModel", name := "water", desc := "(II)I" } : Jvm.MethodName) prog_30_method_15_code (3 : Nat) (Option.some Jvm.ClassFile.FieldType.int)) ∈ lw_all := lw_g (lw_at lw_m6 230 rfl) rfl
theorem q1510 : (Jvm.Cond.methodLink "WellNamesModel" (58 : Nat) ({ cls := "WellNamesModel", name := "isWell", desc := "(I)Z" } : Jvm.MethodName)) ∈ lw_all := lw_g (lw_at lw_m6 231 rfl) rfl
theorem q1511 : (Jvm.Cond.static ({ cls := "WellNamesModel", name := "isWell", desc := "(I)Z" } : Jvm.MethodName)) ∈ lw_all := lw_g (lw_at lw_m6 232 rfl) rfl
theorem q1512 : (Jvm.Cond.code ({ cls := "WellNamesModel", name := "isWell", desc := "(I)Z" } : Jvm.MethodName) prog_30_method_7_code (1 : Nat) (Option.some Jvm.ClassFile.FieldType.boolean)) ∈ lw_all := lw_g (lw_at lw_m6 233 rfl) rfl
theorem q1513 : (Jvm.Cond.constantLong "WellNamesModel" (44 : Nat) (7 : Int64)) ∈ lw_all := lw_g (lw_at lw_m6 234 rfl) rfl
theorem q1514 : (Jvm.Cond.methodLink "WellNamesModel" (46 : Nat) ({ cls := "WellNamesModel", name := "in", desc := "(JJJ)Z" } : Jvm.MethodName)) ∈ lw_all := lw_g (lw_at lw_m6 235 rfl) rfl
theorem q1515 : (Jvm.Cond.static ({ cls := "WellNamesModel", name := "in", desc := "(JJJ)Z" } : Jvm.MethodName)) ∈ lw_all := lw_g (lw_at lw_m6 236 rfl) rfl
theorem q1516 : (Jvm.Cond.code ({ cls := "WellNamesModel", name := "in", desc := "(JJJ)Z" } : Jvm.MethodName) prog_30_method_2_code (6 : Nat) (Option.some Jvm.ClassFile.FieldType.boolean)) ∈ lw_all := lw_g (lw_at lw_m6 237 rfl) rfl
theorem q1517 : (Jvm.Cond.constantLong "WellNamesModel" (62 : Nat) (99 : Int64)) ∈ lw_all := lw_g (lw_at lw_m6 238 rfl) rfl
theorem q1518 : (Jvm.Cond.methodLink "WellNamesModel" (64 : Nat) ({ cls := "WellNamesModel", name := "becomes", desc := "(II)I" } : Jvm.MethodName)) ∈ lw_all := lw_g (lw_at lw_m6 239 rfl) rfl
theorem q1519 : (Jvm.Cond.privateMethod ({ cls := "WellNamesModel", name := "becomes", desc := "(II)I" } : Jvm.MethodName)) ∈ lw_tbl := lw_at lw_m7 0 rfl
theorem q1520 : (Jvm.Cond.instanceMethod ({ cls := "WellNamesModel", name := "becomes", desc := "(II)I" } : Jvm.MethodName)) ∈ lw_all := lw_g (lw_at lw_m7 1 rfl) rfl
theorem q1521 : (Jvm.Cond.code ({ cls := "WellNamesModel", name := "becomes", desc := "(II)I" } : Jvm.MethodName) prog_30_method_13_code (4 : Nat) (Option.some Jvm.ClassFile.FieldType.int)) ∈ lw_all := lw_g (lw_at lw_m7 2 rfl) rfl
theorem q1522 : (Jvm.Cond.constant "WellNamesModel" (67 : Nat) (-1000000001 : Int32)) ∈ lw_all := lw_g (lw_at lw_m7 3 rfl) rfl
theorem q1523 : (Jvm.Cond.methodLink "WellNamesModel" (68 : Nat) ({ cls := "WellNamesModel", name := "errs", desc := "(I)I" } : Jvm.MethodName)) ∈ lw_all := lw_g (lw_at lw_m7 4 rfl) rfl
theorem q1524 : (Jvm.Cond.privateMethod ({ cls := "WellNamesModel", name := "errs", desc := "(I)I" } : Jvm.MethodName)) ∈ lw_tbl := lw_at lw_m7 5 rfl
theorem q1525 : (Jvm.Cond.instanceMethod ({ cls := "WellNamesModel", name := "errs", desc := "(I)I" } : Jvm.MethodName)) ∈ lw_all := lw_g (lw_at lw_m7 6 rfl) rfl
theorem q1526 : (Jvm.Cond.code ({ cls := "WellNamesModel", name := "errs", desc := "(I)I" } : Jvm.MethodName) prog_30_method_3_code (2 : Nat) (Option.some Jvm.ClassFile.FieldType.int)) ∈ lw_all := lw_g (lw_at lw_m7 7 rfl) rfl
theorem q1527 : (Jvm.Cond.constant "WellNamesModel" (43 : Nat) (-1000000000 : Int32)) ∈ lw_all := lw_g (lw_at lw_m7 8 rfl) rfl
theorem q1529 : (Jvm.Cond.instanceMethod ({ cls := "WellNamesModel", name := "road", desc := "(III)I" } : Jvm.MethodName)) ∈ lw_all := lw_g (lw_at lw_m7 10 rfl) rfl
theorem q1530 : (Jvm.Cond.selects "WellNamesModel" ({ cls := "WellNamesModel", name := "road", desc := "(III)I" } : Jvm.MethodName) ({ cls := "WellNamesModel", name := "road", desc := "(III)I" } : Jvm.MethodName)) ∈ lw_all := lw_g (lw_at lw_m7 11 rfl) rfl
theorem q1531 : (Jvm.Cond.code ({ cls := "WellNamesModel", name := "road", desc := "(III)I" } : Jvm.MethodName) prog_30_method_16_code (4 : Nat) (Option.some Jvm.ClassFile.FieldType.int)) ∈ lw_all := lw_g (lw_at lw_m7 12 rfl) rfl
theorem q1532 : (Jvm.Cond.constantLong "WellNamesModel" (72 : Nat) (20 : Int64)) ∈ lw_all := lw_g (lw_at lw_m7 13 rfl) rfl
theorem q1534 : (Jvm.Cond.instanceMethod ({ cls := "WellNamesModel", name := "owe", desc := "(III)I" } : Jvm.MethodName)) ∈ lw_all := lw_g (lw_at lw_m7 15 rfl) rfl
theorem q1535 : (Jvm.Cond.selects "WellNamesModel" ({ cls := "WellNamesModel", name := "owe", desc := "(III)I" } : Jvm.MethodName) ({ cls := "WellNamesModel", name := "owe", desc := "(III)I" } : Jvm.MethodName)) ∈ lw_all := lw_g (lw_at lw_m7 16 rfl) rfl
theorem q1536 : (Jvm.Cond.code ({ cls := "WellNamesModel", name := "owe", desc := "(III)I" } : Jvm.MethodName) prog_30_method_17_code (4 : Nat) (Option.some Jvm.ClassFile.FieldType.int)) ∈ lw_all := lw_g (lw_at lw_m7 17 rfl) rfl
theorem q1537 : (Jvm.Cond.constantLong "WellNamesModel" (74 : Nat) (9999 : Int64)) ∈ lw_all := lw_g (lw_at lw_m7 18 rfl) rfl
theorem q1539 : (Jvm.Cond.instanceMethod ({ cls := "WellNamesModel", name := "ofWell", desc := "(II)I" } : Jvm.MethodName)) ∈ lw_all := lw_g (lw_at lw_m7 20 rfl) rfl
theorem q1540 : (Jvm.Cond.selects "WellNamesModel" ({ cls := "WellNamesModel", name := "ofWell", desc := "(II)I" } : Jvm.MethodName) ({ cls := "WellNamesModel", name := "ofWell", desc := "(II)I" } : Jvm.MethodName)) ∈ lw_all := lw_g (lw_at lw_m7 21 rfl) rfl
theorem q1541 : (Jvm.Cond.code ({ cls := "WellNamesModel", name := "ofWell", desc := "(II)I" } : Jvm.MethodName) prog_30_method_21_code (3 : Nat) (Option.some Jvm.ClassFile.FieldType.int)) ∈ lw_all := lw_g (lw_at lw_m7 22 rfl) rfl
theorem q1542 : (Jvm.Cond.constantLong "WellNamesModel" (82 : Nat) (4 : Int64)) ∈ lw_all := lw_g (lw_at lw_m7 23 rfl) rfl
theorem q1543 : (Jvm.Cond.methodLink "WellNamesModel" (84 : Nat) ({ cls := "WellNamesModel", name := "roadsOf", desc := "(I)I" } : Jvm.MethodName)) ∈ lw_all := lw_g (lw_at lw_m7 24 rfl) rfl
theorem q1544 : (Jvm.Cond.privateMethod ({ cls := "WellNamesModel", name := "roadsOf", desc := "(I)I" } : Jvm.MethodName)) ∈ lw_tbl := lw_at lw_m7 25 rfl
theorem q1545 : (Jvm.Cond.instanceMethod ({ cls := "WellNamesModel", name := "roadsOf", desc := "(I)I" } : Jvm.MethodName)) ∈ lw_all := lw_g (lw_at lw_m7 26 rfl) rfl
theorem q1546 : (Jvm.Cond.code ({ cls := "WellNamesModel", name := "roadsOf", desc := "(I)I" } : Jvm.MethodName) prog_30_method_19_code (4 : Nat) (Option.some Jvm.ClassFile.FieldType.int)) ∈ lw_all := lw_g (lw_at lw_m7 27 rfl) rfl
theorem q1547 : (Jvm.Cond.methodLink "WellNamesModel" (76 : Nat) ({ cls := "WellNamesModel", name := "roadOf", desc := "(II)I" } : Jvm.MethodName)) ∈ lw_all := lw_g (lw_at lw_m7 28 rfl) rfl
theorem q1548 : (Jvm.Cond.privateMethod ({ cls := "WellNamesModel", name := "roadOf", desc := "(II)I" } : Jvm.MethodName)) ∈ lw_tbl := lw_at lw_m7 29 rfl
theorem q1549 : (Jvm.Cond.instanceMethod ({ cls := "WellNamesModel", name := "roadOf", desc := "(II)I" } : Jvm.MethodName)) ∈ lw_all := lw_g (lw_at lw_m7 30 rfl) rfl
theorem q1550 : (Jvm.Cond.code ({ cls := "WellNamesModel", name := "roadOf", desc := "(II)I" } : Jvm.MethodName) prog_30_method_14_code (3 : Nat) (Option.some Jvm.ClassFile.FieldType.int)) ∈ lw_all := lw_g (lw_at lw_m7 31 rfl) rfl
theorem q1551 : (Jvm.Cond.methodLink "WellNamesModel" (87 : Nat) ({ cls := "WellNamesModel", name := "those", desc := "(II)I" } : Jvm.MethodName)) ∈ lw_all := lw_g (lw_at lw_m7 32 rfl) rfl
theorem q1552 : (Jvm.Cond.privateMethod ({ cls := "WellNamesModel", name := "those", desc := "(II)I" } : Jvm.MethodName)) ∈ lw_tbl := lw_at lw_m7 33 rfl
theorem q1553 : (Jvm.Cond.instanceMethod ({ cls := "WellNamesModel", name := "those", desc := "(II)I" } : Jvm.MethodName)) ∈ lw_all := lw_g (lw_at lw_m7 34 rfl) rfl
theorem q1554 : (Jvm.Cond.code ({ cls := "WellNamesModel", name := "those", desc := "(II)I" } : Jvm.MethodName) prog_30_method_20_code (5 : Nat) (Option.some Jvm.ClassFile.FieldType.int)) ∈ lw_all := lw_g (lw_at lw_m7 35 rfl) rfl
theorem q1555 : (Jvm.Cond.methodLink "WellNamesModel" (79 : Nat) ({ cls := "WellNamesModel", name := "its", desc := "(II)I" } : Jvm.MethodName)) ∈ lw_all := lw_g (lw_at lw_m7 36 rfl) rfl
theorem q1556 : (Jvm.Cond.privateMethod ({ cls := "WellNamesModel", name := "its", desc := "(II)I" } : Jvm.MethodName)) ∈ lw_tbl := lw_at lw_m7 37 rfl
theorem q1557 : (Jvm.Cond.instanceMethod ({ cls := "WellNamesModel", name := "its", desc := "(II)I" } : Jvm.MethodName)) ∈ lw_all := lw_g (lw_at lw_m7 38 rfl) rfl
theorem q1558 : (Jvm.Cond.code ({ cls := "WellNamesModel", name := "its", desc := "(II)I" } : Jvm.MethodName) prog_30_method_12_code (3 : Nat) (Option.some Jvm.ClassFile.FieldType.int)) ∈ lw_all := lw_g (lw_at lw_m7 39 rfl) rfl
theorem q1559 : (Jvm.Cond.methodLink "WellNamesModel" (54 : Nat) ({ cls := "WellNamesModel", name := "spot", desc := "(II)I" } : Jvm.MethodName)) ∈ lw_all := lw_g (lw_at lw_m7 40 rfl) rfl
theorem q1560 : (Jvm.Cond.static ({ cls := "WellNamesModel", name := "spot", desc := "(II)I" } : Jvm.MethodName)) ∈ lw_all := lw_g (lw_at lw_m7 41 rfl) rfl
theorem q1561 : (Jvm.Cond.code ({ cls := "WellNamesModel", name := "spot", desc := "(II)I" } : Jvm.MethodName) prog_30_method_11_code (2 : Nat) (Option.some Jvm.ClassFile.FieldType.int)) ∈ lw_all := lw_g (lw_at lw_m7 42 rfl) rfl
theorem q1562 : (Jvm.Cond.methodLink "WellNamesModel" (90 : Nat) ({ cls := "WellNamesModel", name := "owes", desc := "(I)I" } : Jvm.MethodName)) ∈ lw_all := lw_g (lw_at lw_m7 43 rfl) rfl
theorem q1563 : (Jvm.Cond.privateMethod ({ cls := "WellNamesModel", name := "owes", desc := "(I)I" } : Jvm.MethodName)) ∈ lw_tbl := lw_at lw_m7 44 rfl
theorem q1564 : (Jvm.Cond.instanceMethod ({ cls := "WellNamesModel", name := "owes", desc := "(I)I" } : Jvm.MethodName)) ∈ lw_all := lw_g (lw_at lw_m7 45 rfl) rfl
theorem q1565 : (Jvm.Cond.code ({ cls := "WellNamesModel", name := "owes", desc := "(I)I" } : Jvm.MethodName) prog_30_method_18_code (4 : Nat) (Option.some Jvm.ClassFile.FieldType.int)) ∈ lw_all := lw_g (lw_at lw_m7 46 rfl) rfl
theorem q1567 : (Jvm.Cond.instanceMethod ({ cls := "WellNamesModel", name := "rain", desc := "(I)I" } : Jvm.MethodName)) ∈ lw_all := lw_g (lw_at lw_m7 48 rfl) rfl
theorem q1568 : (Jvm.Cond.selects "WellNamesModel" ({ cls := "WellNamesModel", name := "rain", desc := "(I)I" } : Jvm.MethodName) ({ cls := "WellNamesModel", name := "rain", desc := "(I)I" } : Jvm.MethodName)) ∈ lw_all := lw_g (lw_at lw_m7 49 rfl) rfl
theorem q1569 : (Jvm.Cond.code ({ cls := "WellNamesModel", name := "rain", desc := "(I)I" } : Jvm.MethodName) prog_30_method_22_code (2 : Nat) (Option.some Jvm.ClassFile.FieldType.int)) ∈ lw_all := lw_g (lw_at lw_m7 50 rfl) rfl
theorem q1570 : (Jvm.Cond.constantLong "WellNamesModel" (93 : Nat) (9 : Int64)) ∈ lw_all := lw_g (lw_at lw_m7 51 rfl) rfl
theorem q1572 : (Jvm.Cond.instanceMethod ({ cls := "WellNamesModel", name := "person", desc := "(II)I" } : Jvm.MethodName)) ∈ lw_all := lw_g (lw_at lw_m7 53 rfl) rfl
theorem q1573 : (Jvm.Cond.selects "WellNamesModel" ({ cls := "WellNamesModel", name := "person", desc := "(II)I" } : Jvm.MethodName) ({ cls := "WellNamesModel", name := "person", desc := "(II)I" } : Jvm.MethodName)) ∈ lw_all := lw_g (lw_at lw_m7 54 rfl) rfl
theorem q1574 : (Jvm.Cond.code ({ cls := "WellNamesModel", name := "person", desc := "(II)I" } : Jvm.MethodName) prog_30_method_23_code (4 : Nat) (Option.some Jvm.ClassFile.FieldType.int)) ∈ lw_all := lw_g (lw_at lw_m7 55 rfl) rfl
theorem q1575 : (Jvm.Cond.methodLink "WellNamesModel" (95 : Nat) ({ cls := "WellNamesModel", name := "isMind", desc := "(I)Z" } : Jvm.MethodName)) ∈ lw_all := lw_g (lw_at lw_m7 56 rfl) rfl
theorem q1576 : (Jvm.Cond.static ({ cls := "WellNamesModel", name := "isMind", desc := "(I)Z" } : Jvm.MethodName)) ∈ lw_all := lw_g (lw_at lw_m7 57 rfl) rfl
theorem q1577 : (Jvm.Cond.code ({ cls := "WellNamesModel", name := "isMind", desc := "(I)Z" } : Jvm.MethodName) prog_30_method_10_code (1 : Nat) (Option.some Jvm.ClassFile.FieldType.boolean)) ∈ lw_all := lw_g (lw_at lw_m7 58 rfl) rfl
theorem q1578 : (Jvm.Cond.constantLong "WellNamesModel" (52 : Nat) (69 : Int64)) ∈ lw_all := lw_g (lw_at lw_m7 59 rfl) rfl
theorem q1579 : (Jvm.Cond.constant "WellNamesModel" (98 : Nat) (-1000000004 : Int32)) ∈ lw_all := lw_g (lw_at lw_m7 60 rfl) rfl
theorem q1581 : (Jvm.Cond.instanceMethod ({ cls := "WellNamesModel", name := "ofPerson", desc := "(II)I" } : Jvm.MethodName)) ∈ lw_all := lw_g (lw_at lw_m7 62 rfl) rfl
theorem q1582 : (Jvm.Cond.selects "WellNamesModel" ({ cls := "WellNamesModel", name := "ofPerson", desc := "(II)I" } : Jvm.MethodName) ({ cls := "WellNamesModel", name := "ofPerson", desc := "(II)I" } : Jvm.MethodName)) ∈ lw_all := lw_g (lw_at lw_m7 63 rfl) rfl
theorem q1583 : (Jvm.Cond.code ({ cls := "WellNamesModel", name := "ofPerson", desc := "(II)I" } : Jvm.MethodName) prog_30_method_27_code (3 : Nat) (Option.some Jvm.ClassFile.FieldType.int)) ∈ lw_all := lw_g (lw_at lw_m7 64 rfl) rfl
theorem q1584 : (Jvm.Cond.methodLink "WellNamesModel" (103 : Nat) ({ cls := "WellNamesModel", name := "isPerson", desc := "(I)Z" } : Jvm.MethodName)) ∈ lw_all := lw_g (lw_at lw_m7 65 rfl) rfl
theorem q1585 : (Jvm.Cond.privateMethod ({ cls := "WellNamesModel", name := "isPerson", desc := "(I)Z" } : Jvm.MethodName)) ∈ lw_tbl := lw_at lw_m7 66 rfl
theorem q1586 : (Jvm.Cond.instanceMethod ({ cls := "WellNamesModel", name := "isPerson", desc := "(I)Z" } : Jvm.MethodName)) ∈ lw_all := lw_g (lw_at lw_m7 67 rfl) rfl
theorem q1587 : (Jvm.Cond.code ({ cls := "WellNamesModel", name := "isPerson", desc := "(I)Z" } : Jvm.MethodName) prog_30_method_8_code (2 : Nat) (Option.some Jvm.ClassFile.FieldType.boolean)) ∈ lw_all := lw_g (lw_at lw_m7 68 rfl) rfl
theorem q1588 : (Jvm.Cond.constantLong "WellNamesModel" (106 : Nat) (8 : Int64)) ∈ lw_all := lw_g (lw_at lw_m7 69 rfl) rfl
theorem q1589 : (Jvm.Cond.methodLink "WellNamesModel" (108 : Nat) ({ cls := "WellNamesModel", name := "limitOf", desc := "(I)I" } : Jvm.MethodName)) ∈ lw_all := lw_g (lw_at lw_m7 70 rfl) rfl
theorem q1590 : (Jvm.Cond.privateMethod ({ cls := "WellNamesModel", name := "limitOf", desc := "(I)I" } : Jvm.MethodName)) ∈ lw_tbl := lw_at lw_m7 71 rfl
theorem q1591 : (Jvm.Cond.instanceMethod ({ cls := "WellNamesModel", name := "limitOf", desc := "(I)I" } : Jvm.MethodName)) ∈ lw_all := lw_g (lw_at lw_m7 72 rfl) rfl
theorem q1592 : (Jvm.Cond.code ({ cls := "WellNamesModel", name := "limitOf", desc := "(I)I" } : Jvm.MethodName) prog_30_method_24_code (3 : Nat) (Option.some Jvm.ClassFile.FieldType.int)) ∈ lw_all := lw_g (lw_at lw_m7 73 rfl) rfl
theorem q1593 : (Jvm.Cond.methodLink "WellNamesModel" (111 : Nat) ({ cls := "WellNamesModel", name := "needsOf", desc := "(II)I" } : Jvm.MethodName)) ∈ lw_all := lw_g (lw_at lw_m7 74 rfl) rfl
theorem q1594 : (Jvm.Cond.privateMethod ({ cls := "WellNamesModel", name := "needsOf", desc := "(II)I" } : Jvm.MethodName)) ∈ lw_tbl := lw_at lw_m7 75 rfl
theorem q1595 : (Jvm.Cond.instanceMethod ({ cls := "WellNamesModel", name := "needsOf", desc := "(II)I" } : Jvm.MethodName)) ∈ lw_all := lw_g (lw_at lw_m7 76 rfl) rfl
theorem q1596 : (Jvm.Cond.code ({ cls := "WellNamesModel", name := "needsOf", desc := "(II)I" } : Jvm.MethodName) prog_30_method_25_code (4 : Nat) (Option.some Jvm.ClassFile.FieldType.int)) ∈ lw_all := lw_g (lw_at lw_m7 77 rfl) rfl
theorem q1597 : (Jvm.Cond.methodLink "WellNamesModel" (99 : Nat) ({ cls := "WellNamesModel", name := "needed", desc := "(III)I" } : Jvm.MethodName)) ∈ lw_all := lw_g (lw_at lw_m7 78 rfl) rfl
theorem q1598 : (Jvm.Cond.privateMethod ({ cls := "WellNamesModel", name := "needed", desc := "(III)I" } : Jvm.MethodName)) ∈ lw_tbl := lw_at lw_m7 79 rfl
theorem q1599 : (Jvm.Cond.instanceMethod ({ cls := "WellNamesModel", name := "needed", desc := "(III)I" } : Jvm.MethodName)) ∈ lw_all := lw_g (lw_at lw_m7 80 rfl) rfl
theorem q1600 : (Jvm.Cond.code ({ cls := "WellNamesModel", name := "needed", desc := "(III)I" } : Jvm.MethodName) prog_30_method_45_code (4 : Nat) (Option.some Jvm.ClassFile.FieldType.int)) ∈ lw_all := lw_g (lw_at lw_m7 81 rfl) rfl
theorem q1601 : (Jvm.Cond.methodLink "WellNamesModel" (189 : Nat) ({ cls := "WellNamesModel", name := "worked", desc := "(IIII)I" } : Jvm.MethodName)) ∈ lw_all := lw_g (lw_at lw_m7 82 rfl) rfl
theorem q1602 : (Jvm.Cond.privateMethod ({ cls := "WellNamesModel", name := "worked", desc := "(IIII)I" } : Jvm.MethodName)) ∈ lw_tbl := lw_at lw_m7 83 rfl
theorem q1603 : (Jvm.Cond.instanceMethod ({ cls := "WellNamesModel", name := "worked", desc := "(IIII)I" } : Jvm.MethodName)) ∈ lw_all := lw_g (lw_at lw_m7 84 rfl) rfl
theorem q1604 : (Jvm.Cond.code ({ cls := "WellNamesModel", name := "worked", desc := "(IIII)I" } : Jvm.MethodName) prog_30_method_43_code (5 : Nat) (Option.some Jvm.ClassFile.FieldType.int)) ∈ lw_all := lw_g (lw_at lw_m7 85 rfl) rfl
theorem q1605 : (Jvm.Cond.methodLink "WellNamesModel" (185 : Nat) ({ cls := "WellNamesModel", name := "readsText", desc := "(IIIIII)I" } : Jvm.MethodName)) ∈ lw_all := lw_g (lw_at lw_m7 86 rfl) rfl
theorem q1606 : (Jvm.Cond.privateMethod ({ cls := "WellNamesModel", name := "readsText", desc := "(IIIIII)I" } : Jvm.MethodName)) ∈ lw_tbl := lw_at lw_m7 87 rfl
theorem q1607 : (Jvm.Cond.instanceMethod ({ cls := "WellNamesModel", name := "readsText", desc := "(IIIIII)I" } : Jvm.MethodName)) ∈ lw_all := lw_g (lw_at lw_m7 88 rfl) rfl
theorem q1608 : (Jvm.Cond.code ({ cls := "WellNamesModel", name := "readsText", desc := "(IIIIII)I" } : Jvm.MethodName) prog_30_method_42_code (8 : Nat) (Option.some Jvm.ClassFile.FieldType.int)) ∈ lw_all := lw_g (lw_at lw_m7 89 rfl) rfl
theorem q1609 : (Jvm.Cond.methodLink "WellNamesModel" (167 : Nat) ({ cls := "WellNamesModel", name := "any", desc := "()I" } : Jvm.MethodName)) ∈ lw_all := lw_g (lw_at lw_m7 90 rfl) rfl
theorem q1610 : (Jvm.Cond.privateMethod ({ cls := "WellNamesModel", name := "any", desc := "()I" } : Jvm.MethodName)) ∈ lw_tbl := lw_at lw_m7 91 rfl
theorem q1611 : (Jvm.Cond.instanceMethod ({ cls := "WellNamesModel", name := "any", desc := "()I" } : Jvm.MethodName)) ∈ lw_all := lw_g (lw_at lw_m7 92 rfl) rfl
theorem q1612 : (Jvm.Cond.code ({ cls := "WellNamesModel", name := "any", desc := "()I" } : Jvm.MethodName) prog_30_method_41_code (3 : Nat) (Option.some Jvm.ClassFile.FieldType.int)) ∈ lw_all := lw_g (lw_at lw_m7 93 rfl) rfl
theorem q1613 : (Jvm.Cond.methodLink "WellNamesModel" (182 : Nat) ({ cls := "WellNamesModel", name := "both", desc := "()I" } : Jvm.MethodName)) ∈ lw_all := lw_g (lw_at lw_m7 94 rfl) rfl
theorem q1614 : (Jvm.Cond.privateMethod ({ cls := "WellNamesModel", name := "both", desc := "()I" } : Jvm.MethodName)) ∈ lw_tbl := lw_at lw_m7 95 rfl
theorem q1615 : (Jvm.Cond.instanceMethod ({ cls := "WellNamesModel", name := "both", desc := "()I" } : Jvm.MethodName)) ∈ lw_all := lw_g (lw_at lw_m7 96 rfl) rfl
theorem q1616 : (Jvm.Cond.code ({ cls := "WellNamesModel", name := "both", desc := "()I" } : Jvm.MethodName) prog_30_method_40_code (3 : Nat) (Option.some Jvm.ClassFile.FieldType.int)) ∈ lw_all := lw_g (lw_at lw_m7 97 rfl) rfl
theorem q1617 : (Jvm.Cond.methodLink "WellNamesModel" (179 : Nat) ({ cls := "WellNamesModel", name := "test", desc := "()I" } : Jvm.MethodName)) ∈ lw_all := lw_g (lw_at lw_m7 98 rfl) rfl
theorem q1618 : (Jvm.Cond.privateMethod ({ cls := "WellNamesModel", name := "test", desc := "()I" } : Jvm.MethodName)) ∈ lw_tbl := lw_at lw_m7 99 rfl
theorem q1619 : (Jvm.Cond.instanceMethod ({ cls := "WellNamesModel", name := "test", desc := "()I" } : Jvm.MethodName)) ∈ lw_all := lw_g (lw_at lw_m7 100 rfl) rfl
theorem q1620 : (Jvm.Cond.code ({ cls := "WellNamesModel", name := "test", desc := "()I" } : Jvm.MethodName) prog_30_method_39_code (5 : Nat) (Option.some Jvm.ClassFile.FieldType.int)) ∈ lw_all := lw_g (lw_at lw_m7 101 rfl) rfl
theorem q1621 : (Jvm.Cond.methodLink "WellNamesModel" (176 : Nat) ({ cls := "WellNamesModel", name := "sum", desc := "()I" } : Jvm.MethodName)) ∈ lw_all := lw_g (lw_at lw_m7 102 rfl) rfl
theorem q1622 : (Jvm.Cond.privateMethod ({ cls := "WellNamesModel", name := "sum", desc := "()I" } : Jvm.MethodName)) ∈ lw_tbl := lw_at lw_m7 103 rfl
theorem q1623 : (Jvm.Cond.instanceMethod ({ cls := "WellNamesModel", name := "sum", desc := "()I" } : Jvm.MethodName)) ∈ lw_all := lw_g (lw_at lw_m7 104 rfl) rfl
theorem q1624 : (Jvm.Cond.code ({ cls := "WellNamesModel", name := "sum", desc := "()I" } : Jvm.MethodName) prog_30_method_38_code (4 : Nat) (Option.some Jvm.ClassFile.FieldType.int)) ∈ lw_all := lw_g (lw_at lw_m7 105 rfl) rfl
theorem q1625 : (Jvm.Cond.methodLink "WellNamesModel" (173 : Nat) ({ cls := "WellNamesModel", name := "product", desc := "()I" } : Jvm.MethodName)) ∈ lw_all := lw_g (lw_at lw_m7 106 rfl) rfl
theorem q1626 : (Jvm.Cond.privateMethod ({ cls := "WellNamesModel", name := "product", desc := "()I" } : Jvm.MethodName)) ∈ lw_tbl := lw_at lw_m7 107 rfl
theorem q1627 : (Jvm.Cond.instanceMethod ({ cls := "WellNamesModel", name := "product", desc := "()I" } : Jvm.MethodName)) ∈ lw_all := lw_g (lw_at lw_m7 108 rfl) rfl
theorem q1628 : (Jvm.Cond.code ({ cls := "WellNamesModel", name := "product", desc := "()I" } : Jvm.MethodName) prog_30_method_37_code (4 : Nat) (Option.some Jvm.ClassFile.FieldType.int)) ∈ lw_all := lw_g (lw_at lw_m7 109 rfl) rfl
theorem q1629 : (Jvm.Cond.methodLink "WellNamesModel" (164 : Nat) ({ cls := "WellNamesModel", name := "single", desc := "()I" } : Jvm.MethodName)) ∈ lw_all := lw_g (lw_at lw_m7 110 rfl) rfl
theorem q1630 : (Jvm.Cond.privateMethod ({ cls := "WellNamesModel", name := "single", desc := "()I" } : Jvm.MethodName)) ∈ lw_tbl := lw_at lw_m7 111 rfl
theorem q1631 : (Jvm.Cond.instanceMethod ({ cls := "WellNamesModel", name := "single", desc := "()I" } : Jvm.MethodName)) ∈ lw_all := lw_g (lw_at lw_m7 112 rfl) rfl
theorem q1632 : (Jvm.Cond.code ({ cls := "WellNamesModel", name := "single", desc := "()I" } : Jvm.MethodName) prog_30_method_36_code (4 : Nat) (Option.some Jvm.ClassFile.FieldType.int)) ∈ lw_all := lw_g (lw_at lw_m7 113 rfl) rfl
theorem q1633 : (Jvm.Cond.methodLink "WellNamesModel" (135 : Nat) ({ cls := "WellNamesModel", name := "here", desc := "()I" } : Jvm.MethodName)) ∈ lw_all := lw_g (lw_at lw_m7 114 rfl) rfl
theorem q1634 : (Jvm.Cond.privateMethod ({ cls := "WellNamesModel", name := "here", desc := "()I" } : Jvm.MethodName)) ∈ lw_tbl := lw_at lw_m7 115 rfl
theorem q1635 : (Jvm.Cond.instanceMethod ({ cls := "WellNamesModel", name := "here", desc := "()I" } : Jvm.MethodName)) ∈ lw_all := lw_g (lw_at lw_m7 116 rfl) rfl
theorem q1636 : (Jvm.Cond.code ({ cls := "WellNamesModel", name := "here", desc := "()I" } : Jvm.MethodName) prog_30_method_32_code (1 : Nat) (Option.some Jvm.ClassFile.FieldType.int)) ∈ lw_all := lw_g (lw_at lw_m7 117 rfl) rfl
theorem q1637 : (Jvm.Cond.methodLink "WellNamesModel" (146 : Nat) ({ cls := "WellNamesModel", name := "isDigit", desc := "(I)Z" } : Jvm.MethodName)) ∈ lw_all := lw_g (lw_at lw_m7 118 rfl) rfl
theorem q1638 : (Jvm.Cond.static ({ cls := "WellNamesModel", name := "isDigit", desc := "(I)Z" } : Jvm.MethodName)) ∈ lw_all := lw_g (lw_at lw_m7 119 rfl) rfl
theorem q1639 : (Jvm.Cond.code ({ cls := "WellNamesModel", name := "isDigit", desc := "(I)Z" } : Jvm.MethodName) prog_30_method_35_code (1 : Nat) (Option.some Jvm.ClassFile.FieldType.boolean)) ∈ lw_all := lw_g (lw_at lw_m7 120 rfl) rfl
theorem q1640 : (Jvm.Cond.constantLong "WellNamesModel" (142 : Nat) (48 : Int64)) ∈ lw_all := lw_g (lw_at lw_m7 121 rfl) rfl
theorem q1641 : (Jvm.Cond.constantLong "WellNamesModel" (144 : Nat) (57 : Int64)) ∈ lw_all := lw_g (lw_at lw_m7 122 rfl) rfl
theorem q1642 : (Jvm.Cond.methodLink "WellNamesModel" (149 : Nat) ({ cls := "WellNamesModel", name := "name", desc := "(I)I" } : Jvm.MethodName)) ∈ lw_all := lw_g (lw_at lw_m7 123 rfl) rfl
theorem q1643 : (Jvm.Cond.privateMethod ({ cls := "WellNamesModel", name := "name", desc := "(I)I" } : Jvm.MethodName)) ∈ lw_tbl := lw_at lw_m7 124 rfl
theorem q1644 : (Jvm.Cond.instanceMethod ({ cls := "WellNamesModel", name := "name", desc := "(I)I" } : Jvm.MethodName)) ∈ lw_all := lw_g (lw_at lw_m7 125 rfl) rfl
theorem q1645 : (Jvm.Cond.code ({ cls := "WellNamesModel", name := "name", desc := "(I)I" } : Jvm.MethodName) prog_30_method_34_code (2 : Nat) (Option.some Jvm.ClassFile.FieldType.int)) ∈ lw_all := lw_g (lw_at lw_m7 126 rfl) rfl
theorem q1646 : (Jvm.Cond.methodLink "WellNamesModel" (170 : Nat) ({ cls := "WellNamesModel", name := "takes", desc := "(I)Z" } : Jvm.MethodName)) ∈ lw_all := lw_g (lw_at lw_m7 127 rfl) rfl
theorem q1647 : (Jvm.Cond.privateMethod ({ cls := "WellNamesModel", name := "takes", desc := "(I)Z" } : Jvm.MethodName)) ∈ lw_tbl := lw_at lw_m7 128 rfl
theorem q1648 : (Jvm.Cond.instanceMethod ({ cls := "WellNamesModel", name := "takes", desc := "(I)Z" } : Jvm.MethodName)) ∈ lw_all := lw_g (lw_at lw_m7 129 rfl) rfl
theorem q1649 : (Jvm.Cond.code ({ cls := "WellNamesModel", name := "takes", desc := "(I)Z" } : Jvm.MethodName) prog_30_method_33_code (3 : Nat) (Option.some Jvm.ClassFile.FieldType.boolean)) ∈ lw_all := lw_g (lw_at lw_m7 130 rfl) rfl
theorem q1650 : (Jvm.Cond.methodLink "WellNamesModel" (193 : Nat) ({ cls := "WellNamesModel", name := "held", desc := "(III)I" } : Jvm.MethodName)) ∈ lw_all := lw_g (lw_at lw_m7 131 rfl) rfl
theorem q1651 : (Jvm.Cond.static ({ cls := "WellNamesModel", name := "held", desc := "(III)I" } : Jvm.MethodName)) ∈ lw_all := lw_g (lw_at lw_m7 132 rfl) rfl
theorem q1652 : (Jvm.Cond.code ({ cls := "WellNamesModel", name := "held", desc := "(III)I" } : Jvm.MethodName) prog_30_method_4_code (3 : Nat) (Option.some Jvm.ClassFile.FieldType.int)) ∈ lw_all := lw_g (lw_at lw_m7 133 rfl) rfl
theorem q1654 : (Jvm.Cond.instanceMethod ({ cls := "WellNamesModel", name := "become", desc := "(II)I" } : Jvm.MethodName)) ∈ lw_all := lw_g (lw_at lw_m7 135 rfl) rfl
theorem q1655 : (Jvm.Cond.selects "WellNamesModel" ({ cls := "WellNamesModel", name := "become", desc := "(II)I" } : Jvm.MethodName) ({ cls := "WellNamesModel", name := "become", desc := "(II)I" } : Jvm.MethodName)) ∈ lw_all := lw_g (lw_at lw_m7 136 rfl) rfl
theorem q1656 : (Jvm.Cond.code ({ cls := "WellNamesModel", name := "become", desc := "(II)I" } : Jvm.MethodName) prog_30_method_28_code (3 : Nat) (Option.some Jvm.ClassFile.FieldType.int)) ∈ lw_all := lw_g (lw_at lw_m7 137 rfl) rfl
theorem q1658 : (Jvm.Cond.instanceMethod ({ cls := "WellNamesModel", name := "as", desc := "(II)I" } : Jvm.MethodName)) ∈ lw_all := lw_g (lw_at lw_m7 139 rfl) rfl
theorem q1659 : (Jvm.Cond.selects "WellNamesModel" ({ cls := "WellNamesModel", name := "as", desc := "(II)I" } : Jvm.MethodName) ({ cls := "WellNamesModel", name := "as", desc := "(II)I" } : Jvm.MethodName)) ∈ lw_all := lw_g (lw_at lw_m7 140 rfl) rfl
theorem q1660 : (Jvm.Cond.code ({ cls := "WellNamesModel", name := "as", desc := "(II)I" } : Jvm.MethodName) prog_30_method_30_code (3 : Nat) (Option.some Jvm.ClassFile.FieldType.int)) ∈ lw_all := lw_g (lw_at lw_m7 141 rfl) rfl
theorem q1661 : (Jvm.Cond.constantLong "WellNamesModel" (114 : Nat) (6 : Int64)) ∈ lw_all := lw_g (lw_at lw_m7 142 rfl) rfl
theorem q1662 : (Jvm.Cond.methodLink "WellNamesModel" (116 : Nat) ({ cls := "WellNamesModel", name := "isUnder", desc := "(II)Z" } : Jvm.MethodName)) ∈ lw_all := lw_g (lw_at lw_m7 143 rfl) rfl
theorem q1663 : (Jvm.Cond.static ({ cls := "WellNamesModel", name := "isUnder", desc := "(II)Z" } : Jvm.MethodName)) ∈ lw_all := lw_g (lw_at lw_m7 144 rfl) rfl
theorem q1664 : (Jvm.Cond.code ({ cls := "WellNamesModel", name := "isUnder", desc := "(II)Z" } : Jvm.MethodName) prog_30_method_29_code (2 : Nat) (Option.some Jvm.ClassFile.FieldType.boolean)) ∈ lw_all := lw_g (lw_at lw_m7 145 rfl) rfl
theorem q1665 : (Jvm.Cond.constant "WellNamesModel" (120 : Nat) (-1000000005 : Int32)) ∈ lw_all := lw_g (lw_at lw_m7 146 rfl) rfl
theorem q1667 : (Jvm.Cond.instanceMethod ({ cls := "WellNamesModel", name := "feed", desc := "(JI)I" } : Jvm.MethodName)) ∈ lw_all := lw_g (lw_at lw_m7 148 rfl) rfl
theorem q1668 : (Jvm.Cond.selects "WellNamesModel" ({ cls := "WellNamesModel", name := "feed", desc := "(JI)I" } : Jvm.MethodName) ({ cls := "WellNamesModel", name := "feed", desc := "(JI)I" } : Jvm.MethodName)) ∈ lw_all := lw_g (lw_at lw_m7 149 rfl) rfl
theorem q1669 : (Jvm.Cond.code ({ cls := "WellNamesModel", name := "feed", desc := "(JI)I" } : Jvm.MethodName) prog_30_method_31_code (5 : Nat) (Option.some Jvm.ClassFile.FieldType.int)) ∈ lw_all := lw_g (lw_at lw_m7 150 rfl) rfl
theorem q1670 : (Jvm.Cond.constantLong "WellNamesModel" (50 : Nat) (255 : Int64)) ∈ lw_all := lw_g (lw_at lw_m7 151 rfl) rfl
theorem q1672 : (Jvm.Cond.instanceMethod ({ cls := "WellNamesModel", name := "text", desc := "(I)I" } : Jvm.MethodName)) ∈ lw_all := lw_g (lw_at lw_m7 153 rfl) rfl
theorem q1673 : (Jvm.Cond.selects "WellNamesModel" ({ cls := "WellNamesModel", name := "text", desc := "(I)I" } : Jvm.MethodName) ({ cls := "WellNamesModel", name := "text", desc := "(I)I" } : Jvm.MethodName)) ∈ lw_all := lw_g (lw_at lw_m7 154 rfl) rfl
theorem q1674 : (Jvm.Cond.code ({ cls := "WellNamesModel", name := "text", desc := "(I)I" } : Jvm.MethodName) prog_30_method_44_code (4 : Nat) (Option.some Jvm.ClassFile.FieldType.int)) ∈ lw_all := lw_g (lw_at lw_m7 155 rfl) rfl
theorem q1676 : (Jvm.Cond.instanceMethod ({ cls := "WellNamesModel", name := "law", desc := "(IIII)I" } : Jvm.MethodName)) ∈ lw_all := lw_g (lw_at lw_m7 157 rfl) rfl
theorem q1677 : (Jvm.Cond.selects "WellNamesModel" ({ cls := "WellNamesModel", name := "law", desc := "(IIII)I" } : Jvm.MethodName) ({ cls := "WellNamesModel", name := "law", desc := "(IIII)I" } : Jvm.MethodName)) ∈ lw_all := lw_g (lw_at lw_m7 158 rfl) rfl
theorem q1678 : (Jvm.Cond.code ({ cls := "WellNamesModel", name := "law", desc := "(IIII)I" } : Jvm.MethodName) prog_30_method_47_code (5 : Nat) (Option.some Jvm.ClassFile.FieldType.int)) ∈ lw_all := lw_g (lw_at lw_m7 159 rfl) rfl
theorem q1679 : (Jvm.Cond.methodLink "WellNamesModel" (196 : Nat) ({ cls := "WellNamesModel", name := "parched", desc := "(III)I" } : Jvm.MethodName)) ∈ lw_all := lw_g (lw_at lw_m7 160 rfl) rfl
theorem q1680 : (Jvm.Cond.privateMethod ({ cls := "WellNamesModel", name := "parched", desc := "(III)I" } : Jvm.MethodName)) ∈ lw_tbl := lw_at lw_m7 161 rfl
theorem q1681 : (Jvm.Cond.instanceMethod ({ cls := "WellNamesModel", name := "parched", desc := "(III)I" } : Jvm.MethodName)) ∈ lw_all := lw_g (lw_at lw_m7 162 rfl) rfl
theorem q1682 : (Jvm.Cond.code ({ cls := "WellNamesModel", name := "parched", desc := "(III)I" } : Jvm.MethodName) prog_30_method_46_code (4 : Nat) (Option.some Jvm.ClassFile.FieldType.int)) ∈ lw_all := lw_g (lw_at lw_m7 163 rfl) rfl
theorem q1684 : (Jvm.Cond.instanceMethod ({ cls := "WellNamesModel", name := "drink", desc := "(I)I" } : Jvm.MethodName)) ∈ lw_all := lw_g (lw_at lw_m7 165 rfl) rfl
theorem q1685 : (Jvm.Cond.selects "WellNamesModel" ({ cls := "WellNamesModel", name := "drink", desc := "(I)I" } : Jvm.MethodName) ({ cls := "WellNamesModel", name := "drink", desc := "(I)I" } : Jvm.MethodName)) ∈ lw_all := lw_g (lw_at lw_m7 166 rfl) rfl
theorem q1686 : (Jvm.Cond.code ({ cls := "WellNamesModel", name := "drink", desc := "(I)I" } : Jvm.MethodName) prog_30_method_48_code (4 : Nat) (Option.some Jvm.ClassFile.FieldType.int)) ∈ lw_all := lw_g (lw_at lw_m7 167 rfl) rfl
theorem q1687 : (Jvm.Cond.constant "WellNamesModel" (199 : Nat) (-1000000003 : Int32)) ∈ lw_all := lw_g (lw_at lw_m7 168 rfl) rfl
theorem q1688 : (Jvm.Cond.methodLink "WellNamesModel" (200 : Nat) ({ cls := "WellNamesModel", name := "calledOf", desc := "(II)I" } : Jvm.MethodName)) ∈ lw_all := lw_g (lw_at lw_m7 169 rfl) rfl
theorem q1689 : (Jvm.Cond.privateMethod ({ cls := "WellNamesModel", name := "calledOf", desc := "(II)I" } : Jvm.MethodName)) ∈ lw_tbl := lw_at lw_m7 170 rfl
theorem q1690 : (Jvm.Cond.instanceMethod ({ cls := "WellNamesModel", name := "calledOf", desc := "(II)I" } : Jvm.MethodName)) ∈ lw_all := lw_g (lw_at lw_m7 171 rfl) rfl
theorem q1691 : (Jvm.Cond.code ({ cls := "WellNamesModel", name := "calledOf", desc := "(II)I" } : Jvm.MethodName) prog_30_method_26_code (4 : Nat) (Option.some Jvm.ClassFile.FieldType.int)) ∈ lw_all := lw_g (lw_at lw_m7 172 rfl) rfl
theorem q1693 : (Jvm.Cond.instanceMethod ({ cls := "WellNamesModel", name := "go", desc := "(II)I" } : Jvm.MethodName)) ∈ lw_all := lw_g (lw_at lw_m7 174 rfl) rfl
theorem q1694 : (Jvm.Cond.selects "WellNamesModel" ({ cls := "WellNamesModel", name := "go", desc := "(II)I" } : Jvm.MethodName) ({ cls := "WellNamesModel", name := "go", desc := "(II)I" } : Jvm.MethodName)) ∈ lw_all := lw_g (lw_at lw_m7 175 rfl) rfl
theorem q1695 : (Jvm.Cond.code ({ cls := "WellNamesModel", name := "go", desc := "(II)I" } : Jvm.MethodName) prog_30_method_51_code (4 : Nat) (Option.some Jvm.ClassFile.FieldType.int)) ∈ lw_all := lw_g (lw_at lw_m7 176 rfl) rfl
theorem q1696 : (Jvm.Cond.constant "WellNamesModel" (203 : Nat) (99999 : Int32)) ∈ lw_all := lw_g (lw_at lw_m7 177 rfl) rfl
theorem q1697 : (Jvm.Cond.methodLink "WellNamesModel" (204 : Nat) ({ cls := "WellNamesModel", name := "thirstBy", desc := "(II)I" } : Jvm.MethodName)) ∈ lw_all := lw_g (lw_at lw_m7 178 rfl) rfl
theorem q1698 : (Jvm.Cond.privateMethod ({ cls := "WellNamesModel", name := "thirstBy", desc := "(II)I" } : Jvm.MethodName)) ∈ lw_tbl := lw_at lw_m7 179 rfl
theorem q1699 : (Jvm.Cond.instanceMethod ({ cls := "WellNamesModel", name := "thirstBy", desc := "(II)I" } : Jvm.MethodName)) ∈ lw_all := lw_g (lw_at lw_m7 180 rfl) rfl
theorem q1700 : (Jvm.Cond.code ({ cls := "WellNamesModel", name := "thirstBy", desc := "(II)I" } : Jvm.MethodName) prog_30_method_49_code (3 : Nat) (Option.some Jvm.ClassFile.FieldType.int)) ∈ lw_all := lw_g (lw_at lw_m7 181 rfl) rfl
theorem q1701 : (Jvm.Cond.methodLink "WellNamesModel" (207 : Nat) ({ cls := "WellNamesModel", name := "dies", desc := "(I)V" } : Jvm.MethodName)) ∈ lw_all := lw_g (lw_at lw_m7 182 rfl) rfl
theorem q1702 : (Jvm.Cond.privateMethod ({ cls := "WellNamesModel", name := "dies", desc := "(I)V" } : Jvm.MethodName)) ∈ lw_tbl := lw_at lw_m7 183 rfl
theorem q1703 : (Jvm.Cond.instanceMethod ({ cls := "WellNamesModel", name := "dies", desc := "(I)V" } : Jvm.MethodName)) ∈ lw_all := lw_g (lw_at lw_m7 184 rfl) rfl
theorem q1704 : (Jvm.Cond.code ({ cls := "WellNamesModel", name := "dies", desc := "(I)V" } : Jvm.MethodName) prog_30_method_50_code (2 : Nat) (Option.none : Option Jvm.ClassFile.FieldType)) ∈ lw_all := lw_g (lw_at lw_m7 185 rfl) rfl
theorem q1706 : (Jvm.Cond.instanceMethod ({ cls := "WellNamesModel", name := "pay", desc := "(III)I" } : Jvm.MethodName)) ∈ lw_all := lw_g (lw_at lw_m7 187 rfl) rfl
theorem q1707 : (Jvm.Cond.selects "WellNamesModel" ({ cls := "WellNamesModel", name := "pay", desc := "(III)I" } : Jvm.MethodName) ({ cls := "WellNamesModel", name := "pay", desc := "(III)I" } : Jvm.MethodName)) ∈ lw_all := lw_g (lw_at lw_m7 188 rfl) rfl
theorem q1708 : (Jvm.Cond.code ({ cls := "WellNamesModel", name := "pay", desc := "(III)I" } : Jvm.MethodName) prog_30_method_52_code (5 : Nat) (Option.some Jvm.ClassFile.FieldType.int)) ∈ lw_all := lw_g (lw_at lw_m7 189 rfl) rfl
theorem q1710 : (Jvm.Cond.instanceMethod ({ cls := "WellNamesModel", name := "days", desc := "(I)I" } : Jvm.MethodName)) ∈ lw_all := lw_g (lw_at lw_m7 191 rfl) rfl
theorem q1711 : (Jvm.Cond.selects "WellNamesModel" ({ cls := "WellNamesModel", name := "days", desc := "(I)I" } : Jvm.MethodName) ({ cls := "WellNamesModel", name := "days", desc := "(I)I" } : Jvm.MethodName)) ∈ lw_all := lw_g (lw_at lw_m7 192 rfl) rfl
theorem q1712 : (Jvm.Cond.code ({ cls := "WellNamesModel", name := "days", desc := "(I)I" } : Jvm.MethodName) prog_30_method_56_code (4 : Nat) (Option.some Jvm.ClassFile.FieldType.int)) ∈ lw_all := lw_g (lw_at lw_m7 193 rfl) rfl
theorem q1713 : (Jvm.Cond.methodLink "WellNamesModel" (211 : Nat) ({ cls := "WellNamesModel", name := "wrongDays", desc := "(II)I" } : Jvm.MethodName)) ∈ lw_all := lw_g (lw_at lw_m7 194 rfl) rfl
theorem q1714 : (Jvm.Cond.privateMethod ({ cls := "WellNamesModel", name := "wrongDays", desc := "(II)I" } : Jvm.MethodName)) ∈ lw_tbl := lw_at lw_m7 195 rfl
theorem q1715 : (Jvm.Cond.instanceMethod ({ cls := "WellNamesModel", name := "wrongDays", desc := "(II)I" } : Jvm.MethodName)) ∈ lw_all := lw_g (lw_at lw_m7 196 rfl) rfl
theorem q1716 : (Jvm.Cond.code ({ cls := "WellNamesModel", name := "wrongDays", desc := "(II)I" } : Jvm.MethodName) prog_30_method_55_code (3 : Nat) (Option.some Jvm.ClassFile.FieldType.int)) ∈ lw_all := lw_g (lw_at lw_m7 197 rfl) rfl
theorem q1717 : (Jvm.Cond.methodLink "WellNamesModel" (214 : Nat) ({ cls := "WellNamesModel", name := "day", desc := "()V" } : Jvm.MethodName)) ∈ lw_all := lw_g (lw_at lw_m7 198 rfl) rfl
theorem q1718 : (Jvm.Cond.privateMethod ({ cls := "WellNamesModel", name := "day", desc := "()V" } : Jvm.MethodName)) ∈ lw_tbl := lw_at lw_m7 199 rfl
theorem q1719 : (Jvm.Cond.instanceMethod ({ cls := "WellNamesModel", name := "day", desc := "()V" } : Jvm.MethodName)) ∈ lw_all := lw_g (lw_at lw_m7 200 rfl) rfl
theorem q1720 : (Jvm.Cond.code ({ cls := "WellNamesModel", name := "day", desc := "()V" } : Jvm.MethodName) prog_30_method_53_code (2 : Nat) (Option.none : Option Jvm.ClassFile.FieldType)) ∈ lw_all := lw_g (lw_at lw_m7 201 rfl) rfl
theorem q1721 : (Jvm.Cond.methodLink "WellNamesModel" (217 : Nat) ({ cls := "WellNamesModel", name := "dead", desc := "()I" } : Jvm.MethodName)) ∈ lw_all := lw_g (lw_at lw_m7 202 rfl) rfl
theorem q1722 : (Jvm.Cond.privateMethod ({ cls := "WellNamesModel", name := "dead", desc := "()I" } : Jvm.MethodName)) ∈ lw_tbl := lw_at lw_m7 203 rfl
theorem q1723 : (Jvm.Cond.instanceMethod ({ cls := "WellNamesModel", name := "dead", desc := "()I" } : Jvm.MethodName)) ∈ lw_all := lw_g (lw_at lw_m7 204 rfl) rfl
theorem q1724 : (Jvm.Cond.code ({ cls := "WellNamesModel", name := "dead", desc := "()I" } : Jvm.MethodName) prog_30_method_54_code (3 : Nat) (Option.some Jvm.ClassFile.FieldType.int)) ∈ lw_all := lw_g (lw_at lw_m7 205 rfl) rfl
theorem q1726 : (Jvm.Cond.instanceMethod ({ cls := "WellNamesModel", name := "loose", desc := "(I)I" } : Jvm.MethodName)) ∈ lw_all := lw_g (lw_at lw_m7 207 rfl) rfl
theorem q1727 : (Jvm.Cond.selects "WellNamesModel" ({ cls := "WellNamesModel", name := "loose", desc := "(I)I" } : Jvm.MethodName) ({ cls := "WellNamesModel", name := "loose", desc := "(I)I" } : Jvm.MethodName)) ∈ lw_all := lw_g (lw_at lw_m7 208 rfl) rfl
theorem q1728 : (Jvm.Cond.code ({ cls := "WellNamesModel", name := "loose", desc := "(I)I" } : Jvm.MethodName) prog_30_method_58_code (5 : Nat) (Option.some Jvm.ClassFile.FieldType.int)) ∈ lw_all := lw_g (lw_at lw_m7 209 rfl) rfl
theorem q1729 : (Jvm.Cond.methodLink "WellNamesModel" (221 : Nat) ({ cls := "WellNamesModel", name := "draw", desc := "()I" } : Jvm.MethodName)) ∈ lw_all := lw_g (lw_at lw_m7 210 rfl) rfl
theorem q1730 : (Jvm.Cond.privateMethod ({ cls := "WellNamesModel", name := "draw", desc := "()I" } : Jvm.MethodName)) ∈ lw_tbl := lw_at lw_m7 211 rfl
theorem q1731 : (Jvm.Cond.instanceMethod ({ cls := "WellNamesModel", name := "draw", desc := "()I" } : Jvm.MethodName)) ∈ lw_all := lw_g (lw_at lw_m7 212 rfl) rfl
theorem q1732 : (Jvm.Cond.code ({ cls := "WellNamesModel", name := "draw", desc := "()I" } : Jvm.MethodName) prog_30_method_57_code (1 : Nat) (Option.some Jvm.ClassFile.FieldType.int)) ∈ lw_all := lw_g (lw_at lw_m7 213 rfl) rfl
theorem q1733 : (Jvm.Cond.constant "WellNamesModel" (220 : Nat) (1103515245 : Int32)) ∈ lw_all := lw_g (lw_at lw_m7 214 rfl) rfl
theorem q1735 : (Jvm.Cond.instanceMethod ({ cls := "WellNamesModel", name := "same", desc := "()I" } : Jvm.MethodName)) ∈ lw_all := lw_g (lw_at lw_m7 216 rfl) rfl
theorem q1736 : (Jvm.Cond.selects "WellNamesModel" ({ cls := "WellNamesModel", name := "same", desc := "()I" } : Jvm.MethodName) ({ cls := "WellNamesModel", name := "same", desc := "()I" } : Jvm.MethodName)) ∈ lw_all := lw_g (lw_at lw_m7 217 rfl) rfl
theorem q1737 : (Jvm.Cond.code ({ cls := "WellNamesModel", name := "same", desc := "()I" } : Jvm.MethodName) prog_30_method_59_code (4 : Nat) (Option.some Jvm.ClassFile.FieldType.int)) ∈ lw_all := lw_g (lw_at lw_m7 218 rfl) rfl
theorem q1738 : (Jvm.Cond.methodLink "WellNamesModel" (224 : Nat) ({ cls := "WellNamesModel", name := "ones", desc := "(I)I" } : Jvm.MethodName)) ∈ lw_all := lw_g (lw_at lw_m7 219 rfl) rfl
theorem q1739 : (Jvm.Cond.static ({ cls := "WellNamesModel", name := "ones", desc := "(I)I" } : Jvm.MethodName)) ∈ lw_all := lw_g (lw_at lw_m7 220 rfl) rfl
theorem q1740 : (Jvm.Cond.code ({ cls := "WellNamesModel", name := "ones", desc := "(I)I" } : Jvm.MethodName) prog_30_method_60_code (3 : Nat) (Option.some Jvm.ClassFile.FieldType.int)) ∈ lw_all := lw_g (lw_at lw_m7 221 rfl) rfl
theorem q1742 : (Jvm.Cond.instanceMethod ({ cls := "WellNamesModel", name := "soonest", desc := "(III)I" } : Jvm.MethodName)) ∈ lw_all := lw_g (lw_at lw_m7 223 rfl) rfl
theorem q1743 : (Jvm.Cond.selects "WellNamesModel" ({ cls := "WellNamesModel", name := "soonest", desc := "(III)I" } : Jvm.MethodName) ({ cls := "WellNamesModel", name := "soonest", desc := "(III)I" } : Jvm.MethodName)) ∈ lw_all := lw_g (lw_at lw_m7 224 rfl) rfl
theorem q1744 : (Jvm.Cond.code ({ cls := "WellNamesModel", name := "soonest", desc := "(III)I" } : Jvm.MethodName) prog_30_method_67_code (4 : Nat) (Option.some Jvm.ClassFile.FieldType.int)) ∈ lw_all := lw_g (lw_at lw_m7 225 rfl) rfl
theorem q1745 : (Jvm.Cond.methodLink "WellNamesModel" (250 : Nat) ({ cls := "WellNamesModel", name := "way", desc := "(IIIZ)I" } : Jvm.MethodName)) ∈ lw_all := lw_g (lw_at lw_m7 226 rfl) rfl
theorem q1746 : (Jvm.Cond.privateMethod ({ cls := "WellNamesModel", name := "way", desc := "(IIIZ)I" } : Jvm.MethodName)) ∈ lw_tbl := lw_at lw_m7 227 rfl
theorem q1747 : (Jvm.Cond.instanceMethod ({ cls := "WellNamesModel", name := "way", desc := "(IIIZ)I" } : Jvm.MethodName)) ∈ lw_all := lw_g (lw_at lw_m7 228 rfl) rfl
theorem q1748 : (Jvm.Cond.code ({ cls := "WellNamesModel", name := "way", desc := "(IIIZ)I" } : Jvm.MethodName) prog_30_method_66_code (7 : Nat) (Option.some Jvm.ClassFile.FieldType.int)) ∈ lw_all := lw_g (lw_at lw_m7 229 rfl) rfl
theorem q1749 : (Jvm.Cond.methodLink "WellNamesModel" (235 : Nat) ({ cls := "WellNamesModel", name := "isSet", desc := "(I)Z" } : Jvm.MethodName)) ∈ lw_all := lw_g (lw_at lw_m7 230 rfl) rfl
theorem q1750 : (Jvm.Cond.static ({ cls := "WellNamesModel", name := "isSet", desc := "(I)Z" } : Jvm.MethodName)) ∈ lw_all := lw_g (lw_at lw_m7 231 rfl) rfl
theorem q1751 : (Jvm.Cond.code ({ cls := "WellNamesModel", name := "isSet", desc := "(I)Z" } : Jvm.MethodName) prog_30_method_9_code (1 : Nat) (Option.some Jvm.ClassFile.FieldType.boolean)) ∈ lw_all := lw_g (lw_at lw_m7 232 rfl) rfl
theorem q1752 : (Jvm.Cond.methodLink "WellNamesModel" (238 : Nat) ({ cls := "WellNamesModel", name := "wrongWay", desc := "(IZ)I" } : Jvm.MethodName)) ∈ lw_all := lw_g (lw_at lw_m7 233 rfl) rfl
theorem q1753 : (Jvm.Cond.privateMethod ({ cls := "WellNamesModel", name := "wrongWay", desc := "(IZ)I" } : Jvm.MethodName)) ∈ lw_tbl := lw_at lw_m7 234 rfl
theorem q1754 : (Jvm.Cond.instanceMethod ({ cls := "WellNamesModel", name := "wrongWay", desc := "(IZ)I" } : Jvm.MethodName)) ∈ lw_all := lw_g (lw_at lw_m7 235 rfl) rfl
theorem q1755 : (Jvm.Cond.code ({ cls := "WellNamesModel", name := "wrongWay", desc := "(IZ)I" } : Jvm.MethodName) prog_30_method_65_code (3 : Nat) (Option.some Jvm.ClassFile.FieldType.int)) ∈ lw_all := lw_g (lw_at lw_m7 236 rfl) rfl
theorem q1756 : (Jvm.Cond.methodLink "WellNamesModel" (242 : Nat) ({ cls := "WellNamesModel", name := "spreads", desc := "(IIZ)V" } : Jvm.MethodName)) ∈ lw_all := lw_g (lw_at lw_m7 237 rfl) rfl
theorem q1757 : (Jvm.Cond.privateMethod ({ cls := "WellNamesModel", name := "spreads", desc := "(IIZ)V" } : Jvm.MethodName)) ∈ lw_tbl := lw_at lw_m7 238 rfl
theorem q1758 : (Jvm.Cond.instanceMethod ({ cls := "WellNamesModel", name := "spreads", desc := "(IIZ)V" } : Jvm.MethodName)) ∈ lw_all := lw_g (lw_at lw_m7 239 rfl) rfl
theorem q1759 : (Jvm.Cond.code ({ cls := "WellNamesModel", name := "spreads", desc := "(IIZ)V" } : Jvm.MethodName) prog_30_method_63_code (11 : Nat) (Option.none : Option Jvm.ClassFile.FieldType)) ∈ lw_all := lw_g (lw_at lw_m8 0 rfl) rfl
theorem q1760 : (Jvm.Cond.constant "WellNamesModel" (227 : Nat) (1000000 : Int32)) ∈ lw_all := lw_g (lw_at lw_m8 1 rfl) rfl
theorem q1761 : (Jvm.Cond.methodLink "WellNamesModel" (228 : Nat) ({ cls := "WellNamesModel", name := "lessens", desc := "(III)Z" } : Jvm.MethodName)) ∈ lw_all := lw_g (lw_at lw_m8 2 rfl) rfl
theorem q1762 : (Jvm.Cond.privateMethod ({ cls := "WellNamesModel", name := "lessens", desc := "(III)Z" } : Jvm.MethodName)) ∈ lw_tbl := lw_at lw_m8 3 rfl
theorem q1763 : (Jvm.Cond.instanceMethod ({ cls := "WellNamesModel", name := "lessens", desc := "(III)Z" } : Jvm.MethodName)) ∈ lw_all := lw_g (lw_at lw_m8 4 rfl) rfl
theorem q1764 : (Jvm.Cond.code ({ cls := "WellNamesModel", name := "lessens", desc := "(III)Z" } : Jvm.MethodName) prog_30_method_62_code (6 : Nat) (Option.some Jvm.ClassFile.FieldType.boolean)) ∈ lw_all := lw_g (lw_at lw_m8 5 rfl) rfl
theorem q1765 : (Jvm.Cond.methodLink "WellNamesModel" (232 : Nat) ({ cls := "WellNamesModel", name := "mayDrink", desc := "(III)Z" } : Jvm.MethodName)) ∈ lw_all := lw_g (lw_at lw_m8 6 rfl) rfl
theorem q1766 : (Jvm.Cond.privateMethod ({ cls := "WellNamesModel", name := "mayDrink", desc := "(III)Z" } : Jvm.MethodName)) ∈ lw_tbl := lw_at lw_m8 7 rfl
theorem q1767 : (Jvm.Cond.instanceMethod ({ cls := "WellNamesModel", name := "mayDrink", desc := "(III)Z" } : Jvm.MethodName)) ∈ lw_all := lw_g (lw_at lw_m8 8 rfl) rfl
theorem q1768 : (Jvm.Cond.code ({ cls := "WellNamesModel", name := "mayDrink", desc := "(III)Z" } : Jvm.MethodName) prog_30_method_61_code (4 : Nat) (Option.some Jvm.ClassFile.FieldType.boolean)) ∈ lw_all := lw_g (lw_at lw_m8 9 rfl) rfl
theorem q1769 : (Jvm.Cond.methodLink "WellNamesModel" (246 : Nat) ({ cls := "WellNamesModel", name := "leastAt", desc := "(I)I" } : Jvm.MethodName)) ∈ lw_all := lw_g (lw_at lw_m8 10 rfl) rfl
theorem q1770 : (Jvm.Cond.privateMethod ({ cls := "WellNamesModel", name := "leastAt", desc := "(I)I" } : Jvm.MethodName)) ∈ lw_tbl := lw_at lw_m8 11 rfl
theorem q1771 : (Jvm.Cond.instanceMethod ({ cls := "WellNamesModel", name := "leastAt", desc := "(I)I" } : Jvm.MethodName)) ∈ lw_all := lw_g (lw_at lw_m8 12 rfl) rfl
theorem q1772 : (Jvm.Cond.code ({ cls := "WellNamesModel", name := "leastAt", desc := "(I)I" } : Jvm.MethodName) prog_30_method_64_code (4 : Nat) (Option.some Jvm.ClassFile.FieldType.int)) ∈ lw_all := lw_g (lw_at lw_m8 13 rfl) rfl
theorem q1773 : (Jvm.Cond.constant "WellNamesModel" (249 : Nat) (-1000000002 : Int32)) ∈ lw_all := lw_g (lw_at lw_m8 14 rfl) rfl
theorem q1775 : (Jvm.Cond.instanceMethod ({ cls := "WellNamesModel", name := "drinks", desc := "(III)I" } : Jvm.MethodName)) ∈ lw_all := lw_g (lw_at lw_m8 16 rfl) rfl
theorem q1776 : (Jvm.Cond.selects "WellNamesModel" ({ cls := "WellNamesModel", name := "drinks", desc := "(III)I" } : Jvm.MethodName) ({ cls := "WellNamesModel", name := "drinks", desc := "(III)I" } : Jvm.MethodName)) ∈ lw_all := lw_g (lw_at lw_m8 17 rfl) rfl
theorem q1777 : (Jvm.Cond.code ({ cls := "WellNamesModel", name := "drinks", desc := "(III)I" } : Jvm.MethodName) prog_30_method_68_code (4 : Nat) (Option.some Jvm.ClassFile.FieldType.int)) ∈ lw_all := lw_g (lw_at lw_m8 18 rfl) rfl
theorem q1779 : (Jvm.Cond.instanceMethod ({ cls := "WellNamesModel", name := "reach", desc := "(III)I" } : Jvm.MethodName)) ∈ lw_all := lw_g (lw_at lw_m8 20 rfl) rfl
theorem q1780 : (Jvm.Cond.selects "WellNamesModel" ({ cls := "WellNamesModel", name := "reach", desc := "(III)I" } : Jvm.MethodName) ({ cls := "WellNamesModel", name := "reach", desc := "(III)I" } : Jvm.MethodName)) ∈ lw_all := lw_g (lw_at lw_m8 21 rfl) rfl
theorem q1781 : (Jvm.Cond.code ({ cls := "WellNamesModel", name := "reach", desc := "(III)I" } : Jvm.MethodName) prog_30_method_70_code (7 : Nat) (Option.some Jvm.ClassFile.FieldType.int)) ∈ lw_all := lw_g (lw_at lw_m8 22 rfl) rfl
theorem q1782 : (Jvm.Cond.methodLink "WellNamesModel" (254 : Nat) ({ cls := "WellNamesModel", name := "reached", desc := "(II)I" } : Jvm.MethodName)) ∈ lw_all := lw_g (lw_at lw_m8 23 rfl) rfl
theorem q1783 : (Jvm.Cond.privateMethod ({ cls := "WellNamesModel", name := "reached", desc := "(II)I" } : Jvm.MethodName)) ∈ lw_tbl := lw_at lw_m8 24 rfl
theorem q1784 : (Jvm.Cond.instanceMethod ({ cls := "WellNamesModel", name := "reached", desc := "(II)I" } : Jvm.MethodName)) ∈ lw_all := lw_g (lw_at lw_m8 25 rfl) rfl
theorem q1785 : (Jvm.Cond.code ({ cls := "WellNamesModel", name := "reached", desc := "(II)I" } : Jvm.MethodName) prog_30_method_69_code (5 : Nat) (Option.some Jvm.ClassFile.FieldType.int)) ∈ lw_all := lw_g (lw_at lw_m8 26 rfl) rfl
theorem q1787 : (Jvm.Cond.instanceMethod ({ cls := "WellNamesModel", name := "dry", desc := "(II)I" } : Jvm.MethodName)) ∈ lw_all := lw_g (lw_at lw_m8 28 rfl) rfl
theorem q1788 : (Jvm.Cond.selects "WellNamesModel" ({ cls := "WellNamesModel", name := "dry", desc := "(II)I" } : Jvm.MethodName) ({ cls := "WellNamesModel", name := "dry", desc := "(II)I" } : Jvm.MethodName)) ∈ lw_all := lw_g (lw_at lw_m8 29 rfl) rfl
theorem q1789 : (Jvm.Cond.code ({ cls := "WellNamesModel", name := "dry", desc := "(II)I" } : Jvm.MethodName) prog_30_method_71_code (8 : Nat) (Option.some Jvm.ClassFile.FieldType.int)) ∈ lw_all := lw_g (lw_at lw_m8 30 rfl) rfl
theorem q1791 : (Jvm.Cond.instanceMethod ({ cls := "WellNamesModel", name := "net", desc := "()I" } : Jvm.MethodName)) ∈ lw_all := lw_g (lw_at lw_m8 32 rfl) rfl
theorem q1792 : (Jvm.Cond.selects "WellNamesModel" ({ cls := "WellNamesModel", name := "net", desc := "()I" } : Jvm.MethodName) ({ cls := "WellNamesModel", name := "net", desc := "()I" } : Jvm.MethodName)) ∈ lw_all := lw_g (lw_at lw_m8 33 rfl) rfl
theorem q1793 : (Jvm.Cond.code ({ cls := "WellNamesModel", name := "net", desc := "()I" } : Jvm.MethodName) prog_30_method_72_code (8 : Nat) (Option.some Jvm.ClassFile.FieldType.int)) ∈ lw_all := lw_g (lw_at lw_m8 34 rfl) rfl
theorem q1795 : (Jvm.Cond.instanceMethod ({ cls := "WellNamesModel", name := "shortest", desc := "(II)I" } : Jvm.MethodName)) ∈ lw_all := lw_g (lw_at lw_m8 36 rfl) rfl
theorem q1796 : (Jvm.Cond.selects "WellNamesModel" ({ cls := "WellNamesModel", name := "shortest", desc := "(II)I" } : Jvm.MethodName) ({ cls := "WellNamesModel", name := "shortest", desc := "(II)I" } : Jvm.MethodName)) ∈ lw_all := lw_g (lw_at lw_m8 37 rfl) rfl
theorem q1797 : (Jvm.Cond.code ({ cls := "WellNamesModel", name := "shortest", desc := "(II)I" } : Jvm.MethodName) prog_30_method_73_code (6 : Nat) (Option.some Jvm.ClassFile.FieldType.int)) ∈ lw_all := lw_g (lw_at lw_m8 38 rfl) rfl
theorem q1799 : (Jvm.Cond.instanceMethod ({ cls := "WellNamesModel", name := "walked", desc := "(I)I" } : Jvm.MethodName)) ∈ lw_all := lw_g (lw_at lw_m8 40 rfl) rfl
theorem q1800 : (Jvm.Cond.selects "WellNamesModel" ({ cls := "WellNamesModel", name := "walked", desc := "(I)I" } : Jvm.MethodName) ({ cls := "WellNamesModel", name := "walked", desc := "(I)I" } : Jvm.MethodName)) ∈ lw_all := lw_g (lw_at lw_m8 41 rfl) rfl
theorem q1801 : (Jvm.Cond.code ({ cls := "WellNamesModel", name := "walked", desc := "(I)I" } : Jvm.MethodName) prog_30_method_75_code (4 : Nat) (Option.some Jvm.ClassFile.FieldType.int)) ∈ lw_all := lw_g (lw_at lw_m8 42 rfl) rfl
theorem q1802 : (Jvm.Cond.methodLink "WellNamesModel" (257 : Nat) ({ cls := "WellNamesModel", name := "isSheet", desc := "(I)Z" } : Jvm.MethodName)) ∈ lw_all := lw_g (lw_at lw_m8 43 rfl) rfl
theorem q1803 : (Jvm.Cond.static ({ cls := "WellNamesModel", name := "isSheet", desc := "(I)Z" } : Jvm.MethodName)) ∈ lw_all := lw_g (lw_at lw_m8 44 rfl) rfl
theorem q1804 : (Jvm.Cond.code ({ cls := "WellNamesModel", name := "isSheet", desc := "(I)Z" } : Jvm.MethodName) prog_30_method_92_code (1 : Nat) (Option.some Jvm.ClassFile.FieldType.boolean)) ∈ lw_all := lw_g (lw_at lw_m8 45 rfl) rfl
theorem q1805 : (Jvm.Cond.constantLong "WellNamesModel" (307 : Nat) (3 : Int64)) ∈ lw_all := lw_g (lw_at lw_m8 46 rfl) rfl
theorem q1806 : (Jvm.Cond.methodLink "WellNamesModel" (260 : Nat) ({ cls := "WellNamesModel", name := "isWalk", desc := "(I)Z" } : Jvm.MethodName)) ∈ lw_all := lw_g (lw_at lw_m8 47 rfl) rfl
theorem q1807 : (Jvm.Cond.privateMethod ({ cls := "WellNamesModel", name := "isWalk", desc := "(I)Z" } : Jvm.MethodName)) ∈ lw_tbl := lw_at lw_m8 48 rfl
theorem q1808 : (Jvm.Cond.instanceMethod ({ cls := "WellNamesModel", name := "isWalk", desc := "(I)Z" } : Jvm.MethodName)) ∈ lw_all := lw_g (lw_at lw_m8 49 rfl) rfl
theorem q1809 : (Jvm.Cond.code ({ cls := "WellNamesModel", name := "isWalk", desc := "(I)Z" } : Jvm.MethodName) prog_30_method_74_code (6 : Nat) (Option.some Jvm.ClassFile.FieldType.boolean)) ∈ lw_all := lw_g (lw_at lw_m8 50 rfl) rfl
theorem q1811 : (Jvm.Cond.instanceMethod ({ cls := "WellNamesModel", name := "alive", desc := "(III)I" } : Jvm.MethodName)) ∈ lw_all := lw_g (lw_at lw_m8 52 rfl) rfl
theorem q1812 : (Jvm.Cond.selects "WellNamesModel" ({ cls := "WellNamesModel", name := "alive", desc := "(III)I" } : Jvm.MethodName) ({ cls := "WellNamesModel", name := "alive", desc := "(III)I" } : Jvm.MethodName)) ∈ lw_all := lw_g (lw_at lw_m8 53 rfl) rfl
theorem q1813 : (Jvm.Cond.code ({ cls := "WellNamesModel", name := "alive", desc := "(III)I" } : Jvm.MethodName) prog_30_method_76_code (9 : Nat) (Option.some Jvm.ClassFile.FieldType.int)) ∈ lw_all := lw_g (lw_at lw_m8 54 rfl) rfl
theorem q1815 : (Jvm.Cond.instanceMethod ({ cls := "WellNamesModel", name := "grown", desc := "(III)I" } : Jvm.MethodName)) ∈ lw_all := lw_g (lw_at lw_m8 56 rfl) rfl
theorem q1816 : (Jvm.Cond.selects "WellNamesModel" ({ cls := "WellNamesModel", name := "grown", desc := "(III)I" } : Jvm.MethodName) ({ cls := "WellNamesModel", name := "grown", desc := "(III)I" } : Jvm.MethodName)) ∈ lw_all := lw_g (lw_at lw_m8 57 rfl) rfl
theorem q1817 : (Jvm.Cond.code ({ cls := "WellNamesModel", name := "grown", desc := "(III)I" } : Jvm.MethodName) prog_30_method_77_code (8 : Nat) (Option.some Jvm.ClassFile.FieldType.int)) ∈ lw_all := lw_g (lw_at lw_m8 58 rfl) rfl
theorem q1818 : (Jvm.Cond.constantLong "WellNamesModel" (263 : Nat) (100 : Int64)) ∈ lw_all := lw_g (lw_at lw_m8 59 rfl) rfl
theorem q1820 : (Jvm.Cond.instanceMethod ({ cls := "WellNamesModel", name := "seed", desc := "(I)I" } : Jvm.MethodName)) ∈ lw_all := lw_g (lw_at lw_m8 61 rfl) rfl
theorem q1821 : (Jvm.Cond.selects "WellNamesModel" ({ cls := "WellNamesModel", name := "seed", desc := "(I)I" } : Jvm.MethodName) ({ cls := "WellNamesModel", name := "seed", desc := "(I)I" } : Jvm.MethodName)) ∈ lw_all := lw_g (lw_at lw_m8 62 rfl) rfl
theorem q1822 : (Jvm.Cond.code ({ cls := "WellNamesModel", name := "seed", desc := "(I)I" } : Jvm.MethodName) prog_30_method_78_code (2 : Nat) (Option.some Jvm.ClassFile.FieldType.int)) ∈ lw_all := lw_g (lw_at lw_m8 63 rfl) rfl
theorem q1824 : (Jvm.Cond.instanceMethod ({ cls := "WellNamesModel", name := "voice", desc := "(III)I" } : Jvm.MethodName)) ∈ lw_all := lw_g (lw_at lw_m8 65 rfl) rfl
theorem q1825 : (Jvm.Cond.selects "WellNamesModel" ({ cls := "WellNamesModel", name := "voice", desc := "(III)I" } : Jvm.MethodName) ({ cls := "WellNamesModel", name := "voice", desc := "(III)I" } : Jvm.MethodName)) ∈ lw_all := lw_g (lw_at lw_m8 66 rfl) rfl
theorem q1826 : (Jvm.Cond.code ({ cls := "WellNamesModel", name := "voice", desc := "(III)I" } : Jvm.MethodName) prog_30_method_90_code (4 : Nat) (Option.some Jvm.ClassFile.FieldType.int)) ∈ lw_all := lw_g (lw_at lw_m8 67 rfl) rfl
theorem q1827 : (Jvm.Cond.methodLink "WellNamesModel" (289 : Nat) ({ cls := "WellNamesModel", name := "readsBy", desc := "(I)I" } : Jvm.MethodName)) ∈ lw_all := lw_g (lw_at lw_m8 68 rfl) rfl
theorem q1828 : (Jvm.Cond.privateMethod ({ cls := "WellNamesModel", name := "readsBy", desc := "(I)I" } : Jvm.MethodName)) ∈ lw_tbl := lw_at lw_m8 69 rfl
theorem q1829 : (Jvm.Cond.instanceMethod ({ cls := "WellNamesModel", name := "readsBy", desc := "(I)I" } : Jvm.MethodName)) ∈ lw_all := lw_g (lw_at lw_m8 70 rfl) rfl
theorem q1830 : (Jvm.Cond.code ({ cls := "WellNamesModel", name := "readsBy", desc := "(I)I" } : Jvm.MethodName) prog_30_method_81_code (2 : Nat) (Option.some Jvm.ClassFile.FieldType.int)) ∈ lw_all := lw_g (lw_at lw_m8 71 rfl) rfl
theorem q1831 : (Jvm.Cond.methodLink "WellNamesModel" (277 : Nat) ({ cls := "WellNamesModel", name := "plainReads", desc := "(I)I" } : Jvm.MethodName)) ∈ lw_all := lw_g (lw_at lw_m8 72 rfl) rfl
theorem q1832 : (Jvm.Cond.privateMethod ({ cls := "WellNamesModel", name := "plainReads", desc := "(I)I" } : Jvm.MethodName)) ∈ lw_tbl := lw_at lw_m8 73 rfl
theorem q1833 : (Jvm.Cond.instanceMethod ({ cls := "WellNamesModel", name := "plainReads", desc := "(I)I" } : Jvm.MethodName)) ∈ lw_all := lw_g (lw_at lw_m8 74 rfl) rfl
theorem q1834 : (Jvm.Cond.code ({ cls := "WellNamesModel", name := "plainReads", desc := "(I)I" } : Jvm.MethodName) prog_30_method_80_code (2 : Nat) (Option.some Jvm.ClassFile.FieldType.int)) ∈ lw_all := lw_g (lw_at lw_m8 75 rfl) rfl
theorem q1835 : (Jvm.Cond.methodLink "WellNamesModel" (268 : Nat) ({ cls := "WellNamesModel", name := "ran", desc := "(I)V" } : Jvm.MethodName)) ∈ lw_all := lw_g (lw_at lw_m8 76 rfl) rfl
theorem q1836 : (Jvm.Cond.privateMethod ({ cls := "WellNamesModel", name := "ran", desc := "(I)V" } : Jvm.MethodName)) ∈ lw_tbl := lw_at lw_m8 77 rfl
theorem q1837 : (Jvm.Cond.instanceMethod ({ cls := "WellNamesModel", name := "ran", desc := "(I)V" } : Jvm.MethodName)) ∈ lw_all := lw_g (lw_at lw_m8 78 rfl) rfl
theorem q1838 : (Jvm.Cond.code ({ cls := "WellNamesModel", name := "ran", desc := "(I)V" } : Jvm.MethodName) prog_30_method_79_code (2 : Nat) (Option.none : Option Jvm.ClassFile.FieldType)) ∈ lw_all := lw_g (lw_at lw_m8 79 rfl) rfl
theorem q1839 : (Jvm.Cond.methodLink "WellNamesModel" (301 : Nat) ({ cls := "WellNamesModel", name := "givesBy", desc := "(I)I" } : Jvm.MethodName)) ∈ lw_all := lw_g (lw_at lw_m8 80 rfl) rfl
theorem q1840 : (Jvm.Cond.privateMethod ({ cls := "WellNamesModel", name := "givesBy", desc := "(I)I" } : Jvm.MethodName)) ∈ lw_tbl := lw_at lw_m8 81 rfl
theorem q1841 : (Jvm.Cond.instanceMethod ({ cls := "WellNamesModel", name := "givesBy", desc := "(I)I" } : Jvm.MethodName)) ∈ lw_all := lw_g (lw_at lw_m8 82 rfl) rfl
theorem q1842 : (Jvm.Cond.code ({ cls := "WellNamesModel", name := "givesBy", desc := "(I)I" } : Jvm.MethodName) prog_30_method_87_code (2 : Nat) (Option.some Jvm.ClassFile.FieldType.int)) ∈ lw_all := lw_g (lw_at lw_m8 83 rfl) rfl
theorem q1843 : (Jvm.Cond.methodLink "WellNamesModel" (298 : Nat) ({ cls := "WellNamesModel", name := "poemGives", desc := "(I)I" } : Jvm.MethodName)) ∈ lw_all := lw_g (lw_at lw_m8 84 rfl) rfl
theorem q1844 : (Jvm.Cond.privateMethod ({ cls := "WellNamesModel", name := "poemGives", desc := "(I)I" } : Jvm.MethodName)) ∈ lw_tbl := lw_at lw_m8 85 rfl
theorem q1845 : (Jvm.Cond.instanceMethod ({ cls := "WellNamesModel", name := "poemGives", desc := "(I)I" } : Jvm.MethodName)) ∈ lw_all := lw_g (lw_at lw_m8 86 rfl) rfl
theorem q1846 : (Jvm.Cond.code ({ cls := "WellNamesModel", name := "poemGives", desc := "(I)I" } : Jvm.MethodName) prog_30_method_86_code (3 : Nat) (Option.some Jvm.ClassFile.FieldType.int)) ∈ lw_all := lw_g (lw_at lw_m8 87 rfl) rfl
theorem q1847 : (Jvm.Cond.methodLink "WellNamesModel" (292 : Nat) ({ cls := "WellNamesModel", name := "plainGives", desc := "(I)I" } : Jvm.MethodName)) ∈ lw_all := lw_g (lw_at lw_m8 88 rfl) rfl
theorem q1848 : (Jvm.Cond.privateMethod ({ cls := "WellNamesModel", name := "plainGives", desc := "(I)I" } : Jvm.MethodName)) ∈ lw_tbl := lw_at lw_m8 89 rfl
theorem q1849 : (Jvm.Cond.instanceMethod ({ cls := "WellNamesModel", name := "plainGives", desc := "(I)I" } : Jvm.MethodName)) ∈ lw_all := lw_g (lw_at lw_m8 90 rfl) rfl
theorem q1850 : (Jvm.Cond.code ({ cls := "WellNamesModel", name := "plainGives", desc := "(I)I" } : Jvm.MethodName) prog_30_method_85_code (2 : Nat) (Option.some Jvm.ClassFile.FieldType.int)) ∈ lw_all := lw_g (lw_at lw_m8 91 rfl) rfl
theorem q1851 : (Jvm.Cond.methodLink "WellNamesModel" (295 : Nat) ({ cls := "WellNamesModel", name := "takesBy", desc := "(I)I" } : Jvm.MethodName)) ∈ lw_all := lw_g (lw_at lw_m8 92 rfl) rfl
theorem q1852 : (Jvm.Cond.privateMethod ({ cls := "WellNamesModel", name := "takesBy", desc := "(I)I" } : Jvm.MethodName)) ∈ lw_tbl := lw_at lw_m8 93 rfl
theorem q1853 : (Jvm.Cond.instanceMethod ({ cls := "WellNamesModel", name := "takesBy", desc := "(I)I" } : Jvm.MethodName)) ∈ lw_all := lw_g (lw_at lw_m8 94 rfl) rfl
theorem q1854 : (Jvm.Cond.code ({ cls := "WellNamesModel", name := "takesBy", desc := "(I)I" } : Jvm.MethodName) prog_30_method_84_code (2 : Nat) (Option.some Jvm.ClassFile.FieldType.int)) ∈ lw_all := lw_g (lw_at lw_m8 95 rfl) rfl
theorem q1855 : (Jvm.Cond.methodLink "WellNamesModel" (286 : Nat) ({ cls := "WellNamesModel", name := "lawTakes", desc := "(I)I" } : Jvm.MethodName)) ∈ lw_all := lw_g (lw_at lw_m8 96 rfl) rfl
theorem q1856 : (Jvm.Cond.privateMethod ({ cls := "WellNamesModel", name := "lawTakes", desc := "(I)I" } : Jvm.MethodName)) ∈ lw_tbl := lw_at lw_m8 97 rfl
theorem q1857 : (Jvm.Cond.instanceMethod ({ cls := "WellNamesModel", name := "lawTakes", desc := "(I)I" } : Jvm.MethodName)) ∈ lw_all := lw_g (lw_at lw_m8 98 rfl) rfl
theorem q1858 : (Jvm.Cond.code ({ cls := "WellNamesModel", name := "lawTakes", desc := "(I)I" } : Jvm.MethodName) prog_30_method_83_code (2 : Nat) (Option.some Jvm.ClassFile.FieldType.int)) ∈ lw_all := lw_g (lw_at lw_m8 99 rfl) rfl
theorem q1859 : (Jvm.Cond.methodLink "WellNamesModel" (283 : Nat) ({ cls := "WellNamesModel", name := "plainTakes", desc := "(I)I" } : Jvm.MethodName)) ∈ lw_all := lw_g (lw_at lw_m8 100 rfl) rfl
theorem q1860 : (Jvm.Cond.privateMethod ({ cls := "WellNamesModel", name := "plainTakes", desc := "(I)I" } : Jvm.MethodName)) ∈ lw_tbl := lw_at lw_m8 101 rfl
theorem q1861 : (Jvm.Cond.instanceMethod ({ cls := "WellNamesModel", name := "plainTakes", desc := "(I)I" } : Jvm.MethodName)) ∈ lw_all := lw_g (lw_at lw_m8 102 rfl) rfl
theorem q1862 : (Jvm.Cond.code ({ cls := "WellNamesModel", name := "plainTakes", desc := "(I)I" } : Jvm.MethodName) prog_30_method_82_code (2 : Nat) (Option.some Jvm.ClassFile.FieldType.int)) ∈ lw_all := lw_g (lw_at lw_m8 103 rfl) rfl
theorem q1863 : (Jvm.Cond.methodLink "WellNamesModel" (309 : Nat) ({ cls := "WellNamesModel", name := "tellsBy", desc := "(I)I" } : Jvm.MethodName)) ∈ lw_all := lw_g (lw_at lw_m8 104 rfl) rfl
theorem q1864 : (Jvm.Cond.privateMethod ({ cls := "WellNamesModel", name := "tellsBy", desc := "(I)I" } : Jvm.MethodName)) ∈ lw_tbl := lw_at lw_m8 105 rfl
theorem q1865 : (Jvm.Cond.instanceMethod ({ cls := "WellNamesModel", name := "tellsBy", desc := "(I)I" } : Jvm.MethodName)) ∈ lw_all := lw_g (lw_at lw_m8 106 rfl) rfl
theorem q1866 : (Jvm.Cond.code ({ cls := "WellNamesModel", name := "tellsBy", desc := "(I)I" } : Jvm.MethodName) prog_30_method_89_code (3 : Nat) (Option.some Jvm.ClassFile.FieldType.int)) ∈ lw_all := lw_g (lw_at lw_m8 107 rfl) rfl
theorem q1867 : (Jvm.Cond.methodLink "WellNamesModel" (304 : Nat) ({ cls := "WellNamesModel", name := "plainTells", desc := "(I)I" } : Jvm.MethodName)) ∈ lw_all := lw_g (lw_at lw_m8 108 rfl) rfl
theorem q1868 : (Jvm.Cond.privateMethod ({ cls := "WellNamesModel", name := "plainTells", desc := "(I)I" } : Jvm.MethodName)) ∈ lw_tbl := lw_at lw_m8 109 rfl
theorem q1869 : (Jvm.Cond.instanceMethod ({ cls := "WellNamesModel", name := "plainTells", desc := "(I)I" } : Jvm.MethodName)) ∈ lw_all := lw_g (lw_at lw_m8 110 rfl) rfl
theorem q1870 : (Jvm.Cond.code ({ cls := "WellNamesModel", name := "plainTells", desc := "(I)I" } : Jvm.MethodName) prog_30_method_88_code (3 : Nat) (Option.some Jvm.ClassFile.FieldType.int)) ∈ lw_all := lw_g (lw_at lw_m8 111 rfl) rfl
theorem q1872 : (Jvm.Cond.instanceMethod ({ cls := "WellNamesModel", name := "trace", desc := "(I)I" } : Jvm.MethodName)) ∈ lw_all := lw_g (lw_at lw_m8 113 rfl) rfl
theorem q1873 : (Jvm.Cond.selects "WellNamesModel" ({ cls := "WellNamesModel", name := "trace", desc := "(I)I" } : Jvm.MethodName) ({ cls := "WellNamesModel", name := "trace", desc := "(I)I" } : Jvm.MethodName)) ∈ lw_all := lw_g (lw_at lw_m8 114 rfl) rfl
theorem q1874 : (Jvm.Cond.code ({ cls := "WellNamesModel", name := "trace", desc := "(I)I" } : Jvm.MethodName) prog_30_method_91_code (2 : Nat) (Option.some Jvm.ClassFile.FieldType.int)) ∈ lw_all := lw_g (lw_at lw_m8 115 rfl) rfl
theorem q1876 : (Jvm.Cond.instanceMethod ({ cls := "WellNamesModel", name := "sheet", desc := "(III)I" } : Jvm.MethodName)) ∈ lw_all := lw_g (lw_at lw_m8 117 rfl) rfl
theorem q1877 : (Jvm.Cond.selects "WellNamesModel" ({ cls := "WellNamesModel", name := "sheet", desc := "(III)I" } : Jvm.MethodName) ({ cls := "WellNamesModel", name := "sheet", desc := "(III)I" } : Jvm.MethodName)) ∈ lw_all := lw_g (lw_at lw_m8 118 rfl) rfl
theorem q1878 : (Jvm.Cond.code ({ cls := "WellNamesModel", name := "sheet", desc := "(III)I" } : Jvm.MethodName) prog_30_method_93_code (5 : Nat) (Option.some Jvm.ClassFile.FieldType.int)) ∈ lw_all := lw_g (lw_at lw_m8 119 rfl) rfl
theorem q1880 : (Jvm.Cond.instanceMethod ({ cls := "WellNamesModel", name := "put", desc := "(III)I" } : Jvm.MethodName)) ∈ lw_all := lw_g (lw_at lw_m8 121 rfl) rfl
theorem q1881 : (Jvm.Cond.selects "WellNamesModel" ({ cls := "WellNamesModel", name := "put", desc := "(III)I" } : Jvm.MethodName) ({ cls := "WellNamesModel", name := "put", desc := "(III)I" } : Jvm.MethodName)) ∈ lw_all := lw_g (lw_at lw_m8 122 rfl) rfl
theorem q1882 : (Jvm.Cond.code ({ cls := "WellNamesModel", name := "put", desc := "(III)I" } : Jvm.MethodName) prog_30_method_95_code (5 : Nat) (Option.some Jvm.ClassFile.FieldType.int)) ∈ lw_all := lw_g (lw_at lw_m8 123 rfl) rfl
theorem q1883 : (Jvm.Cond.methodLink "WellNamesModel" (312 : Nat) ({ cls := "WellNamesModel", name := "wrong", desc := "(I)I" } : Jvm.MethodName)) ∈ lw_all := lw_g (lw_at lw_m8 124 rfl) rfl
theorem q1884 : (Jvm.Cond.privateMethod ({ cls := "WellNamesModel", name := "wrong", desc := "(I)I" } : Jvm.MethodName)) ∈ lw_tbl := lw_at lw_m8 125 rfl
theorem q1885 : (Jvm.Cond.instanceMethod ({ cls := "WellNamesModel", name := "wrong", desc := "(I)I" } : Jvm.MethodName)) ∈ lw_all := lw_g (lw_at lw_m8 126 rfl) rfl
theorem q1886 : (Jvm.Cond.code ({ cls := "WellNamesModel", name := "wrong", desc := "(I)I" } : Jvm.MethodName) prog_30_method_94_code (2 : Nat) (Option.some Jvm.ClassFile.FieldType.int)) ∈ lw_all := lw_g (lw_at lw_m8 127 rfl) rfl
theorem q1888 : (Jvm.Cond.instanceMethod ({ cls := "WellNamesModel", name := "move", desc := "(IIIII)I" } : Jvm.MethodName)) ∈ lw_all := lw_g (lw_at lw_m8 129 rfl) rfl
theorem q1889 : (Jvm.Cond.selects "WellNamesModel" ({ cls := "WellNamesModel", name := "move", desc := "(IIIII)I" } : Jvm.MethodName) ({ cls := "WellNamesModel", name := "move", desc := "(IIIII)I" } : Jvm.MethodName)) ∈ lw_all := lw_g (lw_at lw_m8 130 rfl) rfl
theorem q1890 : (Jvm.Cond.code ({ cls := "WellNamesModel", name := "move", desc := "(IIIII)I" } : Jvm.MethodName) prog_30_method_96_code (7 : Nat) (Option.some Jvm.ClassFile.FieldType.int)) ∈ lw_all := lw_g (lw_at lw_m8 131 rfl) rfl
theorem q1892 : (Jvm.Cond.instanceMethod ({ cls := "WellNamesModel", name := "waters", desc := "(I)I" } : Jvm.MethodName)) ∈ lw_all := lw_g (lw_at lw_m8 133 rfl) rfl
theorem q1893 : (Jvm.Cond.selects "WellNamesModel" ({ cls := "WellNamesModel", name := "waters", desc := "(I)I" } : Jvm.MethodName) ({ cls := "WellNamesModel", name := "waters", desc := "(I)I" } : Jvm.MethodName)) ∈ lw_all := lw_g (lw_at lw_m8 134 rfl) rfl
theorem q1894 : (Jvm.Cond.code ({ cls := "WellNamesModel", name := "waters", desc := "(I)I" } : Jvm.MethodName) prog_30_method_97_code (4 : Nat) (Option.some Jvm.ClassFile.FieldType.int)) ∈ lw_all := lw_g (lw_at lw_m8 135 rfl) rfl
theorem q1896 : (Jvm.Cond.instanceMethod ({ cls := "WellNamesModel", name := "judge", desc := "(I)I" } : Jvm.MethodName)) ∈ lw_all := lw_g (lw_at lw_m8 137 rfl) rfl
theorem q1897 : (Jvm.Cond.selects "WellNamesModel" ({ cls := "WellNamesModel", name := "judge", desc := "(I)I" } : Jvm.MethodName) ({ cls := "WellNamesModel", name := "judge", desc := "(I)I" } : Jvm.MethodName)) ∈ lw_all := lw_g (lw_at lw_m8 138 rfl) rfl
theorem q1898 : (Jvm.Cond.code ({ cls := "WellNamesModel", name := "judge", desc := "(I)I" } : Jvm.MethodName) prog_30_method_98_code (4 : Nat) (Option.some Jvm.ClassFile.FieldType.int)) ∈ lw_all := lw_g (lw_at lw_m8 139 rfl) rfl
theorem q1900 : (Jvm.Cond.instanceMethod ({ cls := "WellNamesModel", name := "image", desc := "()I" } : Jvm.MethodName)) ∈ lw_all := lw_g (lw_at lw_m8 141 rfl) rfl
theorem q1901 : (Jvm.Cond.selects "WellNamesModel" ({ cls := "WellNamesModel", name := "image", desc := "()I" } : Jvm.MethodName) ({ cls := "WellNamesModel", name := "image", desc := "()I" } : Jvm.MethodName)) ∈ lw_all := lw_g (lw_at lw_m8 142 rfl) rfl
theorem q1902 : (Jvm.Cond.code ({ cls := "WellNamesModel", name := "image", desc := "()I" } : Jvm.MethodName) prog_30_method_99_code (2 : Nat) (Option.some Jvm.ClassFile.FieldType.int)) ∈ lw_all := lw_g (lw_at lw_m8 143 rfl) rfl
theorem q1904 : (Jvm.Cond.instanceMethod ({ cls := "WellNamesModel", name := "restore", desc := "()I" } : Jvm.MethodName)) ∈ lw_all := lw_g (lw_at lw_m8 145 rfl) rfl
theorem q1905 : (Jvm.Cond.selects "WellNamesModel" ({ cls := "WellNamesModel", name := "restore", desc := "()I" } : Jvm.MethodName) ({ cls := "WellNamesModel", name := "restore", desc := "()I" } : Jvm.MethodName)) ∈ lw_all := lw_g (lw_at lw_m8 146 rfl) rfl
theorem q1906 : (Jvm.Cond.code ({ cls := "WellNamesModel", name := "restore", desc := "()I" } : Jvm.MethodName) prog_30_method_100_code (2 : Nat) (Option.some Jvm.ClassFile.FieldType.int)) ∈ lw_all := lw_g (lw_at lw_m8 147 rfl) rfl
theorem q1908 : (Jvm.Cond.instanceMethod ({ cls := "WellNamesModel", name := "tell", desc := "(I)I" } : Jvm.MethodName)) ∈ lw_all := lw_g (lw_at lw_m8 149 rfl) rfl
theorem q1909 : (Jvm.Cond.selects "WellNamesModel" ({ cls := "WellNamesModel", name := "tell", desc := "(I)I" } : Jvm.MethodName) ({ cls := "WellNamesModel", name := "tell", desc := "(I)I" } : Jvm.MethodName)) ∈ lw_all := lw_g (lw_at lw_m8 150 rfl) rfl
theorem q1910 : (Jvm.Cond.code ({ cls := "WellNamesModel", name := "tell", desc := "(I)I" } : Jvm.MethodName) prog_30_method_101_code (2 : Nat) (Option.some Jvm.ClassFile.FieldType.int)) ∈ lw_all := lw_g (lw_at lw_m8 151 rfl) rfl
theorem q1912 : (Jvm.Cond.instanceMethod ({ cls := "WellNamesModel", name := "check", desc := "()I" } : Jvm.MethodName)) ∈ lw_all := lw_g (lw_at lw_m8 153 rfl) rfl
theorem q1913 : (Jvm.Cond.selects "WellNamesModel" ({ cls := "WellNamesModel", name := "check", desc := "()I" } : Jvm.MethodName) ({ cls := "WellNamesModel", name := "check", desc := "()I" } : Jvm.MethodName)) ∈ lw_all := lw_g (lw_at lw_m8 154 rfl) rfl
theorem q1914 : (Jvm.Cond.code ({ cls := "WellNamesModel", name := "check", desc := "()I" } : Jvm.MethodName) prog_30_method_102_code (4 : Nat) (Option.some Jvm.ClassFile.FieldType.int)) ∈ lw_all := lw_g (lw_at lw_m8 155 rfl) rfl
theorem q1915 : (Jvm.Cond.methodLink "WellNamesModel" (318 : Nat) ({ cls := "WellNamesModel", name := "laysAside", desc := "()V" } : Jvm.MethodName)) ∈ lw_all := lw_g (lw_at lw_m8 156 rfl) rfl
theorem q1916 : (Jvm.Cond.privateMethod ({ cls := "WellNamesModel", name := "laysAside", desc := "()V" } : Jvm.MethodName)) ∈ lw_tbl := lw_at lw_m8 157 rfl
theorem q1917 : (Jvm.Cond.instanceMethod ({ cls := "WellNamesModel", name := "laysAside", desc := "()V" } : Jvm.MethodName)) ∈ lw_all := lw_g (lw_at lw_m8 158 rfl) rfl
theorem q1918 : (Jvm.Cond.code ({ cls := "WellNamesModel", name := "laysAside", desc := "()V" } : Jvm.MethodName) prog_30_method_5_code (2 : Nat) (Option.none : Option Jvm.ClassFile.FieldType)) ∈ lw_all := lw_g (lw_at lw_m8 159 rfl) rfl
theorem q1919 : (Jvm.Cond.methodLink "WellNamesModel" (321 : Nat) ({ cls := "WellNamesModel", name := "takesBack", desc := "(I)I" } : Jvm.MethodName)) ∈ lw_all := lw_g (lw_at lw_m8 160 rfl) rfl
theorem q1920 : (Jvm.Cond.privateMethod ({ cls := "WellNamesModel", name := "takesBack", desc := "(I)I" } : Jvm.MethodName)) ∈ lw_tbl := lw_at lw_m8 161 rfl
theorem q1921 : (Jvm.Cond.instanceMethod ({ cls := "WellNamesModel", name := "takesBack", desc := "(I)I" } : Jvm.MethodName)) ∈ lw_all := lw_g (lw_at lw_m8 162 rfl) rfl
theorem q1922 : (Jvm.Cond.code ({ cls := "WellNamesModel", name := "takesBack", desc := "(I)I" } : Jvm.MethodName) prog_30_method_6_code (3 : Nat) (Option.some Jvm.ClassFile.FieldType.int)) ∈ lw_all := lw_g (lw_at lw_m8 163 rfl) rfl
theorem q1924 : (Jvm.Cond.instanceMethod ({ cls := "WellNamesModel", name := "count", desc := "(I)I" } : Jvm.MethodName)) ∈ lw_all := lw_g (lw_at lw_m8 165 rfl) rfl
theorem q1925 : (Jvm.Cond.selects "WellNamesModel" ({ cls := "WellNamesModel", name := "count", desc := "(I)I" } : Jvm.MethodName) ({ cls := "WellNamesModel", name := "count", desc := "(I)I" } : Jvm.MethodName)) ∈ lw_all := lw_g (lw_at lw_m8 166 rfl) rfl
theorem q1926 : (Jvm.Cond.code ({ cls := "WellNamesModel", name := "count", desc := "(I)I" } : Jvm.MethodName) prog_30_method_104_code (2 : Nat) (Option.some Jvm.ClassFile.FieldType.int)) ∈ lw_all := lw_g (lw_at lw_m8 167 rfl) rfl
theorem q1927 : (Jvm.Cond.methodLink "WellNamesModel" (324 : Nat) ({ cls := "WellNamesModel", name := "sum", desc := "(II)I" } : Jvm.MethodName)) ∈ lw_all := lw_g (lw_at lw_m8 168 rfl) rfl
theorem q1928 : (Jvm.Cond.privateMethod ({ cls := "WellNamesModel", name := "sum", desc := "(II)I" } : Jvm.MethodName)) ∈ lw_tbl := lw_at lw_m8 169 rfl
theorem q1929 : (Jvm.Cond.instanceMethod ({ cls := "WellNamesModel", name := "sum", desc := "(II)I" } : Jvm.MethodName)) ∈ lw_all := lw_g (lw_at lw_m8 170 rfl) rfl
theorem q1930 : (Jvm.Cond.code ({ cls := "WellNamesModel", name := "sum", desc := "(II)I" } : Jvm.MethodName) prog_30_method_103_code (5 : Nat) (Option.some Jvm.ClassFile.FieldType.int)) ∈ lw_all := lw_g (lw_at lw_m8 171 rfl) rfl
theorem q1932 : (Jvm.Cond.instanceMethod ({ cls := "WellNamesModel", name := "told", desc := "(I)I" } : Jvm.MethodName)) ∈ lw_all := lw_g (lw_at lw_m8 173 rfl) rfl
theorem q1933 : (Jvm.Cond.selects "WellNamesModel" ({ cls := "WellNamesModel", name := "told", desc := "(I)I" } : Jvm.MethodName) ({ cls := "WellNamesModel", name := "told", desc := "(I)I" } : Jvm.MethodName)) ∈ lw_all := lw_g (lw_at lw_m8 174 rfl) rfl
theorem q1934 : (Jvm.Cond.code ({ cls := "WellNamesModel", name := "told", desc := "(I)I" } : Jvm.MethodName) prog_30_method_105_code (2 : Nat) (Option.some Jvm.ClassFile.FieldType.int)) ∈ lw_all := lw_g (lw_at lw_m8 175 rfl) rfl
theorem q1935 : (Jvm.Cond.constantLong "WellNamesModel" (326 : Nat) (5 : Int64)) ∈ lw_all := lw_g (lw_at lw_m8 176 rfl) rfl
theorem in_X6 : ∀ w ∈ wsX60, w ∈ lw_all := lw_in wsX60 [1455, 1457, 1459, 1461, 1463, 1465, 1467, 1469, 1471, 1473, 1475, 1477, 1479, 1481, 1483, 1485, 1487, 1489, 1491, 1493, 1495, 1497, 1499, 1501, 1503] (by decide +kernel) (by decide +kernel)
