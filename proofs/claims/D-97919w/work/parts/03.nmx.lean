/-! java/lang/Throwable -/
set_option maxRecDepth 100000
def RJ0 : String := "java/lang/Throwable"
def TJ0 : u_T := fun k => match k with
  | 0 => ("java/lang/Throwable", "cause", "Ljava/lang/Throwable;", false)
  | 1 => ("java/lang/Throwable", "stackTrace", "[Ljava/lang/StackTraceElement;", false)
  | 2 => ("java/lang/Throwable", "suppressedExceptions", "Ljava/util/List;", false)
  | 3 => ("java/lang/Throwable", "detailMessage", "Ljava/lang/String;", false)
  | _ => ("java/lang/Throwable", "backtrace", "Ljava/lang/Object;", false)
def tyJ0 : Nat → FieldType := fun k => match k with
  | 0 => .object "java/lang/Throwable"
  | 1 => .array (.object "java/lang/StackTraceElement")
  | 2 => .object "java/util/List"
  | 3 => .object "java/lang/String"
  | _ => .object "java/lang/Object"
abbrev wsJ00 : List Cond := u_ws RJ0 TJ0 5
theorem nmJ0 : ∀ a, a < 5 → ∀ b, b < 5 → a ≠ b → (TJ0 a).2.1 ≠ (TJ0 b).2.1 := by decide +kernel
theorem tyJ0_ok : ∀ k, k < 5 → parseFieldDescriptor (TJ0 k).2.2.1 = some (tyJ0 k) := by decide +kernel
abbrev cJ0_init : ByteArray := prog_40_method_1_code
def yJ0_init : MethodName := ⟨RJ0, "<init>", "()V"⟩
def dkwJ0_init_1 : List UInt8 := [182, 0, 27, 87, 177]
abbrev dktJ0_init_1 : List UInt8 := dkwJ0_init_1 ++ []
def dkwJ0_init_0 : List UInt8 := [42, 183, 0, 1, 42, 42, 181, 0, 7, 42, 178, 0, 13, 181, 0, 17, 42, 178, 0, 20, 181, 0, 24, 42]
abbrev dktJ0_init_0 : List UInt8 := dkwJ0_init_0 ++ dktJ0_init_1
theorem dksJ0_init_0 : cJ0_init.data.toList.drop 0 = dktJ0_init_0 := by decide +kernel
theorem dksJ0_init_1 : cJ0_init.data.toList.drop 24 = dktJ0_init_1 := dk_seg dksJ0_init_0 24 rfl rfl
theorem dJ0_init_0 : decode cJ0_init 0 = .ok (.aload_n 0, 1) := dk_42 (dk_at dksJ0_init_0 0 rfl rfl)
theorem dJ0_init_1 : decode cJ0_init 1 = .ok (.invokespecial 1, 3) := dk_183 0 1 (dk_at dksJ0_init_0 1 rfl rfl)
theorem dJ0_init_4 : decode cJ0_init 4 = .ok (.aload_n 0, 1) := dk_42 (dk_at dksJ0_init_0 4 rfl rfl)
theorem dJ0_init_5 : decode cJ0_init 5 = .ok (.aload_n 0, 1) := dk_42 (dk_at dksJ0_init_0 5 rfl rfl)
theorem dJ0_init_6 : decode cJ0_init 6 = .ok (.putfield 7, 3) := dk_181 0 7 (dk_at dksJ0_init_0 6 rfl rfl)
theorem dJ0_init_9 : decode cJ0_init 9 = .ok (.aload_n 0, 1) := dk_42 (dk_at dksJ0_init_0 9 rfl rfl)
theorem dJ0_init_10 : decode cJ0_init 10 = .ok (.getstatic 13, 3) := dk_178 0 13 (dk_at dksJ0_init_0 10 rfl rfl)
theorem dJ0_init_13 : decode cJ0_init 13 = .ok (.putfield 17, 3) := dk_181 0 17 (dk_at dksJ0_init_0 13 rfl rfl)
theorem dJ0_init_16 : decode cJ0_init 16 = .ok (.aload_n 0, 1) := dk_42 (dk_at dksJ0_init_0 16 rfl rfl)
theorem dJ0_init_17 : decode cJ0_init 17 = .ok (.getstatic 20, 3) := dk_178 0 20 (dk_at dksJ0_init_0 17 rfl rfl)
theorem dJ0_init_20 : decode cJ0_init 20 = .ok (.putfield 24, 3) := dk_181 0 24 (dk_at dksJ0_init_0 20 rfl rfl)
theorem dJ0_init_23 : decode cJ0_init 23 = .ok (.aload_n 0, 1) := dk_42 (dk_at dksJ0_init_0 23 rfl rfl)
theorem dJ0_init_24 : decode cJ0_init 24 = .ok (.invokevirtual 27, 3) := dk_182 0 27 (dk_at dksJ0_init_1 0 rfl rfl)
theorem dJ0_init_27 : decode cJ0_init 27 = .ok (.pop, 1) := dk_87 (dk_at dksJ0_init_1 3 rfl rfl)
theorem dJ0_init_28 : decode cJ0_init 28 = .ok (.return_, 1) := dk_177 (dk_at dksJ0_init_1 4 rfl rfl)
abbrev cJ0_init_2 : ByteArray := prog_40_method_5_code
def yJ0_init_2 : MethodName := ⟨RJ0, "<init>", "(Ljava/lang/String;Ljava/lang/Throwable;ZZ)V"⟩
def dkwJ0_init_2_2 : List UInt8 := [44, 181, 0, 7, 29, 154, 0, 8, 42, 1, 181, 0, 24, 177]
abbrev dktJ0_init_2_2 : List UInt8 := dkwJ0_init_2_2 ++ []
def dkwJ0_init_2_1 : List UInt8 := [21, 4, 153, 0, 11, 42, 182, 0, 27, 87, 167, 0, 8, 42, 1, 181, 0, 17, 42, 43, 181, 0, 31, 42]
abbrev dktJ0_init_2_1 : List UInt8 := dkwJ0_init_2_1 ++ dktJ0_init_2_2
def dkwJ0_init_2_0 : List UInt8 := [42, 183, 0, 1, 42, 42, 181, 0, 7, 42, 178, 0, 13, 181, 0, 17, 42, 178, 0, 20, 181, 0, 24]
abbrev dktJ0_init_2_0 : List UInt8 := dkwJ0_init_2_0 ++ dktJ0_init_2_1
theorem dksJ0_init_2_0 : cJ0_init_2.data.toList.drop 0 = dktJ0_init_2_0 := by decide +kernel
theorem dksJ0_init_2_1 : cJ0_init_2.data.toList.drop 23 = dktJ0_init_2_1 := dk_seg dksJ0_init_2_0 23 rfl rfl
theorem dksJ0_init_2_2 : cJ0_init_2.data.toList.drop 47 = dktJ0_init_2_2 := dk_seg dksJ0_init_2_1 24 rfl rfl
theorem dJ0_init_2_0 : decode cJ0_init_2 0 = .ok (.aload_n 0, 1) := dk_42 (dk_at dksJ0_init_2_0 0 rfl rfl)
theorem dJ0_init_2_1 : decode cJ0_init_2 1 = .ok (.invokespecial 1, 3) := dk_183 0 1 (dk_at dksJ0_init_2_0 1 rfl rfl)
theorem dJ0_init_2_4 : decode cJ0_init_2 4 = .ok (.aload_n 0, 1) := dk_42 (dk_at dksJ0_init_2_0 4 rfl rfl)
theorem dJ0_init_2_5 : decode cJ0_init_2 5 = .ok (.aload_n 0, 1) := dk_42 (dk_at dksJ0_init_2_0 5 rfl rfl)
theorem dJ0_init_2_6 : decode cJ0_init_2 6 = .ok (.putfield 7, 3) := dk_181 0 7 (dk_at dksJ0_init_2_0 6 rfl rfl)
theorem dJ0_init_2_9 : decode cJ0_init_2 9 = .ok (.aload_n 0, 1) := dk_42 (dk_at dksJ0_init_2_0 9 rfl rfl)
theorem dJ0_init_2_10 : decode cJ0_init_2 10 = .ok (.getstatic 13, 3) := dk_178 0 13 (dk_at dksJ0_init_2_0 10 rfl rfl)
theorem dJ0_init_2_13 : decode cJ0_init_2 13 = .ok (.putfield 17, 3) := dk_181 0 17 (dk_at dksJ0_init_2_0 13 rfl rfl)
theorem dJ0_init_2_16 : decode cJ0_init_2 16 = .ok (.aload_n 0, 1) := dk_42 (dk_at dksJ0_init_2_0 16 rfl rfl)
theorem dJ0_init_2_17 : decode cJ0_init_2 17 = .ok (.getstatic 20, 3) := dk_178 0 20 (dk_at dksJ0_init_2_0 17 rfl rfl)
theorem dJ0_init_2_20 : decode cJ0_init_2 20 = .ok (.putfield 24, 3) := dk_181 0 24 (dk_at dksJ0_init_2_0 20 rfl rfl)
theorem dJ0_init_2_23 : decode cJ0_init_2 23 = .ok (.iload 4, 2) := dk_21 4 (dk_at dksJ0_init_2_1 0 rfl rfl)
theorem dJ0_init_2_25 : decode cJ0_init_2 25 = .ok (.ifCond .eq 11, 3) := dk_153 0 11 (dk_at dksJ0_init_2_1 2 rfl rfl)
theorem dJ0_init_2_28 : decode cJ0_init_2 28 = .ok (.aload_n 0, 1) := dk_42 (dk_at dksJ0_init_2_1 5 rfl rfl)
theorem dJ0_init_2_29 : decode cJ0_init_2 29 = .ok (.invokevirtual 27, 3) := dk_182 0 27 (dk_at dksJ0_init_2_1 6 rfl rfl)
theorem dJ0_init_2_32 : decode cJ0_init_2 32 = .ok (.pop, 1) := dk_87 (dk_at dksJ0_init_2_1 9 rfl rfl)
theorem dJ0_init_2_33 : decode cJ0_init_2 33 = .ok (.goto 8, 3) := dk_167 0 8 (dk_at dksJ0_init_2_1 10 rfl rfl)
theorem dJ0_init_2_36 : decode cJ0_init_2 36 = .ok (.aload_n 0, 1) := dk_42 (dk_at dksJ0_init_2_1 13 rfl rfl)
theorem dJ0_init_2_37 : decode cJ0_init_2 37 = .ok (.aconst_null, 1) := dk_1 (dk_at dksJ0_init_2_1 14 rfl rfl)
theorem dJ0_init_2_38 : decode cJ0_init_2 38 = .ok (.putfield 17, 3) := dk_181 0 17 (dk_at dksJ0_init_2_1 15 rfl rfl)
theorem dJ0_init_2_41 : decode cJ0_init_2 41 = .ok (.aload_n 0, 1) := dk_42 (dk_at dksJ0_init_2_1 18 rfl rfl)
theorem dJ0_init_2_42 : decode cJ0_init_2 42 = .ok (.aload_n 1, 1) := dk_43 (dk_at dksJ0_init_2_1 19 rfl rfl)
theorem dJ0_init_2_43 : decode cJ0_init_2 43 = .ok (.putfield 31, 3) := dk_181 0 31 (dk_at dksJ0_init_2_1 20 rfl rfl)
theorem dJ0_init_2_46 : decode cJ0_init_2 46 = .ok (.aload_n 0, 1) := dk_42 (dk_at dksJ0_init_2_1 23 rfl rfl)
theorem dJ0_init_2_47 : decode cJ0_init_2 47 = .ok (.aload_n 2, 1) := dk_44 (dk_at dksJ0_init_2_2 0 rfl rfl)
theorem dJ0_init_2_48 : decode cJ0_init_2 48 = .ok (.putfield 7, 3) := dk_181 0 7 (dk_at dksJ0_init_2_2 1 rfl rfl)
theorem dJ0_init_2_51 : decode cJ0_init_2 51 = .ok (.iload_n 3, 1) := dk_29 (dk_at dksJ0_init_2_2 4 rfl rfl)
theorem dJ0_init_2_52 : decode cJ0_init_2 52 = .ok (.ifCond .ne 8, 3) := dk_154 0 8 (dk_at dksJ0_init_2_2 5 rfl rfl)
theorem dJ0_init_2_55 : decode cJ0_init_2 55 = .ok (.aload_n 0, 1) := dk_42 (dk_at dksJ0_init_2_2 8 rfl rfl)
theorem dJ0_init_2_56 : decode cJ0_init_2 56 = .ok (.aconst_null, 1) := dk_1 (dk_at dksJ0_init_2_2 9 rfl rfl)
theorem dJ0_init_2_57 : decode cJ0_init_2 57 = .ok (.putfield 24, 3) := dk_181 0 24 (dk_at dksJ0_init_2_2 10 rfl rfl)
theorem dJ0_init_2_60 : decode cJ0_init_2 60 = .ok (.return_, 1) := dk_177 (dk_at dksJ0_init_2_2 13 rfl rfl)
theorem q81 : (Jvm.Cond.initialized "java/lang/Throwable") ∈ lw_all := lw_g (lw_at lw_m1 2 rfl) rfl
theorem q131 : (Jvm.Cond.declares ({ cls := "java/lang/Throwable", name := "<init>", desc := "()V" } : Jvm.MethodName)) ∈ lw_tbl := lw_at lw_m1 52 rfl
theorem q132 : (Jvm.Cond.declares ({ cls := "java/lang/Throwable", name := "<init>", desc := "(Ljava/lang/String;)V" } : Jvm.MethodName)) ∈ lw_tbl := lw_at lw_m1 53 rfl
theorem q136 : (Jvm.Cond.lays "java/lang/Throwable" "java/lang/Throwable" "cause" "Ljava/lang/Throwable;") ∈ lw_all := lw_g (lw_at lw_m1 57 rfl) rfl
theorem q138 : (Jvm.Cond.lays "java/lang/Throwable" "java/lang/Throwable" "stackTrace" "[Ljava/lang/StackTraceElement;") ∈ lw_all := lw_g (lw_at lw_m1 59 rfl) rfl
theorem q140 : (Jvm.Cond.lays "java/lang/Throwable" "java/lang/Throwable" "suppressedExceptions" "Ljava/util/List;") ∈ lw_all := lw_g (lw_at lw_m1 61 rfl) rfl
theorem q142 : (Jvm.Cond.lays "java/lang/Throwable" "java/lang/Throwable" "detailMessage" "Ljava/lang/String;") ∈ lw_all := lw_g (lw_at lw_m1 63 rfl) rfl
theorem q144 : (Jvm.Cond.lays "java/lang/Throwable" "java/lang/Throwable" "backtrace" "Ljava/lang/Object;") ∈ lw_all := lw_g (lw_at lw_m1 65 rfl) rfl
theorem q145 : (Jvm.Cond.fieldLink "java/lang/Throwable" (198 : Nat) "java/lang/Throwable" "backtrace" "Ljava/lang/Object;") ∈ lw_all := lw_g (lw_at lw_m1 66 rfl) rfl
theorem q146 : (Jvm.Cond.superclass "java/lang/Throwable" "java/lang/Object") ∈ lw_all := lw_g (lw_at lw_m1 67 rfl) rfl
theorem q147 : (Jvm.Cond.instanceMethod ({ cls := "java/lang/Throwable", name := "<init>", desc := "()V" } : Jvm.MethodName)) ∈ lw_all := lw_g (lw_at lw_m1 68 rfl) rfl
theorem q148 : (Jvm.Cond.code ({ cls := "java/lang/Throwable", name := "<init>", desc := "()V" } : Jvm.MethodName) prog_40_method_1_code (1 : Nat) (Option.none : Option Jvm.ClassFile.FieldType)) ∈ lw_all := lw_g (lw_at lw_m1 69 rfl) rfl
theorem q149 : (Jvm.Cond.methodLink "java/lang/Throwable" (1 : Nat) ({ cls := "java/lang/Object", name := "<init>", desc := "()V" } : Jvm.MethodName)) ∈ lw_all := lw_g (lw_at lw_m1 70 rfl) rfl
theorem q150 : (Jvm.Cond.fieldLink "java/lang/Throwable" (13 : Nat) "java/lang/Throwable" "UNASSIGNED_STACK" "[Ljava/lang/StackTraceElement;") ∈ lw_all := lw_g (lw_at lw_m1 71 rfl) rfl
theorem q151 : (Jvm.Cond.laysStatic "java/lang/Throwable" "UNASSIGNED_STACK" "[Ljava/lang/StackTraceElement;") ∈ lw_tbl := lw_at lw_m1 72 rfl
theorem q152 : (Jvm.Cond.fieldLink "java/lang/Throwable" (20 : Nat) "java/lang/Throwable" "SUPPRESSED_SENTINEL" "Ljava/util/List;") ∈ lw_all := lw_g (lw_at lw_m1 73 rfl) rfl
theorem q153 : (Jvm.Cond.laysStatic "java/lang/Throwable" "SUPPRESSED_SENTINEL" "Ljava/util/List;") ∈ lw_tbl := lw_at lw_m1 74 rfl
theorem q154 : (Jvm.Cond.methodLink "java/lang/Throwable" (27 : Nat) ({ cls := "java/lang/Throwable", name := "fillInStackTrace", desc := "()Ljava/lang/Throwable;" } : Jvm.MethodName)) ∈ lw_all := lw_g (lw_at lw_m1 75 rfl) rfl
theorem q155 : (Jvm.Cond.instanceMethod ({ cls := "java/lang/Throwable", name := "fillInStackTrace", desc := "()Ljava/lang/Throwable;" } : Jvm.MethodName)) ∈ lw_all := lw_g (lw_at lw_m1 76 rfl) rfl
theorem q156 : (Jvm.Cond.sameMethod "java/lang/Throwable" "java/lang/Throwable" "fillInStackTrace" "()Ljava/lang/Throwable;") ∈ lw_all := lw_g (lw_at lw_m1 77 rfl) rfl
theorem q158 : (Jvm.Cond.codeSync ({ cls := "java/lang/Throwable", name := "fillInStackTrace", desc := "()Ljava/lang/Throwable;" } : Jvm.MethodName) prog_40_method_18_code (1 : Nat) (Option.some (Jvm.ClassFile.FieldType.object "java/lang/Throwable"))) ∈ lw_all := lw_g (lw_at lw_m1 79 rfl) rfl
theorem q159 : (Jvm.Cond.methodLink "java/lang/Throwable" (202 : Nat) ({ cls := "java/lang/Throwable", name := "fillInStackTrace", desc := "(I)Ljava/lang/Throwable;" } : Jvm.MethodName)) ∈ lw_all := lw_g (lw_at lw_m1 80 rfl) rfl
theorem q160 : (Jvm.Cond.privateMethod ({ cls := "java/lang/Throwable", name := "fillInStackTrace", desc := "(I)Ljava/lang/Throwable;" } : Jvm.MethodName)) ∈ lw_tbl := lw_at lw_m1 81 rfl
theorem q161 : (Jvm.Cond.instanceMethod ({ cls := "java/lang/Throwable", name := "fillInStackTrace", desc := "(I)Ljava/lang/Throwable;" } : Jvm.MethodName)) ∈ lw_all := lw_g (lw_at lw_m1 82 rfl) rfl
theorem q162 : (Jvm.Cond.instantiable "java/lang/Throwable" (6 : Nat)) ∈ lw_all := lw_g (lw_at lw_m1 83 rfl) rfl
theorem q163 : (Jvm.Cond.native ({ cls := "java/lang/Throwable", name := "fillInStackTrace", desc := "(I)Ljava/lang/Throwable;" } : Jvm.MethodName)) ∈ lw_all := lw_g (lw_at lw_m1 84 rfl) rfl
theorem q174 : (Jvm.Cond.instanceMethod ({ cls := "java/lang/Throwable", name := "<init>", desc := "(Ljava/lang/String;Ljava/lang/Throwable;ZZ)V" } : Jvm.MethodName)) ∈ lw_all := lw_g (lw_at lw_m1 95 rfl) rfl
theorem q175 : (Jvm.Cond.code ({ cls := "java/lang/Throwable", name := "<init>", desc := "(Ljava/lang/String;Ljava/lang/Throwable;ZZ)V" } : Jvm.MethodName) prog_40_method_5_code (5 : Nat) (Option.none : Option Jvm.ClassFile.FieldType)) ∈ lw_all := lw_g (lw_at lw_m1 96 rfl) rfl
theorem q178 : (Jvm.Cond.fieldLink "java/lang/Throwable" (198 : Nat) "java/lang/Throwable" "backtrace" "Ljava/lang/Object;") ∈ lw_all := lw_g (lw_at lw_m1 99 rfl) rfl
theorem q179 : (Jvm.Cond.fieldLink "java/lang/Throwable" (31 : Nat) "java/lang/Throwable" "detailMessage" "Ljava/lang/String;") ∈ lw_all := lw_g (lw_at lw_m1 100 rfl) rfl
theorem q180 : (Jvm.Cond.fieldLink "java/lang/Throwable" (7 : Nat) "java/lang/Throwable" "cause" "Ljava/lang/Throwable;") ∈ lw_all := lw_g (lw_at lw_m1 101 rfl) rfl
theorem q181 : (Jvm.Cond.fieldLink "java/lang/Throwable" (17 : Nat) "java/lang/Throwable" "stackTrace" "[Ljava/lang/StackTraceElement;") ∈ lw_all := lw_g (lw_at lw_m1 102 rfl) rfl
theorem q182 : (Jvm.Cond.fieldLink "java/lang/Throwable" (24 : Nat) "java/lang/Throwable" "suppressedExceptions" "Ljava/util/List;") ∈ lw_all := lw_g (lw_at lw_m1 103 rfl) rfl
theorem q185 : (Jvm.Cond.soleField "java/lang/Throwable" "backtrace") ∈ lw_all := lw_g (lw_at lw_m1 106 rfl) rfl
theorem q186 : (Jvm.Cond.soleField "java/lang/Throwable" "detailMessage") ∈ lw_all := lw_g (lw_at lw_m1 107 rfl) rfl
theorem q187 : (Jvm.Cond.soleField "java/lang/Throwable" "cause") ∈ lw_all := lw_g (lw_at lw_m1 108 rfl) rfl
theorem q188 : (Jvm.Cond.soleField "java/lang/Throwable" "stackTrace") ∈ lw_all := lw_g (lw_at lw_m1 109 rfl) rfl
theorem q190 : (Jvm.Cond.soleField "java/lang/Throwable" "depth") ∈ lw_all := lw_g (lw_at lw_m1 111 rfl) rfl
theorem q191 : (Jvm.Cond.soleField "java/lang/Throwable" "suppressedExceptions") ∈ lw_all := lw_g (lw_at lw_m1 112 rfl) rfl
theorem q1937 : (Jvm.Cond.sameMethod "java/lang/Throwable" "java/lang/Throwable" "fillInStackTrace" "(I)Ljava/lang/Throwable;") ∈ lw_all := lw_g (lw_at lw_m8 178 rfl) rfl
theorem in_J0 : ∀ w ∈ wsJ00, w ∈ lw_all := lw_in wsJ00 [136, 138, 140, 142, 144] (by decide +kernel) (by decide +kernel)

/-! java/lang/Exception -/
set_option maxRecDepth 100000
def RJ1 : String := "java/lang/Exception"
abbrev cJ1_init : ByteArray := prog_32_method_5_code
def yJ1_init : MethodName := ⟨RJ1, "<init>", "(Ljava/lang/String;Ljava/lang/Throwable;ZZ)V"⟩
def dkwJ1_init_0 : List UInt8 := [42, 43, 44, 29, 21, 4, 183, 0, 16, 177]
abbrev dktJ1_init_0 : List UInt8 := dkwJ1_init_0 ++ []
theorem dksJ1_init_0 : cJ1_init.data.toList.drop 0 = dktJ1_init_0 := by decide +kernel
theorem dJ1_init_0 : decode cJ1_init 0 = .ok (.aload_n 0, 1) := dk_42 (dk_at dksJ1_init_0 0 rfl rfl)
theorem dJ1_init_1 : decode cJ1_init 1 = .ok (.aload_n 1, 1) := dk_43 (dk_at dksJ1_init_0 1 rfl rfl)
theorem dJ1_init_2 : decode cJ1_init 2 = .ok (.aload_n 2, 1) := dk_44 (dk_at dksJ1_init_0 2 rfl rfl)
theorem dJ1_init_3 : decode cJ1_init 3 = .ok (.iload_n 3, 1) := dk_29 (dk_at dksJ1_init_0 3 rfl rfl)
theorem dJ1_init_4 : decode cJ1_init 4 = .ok (.iload 4, 2) := dk_21 4 (dk_at dksJ1_init_0 4 rfl rfl)
theorem dJ1_init_6 : decode cJ1_init 6 = .ok (.invokespecial 16, 3) := dk_183 0 16 (dk_at dksJ1_init_0 6 rfl rfl)
theorem dJ1_init_9 : decode cJ1_init 9 = .ok (.return_, 1) := dk_177 (dk_at dksJ1_init_0 9 rfl rfl)
theorem q82 : (Jvm.Cond.initialized "java/lang/Exception") ∈ lw_all := lw_g (lw_at lw_m1 3 rfl) rfl
theorem q129 : (Jvm.Cond.declares ({ cls := "java/lang/Exception", name := "<init>", desc := "()V" } : Jvm.MethodName)) ∈ lw_tbl := lw_at lw_m1 50 rfl
theorem q130 : (Jvm.Cond.declares ({ cls := "java/lang/Exception", name := "<init>", desc := "(Ljava/lang/String;)V" } : Jvm.MethodName)) ∈ lw_tbl := lw_at lw_m1 51 rfl
theorem q171 : (Jvm.Cond.instanceMethod ({ cls := "java/lang/Exception", name := "<init>", desc := "(Ljava/lang/String;Ljava/lang/Throwable;ZZ)V" } : Jvm.MethodName)) ∈ lw_all := lw_g (lw_at lw_m1 92 rfl) rfl
theorem q172 : (Jvm.Cond.code ({ cls := "java/lang/Exception", name := "<init>", desc := "(Ljava/lang/String;Ljava/lang/Throwable;ZZ)V" } : Jvm.MethodName) prog_32_method_5_code (5 : Nat) (Option.none : Option Jvm.ClassFile.FieldType)) ∈ lw_all := lw_g (lw_at lw_m1 93 rfl) rfl
theorem q173 : (Jvm.Cond.methodLink "java/lang/Exception" (16 : Nat) ({ cls := "java/lang/Throwable", name := "<init>", desc := "(Ljava/lang/String;Ljava/lang/Throwable;ZZ)V" } : Jvm.MethodName)) ∈ lw_all := lw_g (lw_at lw_m1 94 rfl) rfl

/-! java/lang/RuntimeException -/
set_option maxRecDepth 100000
def RJ2 : String := "java/lang/RuntimeException"
abbrev cJ2_init : ByteArray := prog_35_method_5_code
def yJ2_init : MethodName := ⟨RJ2, "<init>", "(Ljava/lang/String;Ljava/lang/Throwable;ZZ)V"⟩
def dkwJ2_init_0 : List UInt8 := [42, 43, 44, 29, 21, 4, 183, 0, 16, 177]
abbrev dktJ2_init_0 : List UInt8 := dkwJ2_init_0 ++ []
theorem dksJ2_init_0 : cJ2_init.data.toList.drop 0 = dktJ2_init_0 := by decide +kernel
theorem dJ2_init_0 : decode cJ2_init 0 = .ok (.aload_n 0, 1) := dk_42 (dk_at dksJ2_init_0 0 rfl rfl)
theorem dJ2_init_1 : decode cJ2_init 1 = .ok (.aload_n 1, 1) := dk_43 (dk_at dksJ2_init_0 1 rfl rfl)
theorem dJ2_init_2 : decode cJ2_init 2 = .ok (.aload_n 2, 1) := dk_44 (dk_at dksJ2_init_0 2 rfl rfl)
theorem dJ2_init_3 : decode cJ2_init 3 = .ok (.iload_n 3, 1) := dk_29 (dk_at dksJ2_init_0 3 rfl rfl)
theorem dJ2_init_4 : decode cJ2_init 4 = .ok (.iload 4, 2) := dk_21 4 (dk_at dksJ2_init_0 4 rfl rfl)
theorem dJ2_init_6 : decode cJ2_init 6 = .ok (.invokespecial 16, 3) := dk_183 0 16 (dk_at dksJ2_init_0 6 rfl rfl)
theorem dJ2_init_9 : decode cJ2_init 9 = .ok (.return_, 1) := dk_177 (dk_at dksJ2_init_0 9 rfl rfl)
theorem q83 : (Jvm.Cond.initialized "java/lang/RuntimeException") ∈ lw_all := lw_g (lw_at lw_m1 4 rfl) rfl
theorem q127 : (Jvm.Cond.declares ({ cls := "java/lang/RuntimeException", name := "<init>", desc := "()V" } : Jvm.MethodName)) ∈ lw_tbl := lw_at lw_m1 48 rfl
theorem q128 : (Jvm.Cond.declares ({ cls := "java/lang/RuntimeException", name := "<init>", desc := "(Ljava/lang/String;)V" } : Jvm.MethodName)) ∈ lw_tbl := lw_at lw_m1 49 rfl
theorem q168 : (Jvm.Cond.instanceMethod ({ cls := "java/lang/RuntimeException", name := "<init>", desc := "(Ljava/lang/String;Ljava/lang/Throwable;ZZ)V" } : Jvm.MethodName)) ∈ lw_all := lw_g (lw_at lw_m1 89 rfl) rfl
theorem q169 : (Jvm.Cond.code ({ cls := "java/lang/RuntimeException", name := "<init>", desc := "(Ljava/lang/String;Ljava/lang/Throwable;ZZ)V" } : Jvm.MethodName) prog_35_method_5_code (5 : Nat) (Option.none : Option Jvm.ClassFile.FieldType)) ∈ lw_all := lw_g (lw_at lw_m1 90 rfl) rfl
theorem q170 : (Jvm.Cond.methodLink "java/lang/RuntimeException" (16 : Nat) ({ cls := "java/lang/Exception", name := "<init>", desc := "(Ljava/lang/String;Ljava/lang/Throwable;ZZ)V" } : Jvm.MethodName)) ∈ lw_all := lw_g (lw_at lw_m1 91 rfl) rfl

/-! java/lang/Math -/
set_option maxRecDepth 100000
def RJ3 : String := "java/lang/Math"
abbrev cJ3_min : ByteArray := prog_34_method_69_code
def yJ3_min : MethodName := ⟨RJ3, "min", "(II)I"⟩
def dkwJ3_min_0 : List UInt8 := [26, 27, 163, 0, 7, 26, 167, 0, 4, 27, 172]
abbrev dktJ3_min_0 : List UInt8 := dkwJ3_min_0 ++ []
theorem dksJ3_min_0 : cJ3_min.data.toList.drop 0 = dktJ3_min_0 := by decide +kernel
theorem dJ3_min_0 : decode cJ3_min 0 = .ok (.iload_n 0, 1) := dk_26 (dk_at dksJ3_min_0 0 rfl rfl)
theorem dJ3_min_1 : decode cJ3_min 1 = .ok (.iload_n 1, 1) := dk_27 (dk_at dksJ3_min_0 1 rfl rfl)
theorem dJ3_min_2 : decode cJ3_min 2 = .ok (.if_icmp .gt 7, 3) := dk_163 0 7 (dk_at dksJ3_min_0 2 rfl rfl)
theorem dJ3_min_5 : decode cJ3_min 5 = .ok (.iload_n 0, 1) := dk_26 (dk_at dksJ3_min_0 5 rfl rfl)
theorem dJ3_min_6 : decode cJ3_min 6 = .ok (.goto 4, 3) := dk_167 0 4 (dk_at dksJ3_min_0 6 rfl rfl)
theorem dJ3_min_9 : decode cJ3_min 9 = .ok (.iload_n 1, 1) := dk_27 (dk_at dksJ3_min_0 9 rfl rfl)
theorem dJ3_min_10 : decode cJ3_min 10 = .ok (.ireturn, 1) := dk_172 (dk_at dksJ3_min_0 10 rfl rfl)
abbrev cJ3_max : ByteArray := prog_34_method_65_code
def yJ3_max : MethodName := ⟨RJ3, "max", "(II)I"⟩
def dkwJ3_max_0 : List UInt8 := [26, 27, 161, 0, 7, 26, 167, 0, 4, 27, 172]
abbrev dktJ3_max_0 : List UInt8 := dkwJ3_max_0 ++ []
theorem dksJ3_max_0 : cJ3_max.data.toList.drop 0 = dktJ3_max_0 := by decide +kernel
theorem dJ3_max_0 : decode cJ3_max 0 = .ok (.iload_n 0, 1) := dk_26 (dk_at dksJ3_max_0 0 rfl rfl)
theorem dJ3_max_1 : decode cJ3_max 1 = .ok (.iload_n 1, 1) := dk_27 (dk_at dksJ3_max_0 1 rfl rfl)
theorem dJ3_max_2 : decode cJ3_max 2 = .ok (.if_icmp .lt 7, 3) := dk_161 0 7 (dk_at dksJ3_max_0 2 rfl rfl)
theorem dJ3_max_5 : decode cJ3_max 5 = .ok (.iload_n 0, 1) := dk_26 (dk_at dksJ3_max_0 5 rfl rfl)
theorem dJ3_max_6 : decode cJ3_max 6 = .ok (.goto 4, 3) := dk_167 0 4 (dk_at dksJ3_max_0 6 rfl rfl)
theorem dJ3_max_9 : decode cJ3_max 9 = .ok (.iload_n 1, 1) := dk_27 (dk_at dksJ3_max_0 9 rfl rfl)
theorem dJ3_max_10 : decode cJ3_max 10 = .ok (.ireturn, 1) := dk_172 (dk_at dksJ3_max_0 10 rfl rfl)
theorem q99 : (Jvm.Cond.initialized "java/lang/Math") ∈ lw_all := lw_g (lw_at lw_m1 20 rfl) rfl
theorem q620 : (Jvm.Cond.static ({ cls := "java/lang/Math", name := "min", desc := "(II)I" } : Jvm.MethodName)) ∈ lw_all := lw_g (lw_at lw_m3 61 rfl) rfl
theorem q621 : (Jvm.Cond.code ({ cls := "java/lang/Math", name := "min", desc := "(II)I" } : Jvm.MethodName) prog_34_method_69_code (2 : Nat) (Option.some Jvm.ClassFile.FieldType.int)) ∈ lw_all := lw_g (lw_at lw_m3 62 rfl) rfl
theorem q623 : (Jvm.Cond.static ({ cls := "java/lang/Math", name := "max", desc := "(II)I" } : Jvm.MethodName)) ∈ lw_all := lw_g (lw_at lw_m3 64 rfl) rfl
theorem q624 : (Jvm.Cond.code ({ cls := "java/lang/Math", name := "max", desc := "(II)I" } : Jvm.MethodName) prog_34_method_65_code (2 : Nat) (Option.some Jvm.ClassFile.FieldType.int)) ∈ lw_all := lw_g (lw_at lw_m3 65 rfl) rfl

/-! java/lang/String -/
set_option maxRecDepth 100000
def RJ4 : String := "java/lang/String"
abbrev cJ4_indexOf : ByteArray := prog_36_method_79_code
def yJ4_indexOf : MethodName := ⟨RJ4, "indexOf", "(I)I"⟩
def dkwJ4_indexOf_0 : List UInt8 := [42, 27, 3, 182, 2, 121, 172]
abbrev dktJ4_indexOf_0 : List UInt8 := dkwJ4_indexOf_0 ++ []
theorem dksJ4_indexOf_0 : cJ4_indexOf.data.toList.drop 0 = dktJ4_indexOf_0 := by decide +kernel
theorem dJ4_indexOf_0 : decode cJ4_indexOf 0 = .ok (.aload_n 0, 1) := dk_42 (dk_at dksJ4_indexOf_0 0 rfl rfl)
theorem dJ4_indexOf_1 : decode cJ4_indexOf 1 = .ok (.iload_n 1, 1) := dk_27 (dk_at dksJ4_indexOf_0 1 rfl rfl)
theorem dJ4_indexOf_2 : decode cJ4_indexOf 2 = .ok (.iconst 0, 1) := dk_3 (dk_at dksJ4_indexOf_0 2 rfl rfl)
theorem dJ4_indexOf_3 : decode cJ4_indexOf 3 = .ok (.invokevirtual 633, 3) := dk_182 2 121 (dk_at dksJ4_indexOf_0 3 rfl rfl)
theorem dJ4_indexOf_6 : decode cJ4_indexOf 6 = .ok (.ireturn, 1) := dk_172 (dk_at dksJ4_indexOf_0 6 rfl rfl)
abbrev cJ4_indexOf_2 : ByteArray := prog_36_method_80_code
def yJ4_indexOf_2 : MethodName := ⟨RJ4, "indexOf", "(II)I"⟩
def dkwJ4_indexOf_2_1 : List UInt8 := [180, 0, 9, 27, 28, 42, 182, 1, 249, 184, 2, 128, 172]
abbrev dktJ4_indexOf_2_1 : List UInt8 := dkwJ4_indexOf_2_1 ++ []
def dkwJ4_indexOf_2_0 : List UInt8 := [42, 182, 1, 236, 153, 0, 19, 42, 180, 0, 9, 27, 28, 42, 182, 1, 249, 184, 2, 125, 167, 0, 16, 42]
abbrev dktJ4_indexOf_2_0 : List UInt8 := dkwJ4_indexOf_2_0 ++ dktJ4_indexOf_2_1
theorem dksJ4_indexOf_2_0 : cJ4_indexOf_2.data.toList.drop 0 = dktJ4_indexOf_2_0 := by decide +kernel
theorem dksJ4_indexOf_2_1 : cJ4_indexOf_2.data.toList.drop 24 = dktJ4_indexOf_2_1 := dk_seg dksJ4_indexOf_2_0 24 rfl rfl
theorem dJ4_indexOf_2_0 : decode cJ4_indexOf_2 0 = .ok (.aload_n 0, 1) := dk_42 (dk_at dksJ4_indexOf_2_0 0 rfl rfl)
theorem dJ4_indexOf_2_1 : decode cJ4_indexOf_2 1 = .ok (.invokevirtual 492, 3) := dk_182 1 236 (dk_at dksJ4_indexOf_2_0 1 rfl rfl)
theorem dJ4_indexOf_2_4 : decode cJ4_indexOf_2 4 = .ok (.ifCond .eq 19, 3) := dk_153 0 19 (dk_at dksJ4_indexOf_2_0 4 rfl rfl)
theorem dJ4_indexOf_2_7 : decode cJ4_indexOf_2 7 = .ok (.aload_n 0, 1) := dk_42 (dk_at dksJ4_indexOf_2_0 7 rfl rfl)
theorem dJ4_indexOf_2_8 : decode cJ4_indexOf_2 8 = .ok (.getfield 9, 3) := dk_180 0 9 (dk_at dksJ4_indexOf_2_0 8 rfl rfl)
theorem dJ4_indexOf_2_11 : decode cJ4_indexOf_2 11 = .ok (.iload_n 1, 1) := dk_27 (dk_at dksJ4_indexOf_2_0 11 rfl rfl)
theorem dJ4_indexOf_2_12 : decode cJ4_indexOf_2 12 = .ok (.iload_n 2, 1) := dk_28 (dk_at dksJ4_indexOf_2_0 12 rfl rfl)
theorem dJ4_indexOf_2_13 : decode cJ4_indexOf_2 13 = .ok (.aload_n 0, 1) := dk_42 (dk_at dksJ4_indexOf_2_0 13 rfl rfl)
theorem dJ4_indexOf_2_14 : decode cJ4_indexOf_2 14 = .ok (.invokevirtual 505, 3) := dk_182 1 249 (dk_at dksJ4_indexOf_2_0 14 rfl rfl)
theorem dJ4_indexOf_2_17 : decode cJ4_indexOf_2 17 = .ok (.invokestatic 637, 3) := dk_184 2 125 (dk_at dksJ4_indexOf_2_0 17 rfl rfl)
theorem dJ4_indexOf_2_20 : decode cJ4_indexOf_2 20 = .ok (.goto 16, 3) := dk_167 0 16 (dk_at dksJ4_indexOf_2_0 20 rfl rfl)
theorem dJ4_indexOf_2_23 : decode cJ4_indexOf_2 23 = .ok (.aload_n 0, 1) := dk_42 (dk_at dksJ4_indexOf_2_0 23 rfl rfl)
theorem dJ4_indexOf_2_24 : decode cJ4_indexOf_2 24 = .ok (.getfield 9, 3) := dk_180 0 9 (dk_at dksJ4_indexOf_2_1 0 rfl rfl)
theorem dJ4_indexOf_2_27 : decode cJ4_indexOf_2 27 = .ok (.iload_n 1, 1) := dk_27 (dk_at dksJ4_indexOf_2_1 3 rfl rfl)
theorem dJ4_indexOf_2_28 : decode cJ4_indexOf_2 28 = .ok (.iload_n 2, 1) := dk_28 (dk_at dksJ4_indexOf_2_1 4 rfl rfl)
theorem dJ4_indexOf_2_29 : decode cJ4_indexOf_2 29 = .ok (.aload_n 0, 1) := dk_42 (dk_at dksJ4_indexOf_2_1 5 rfl rfl)
theorem dJ4_indexOf_2_30 : decode cJ4_indexOf_2 30 = .ok (.invokevirtual 505, 3) := dk_182 1 249 (dk_at dksJ4_indexOf_2_1 6 rfl rfl)
theorem dJ4_indexOf_2_33 : decode cJ4_indexOf_2 33 = .ok (.invokestatic 640, 3) := dk_184 2 128 (dk_at dksJ4_indexOf_2_1 9 rfl rfl)
theorem dJ4_indexOf_2_36 : decode cJ4_indexOf_2 36 = .ok (.ireturn, 1) := dk_172 (dk_at dksJ4_indexOf_2_1 12 rfl rfl)
abbrev cJ4_isLatin1 : ByteArray := prog_36_method_154_code
def yJ4_isLatin1 : MethodName := ⟨RJ4, "isLatin1", "()Z"⟩
def dkwJ4_isLatin1_0 : List UInt8 := [178, 0, 38, 153, 0, 14, 42, 180, 0, 15, 154, 0, 7, 4, 167, 0, 4, 3, 172]
abbrev dktJ4_isLatin1_0 : List UInt8 := dkwJ4_isLatin1_0 ++ []
theorem dksJ4_isLatin1_0 : cJ4_isLatin1.data.toList.drop 0 = dktJ4_isLatin1_0 := by decide +kernel
theorem dJ4_isLatin1_0 : decode cJ4_isLatin1 0 = .ok (.getstatic 38, 3) := dk_178 0 38 (dk_at dksJ4_isLatin1_0 0 rfl rfl)
theorem dJ4_isLatin1_3 : decode cJ4_isLatin1 3 = .ok (.ifCond .eq 14, 3) := dk_153 0 14 (dk_at dksJ4_isLatin1_0 3 rfl rfl)
theorem dJ4_isLatin1_6 : decode cJ4_isLatin1 6 = .ok (.aload_n 0, 1) := dk_42 (dk_at dksJ4_isLatin1_0 6 rfl rfl)
theorem dJ4_isLatin1_7 : decode cJ4_isLatin1 7 = .ok (.getfield 15, 3) := dk_180 0 15 (dk_at dksJ4_isLatin1_0 7 rfl rfl)
theorem dJ4_isLatin1_10 : decode cJ4_isLatin1 10 = .ok (.ifCond .ne 7, 3) := dk_154 0 7 (dk_at dksJ4_isLatin1_0 10 rfl rfl)
theorem dJ4_isLatin1_13 : decode cJ4_isLatin1 13 = .ok (.iconst 1, 1) := dk_4 (dk_at dksJ4_isLatin1_0 13 rfl rfl)
theorem dJ4_isLatin1_14 : decode cJ4_isLatin1 14 = .ok (.goto 4, 3) := dk_167 0 4 (dk_at dksJ4_isLatin1_0 14 rfl rfl)
theorem dJ4_isLatin1_17 : decode cJ4_isLatin1 17 = .ok (.iconst 0, 1) := dk_3 (dk_at dksJ4_isLatin1_0 17 rfl rfl)
theorem dJ4_isLatin1_18 : decode cJ4_isLatin1 18 = .ok (.ireturn, 1) := dk_172 (dk_at dksJ4_isLatin1_0 18 rfl rfl)
abbrev cJ4_length : ByteArray := prog_36_method_54_code
def yJ4_length : MethodName := ⟨RJ4, "length", "()I"⟩
def dkwJ4_length_0 : List UInt8 := [42, 180, 0, 9, 190, 42, 182, 1, 79, 122, 172]
abbrev dktJ4_length_0 : List UInt8 := dkwJ4_length_0 ++ []
theorem dksJ4_length_0 : cJ4_length.data.toList.drop 0 = dktJ4_length_0 := by decide +kernel
theorem dJ4_length_0 : decode cJ4_length 0 = .ok (.aload_n 0, 1) := dk_42 (dk_at dksJ4_length_0 0 rfl rfl)
theorem dJ4_length_1 : decode cJ4_length 1 = .ok (.getfield 9, 3) := dk_180 0 9 (dk_at dksJ4_length_0 1 rfl rfl)
theorem dJ4_length_4 : decode cJ4_length 4 = .ok (.arraylength, 1) := dk_190 (dk_at dksJ4_length_0 4 rfl rfl)
theorem dJ4_length_5 : decode cJ4_length 5 = .ok (.aload_n 0, 1) := dk_42 (dk_at dksJ4_length_0 5 rfl rfl)
theorem dJ4_length_6 : decode cJ4_length 6 = .ok (.invokevirtual 335, 3) := dk_182 1 79 (dk_at dksJ4_length_0 6 rfl rfl)
theorem dJ4_length_9 : decode cJ4_length 9 = .ok (.ishr, 1) := dk_122 (dk_at dksJ4_length_0 9 rfl rfl)
theorem dJ4_length_10 : decode cJ4_length 10 = .ok (.ireturn, 1) := dk_172 (dk_at dksJ4_length_0 10 rfl rfl)
abbrev cJ4_coder : ByteArray := prog_36_method_152_code
def yJ4_coder : MethodName := ⟨RJ4, "coder", "()B"⟩
def dkwJ4_coder_0 : List UInt8 := [178, 0, 38, 153, 0, 10, 42, 180, 0, 15, 167, 0, 4, 4, 172]
abbrev dktJ4_coder_0 : List UInt8 := dkwJ4_coder_0 ++ []
theorem dksJ4_coder_0 : cJ4_coder.data.toList.drop 0 = dktJ4_coder_0 := by decide +kernel
theorem dJ4_coder_0 : decode cJ4_coder 0 = .ok (.getstatic 38, 3) := dk_178 0 38 (dk_at dksJ4_coder_0 0 rfl rfl)
theorem dJ4_coder_3 : decode cJ4_coder 3 = .ok (.ifCond .eq 10, 3) := dk_153 0 10 (dk_at dksJ4_coder_0 3 rfl rfl)
theorem dJ4_coder_6 : decode cJ4_coder 6 = .ok (.aload_n 0, 1) := dk_42 (dk_at dksJ4_coder_0 6 rfl rfl)
theorem dJ4_coder_7 : decode cJ4_coder 7 = .ok (.getfield 15, 3) := dk_180 0 15 (dk_at dksJ4_coder_0 7 rfl rfl)
theorem dJ4_coder_10 : decode cJ4_coder 10 = .ok (.goto 4, 3) := dk_167 0 4 (dk_at dksJ4_coder_0 10 rfl rfl)
theorem dJ4_coder_13 : decode cJ4_coder 13 = .ok (.iconst 1, 1) := dk_4 (dk_at dksJ4_coder_0 13 rfl rfl)
theorem dJ4_coder_14 : decode cJ4_coder 14 = .ok (.ireturn, 1) := dk_172 (dk_at dksJ4_coder_0 14 rfl rfl)
abbrev cJ4_checkBoundsBeginEnd : ByteArray := prog_36_method_158_code
def yJ4_checkBoundsBeginEnd : MethodName := ⟨RJ4, "checkBoundsBeginEnd", "(III)V"⟩
def dkwJ4_checkBoundsBeginEnd_0 : List UInt8 := [26, 27, 28, 178, 4, 29, 184, 4, 38, 87, 177]
abbrev dktJ4_checkBoundsBeginEnd_0 : List UInt8 := dkwJ4_checkBoundsBeginEnd_0 ++ []
theorem dksJ4_checkBoundsBeginEnd_0 : cJ4_checkBoundsBeginEnd.data.toList.drop 0 = dktJ4_checkBoundsBeginEnd_0 := by decide +kernel
theorem dJ4_checkBoundsBeginEnd_0 : decode cJ4_checkBoundsBeginEnd 0 = .ok (.iload_n 0, 1) := dk_26 (dk_at dksJ4_checkBoundsBeginEnd_0 0 rfl rfl)
theorem dJ4_checkBoundsBeginEnd_1 : decode cJ4_checkBoundsBeginEnd 1 = .ok (.iload_n 1, 1) := dk_27 (dk_at dksJ4_checkBoundsBeginEnd_0 1 rfl rfl)
theorem dJ4_checkBoundsBeginEnd_2 : decode cJ4_checkBoundsBeginEnd 2 = .ok (.iload_n 2, 1) := dk_28 (dk_at dksJ4_checkBoundsBeginEnd_0 2 rfl rfl)
theorem dJ4_checkBoundsBeginEnd_3 : decode cJ4_checkBoundsBeginEnd 3 = .ok (.getstatic 1053, 3) := dk_178 4 29 (dk_at dksJ4_checkBoundsBeginEnd_0 3 rfl rfl)
theorem dJ4_checkBoundsBeginEnd_6 : decode cJ4_checkBoundsBeginEnd 6 = .ok (.invokestatic 1062, 3) := dk_184 4 38 (dk_at dksJ4_checkBoundsBeginEnd_0 6 rfl rfl)
theorem dJ4_checkBoundsBeginEnd_9 : decode cJ4_checkBoundsBeginEnd 9 = .ok (.pop, 1) := dk_87 (dk_at dksJ4_checkBoundsBeginEnd_0 9 rfl rfl)
theorem dJ4_checkBoundsBeginEnd_10 : decode cJ4_checkBoundsBeginEnd 10 = .ok (.return_, 1) := dk_177 (dk_at dksJ4_checkBoundsBeginEnd_0 10 rfl rfl)
theorem q101 : (Jvm.Cond.initialized "java/lang/String") ∈ lw_all := lw_g (lw_at lw_m1 22 rfl) rfl
theorem q738 : (Jvm.Cond.instanceMethod ({ cls := "java/lang/String", name := "indexOf", desc := "(I)I" } : Jvm.MethodName)) ∈ lw_all := lw_g (lw_at lw_m3 179 rfl) rfl
theorem q739 : (Jvm.Cond.selects "java/lang/String" ({ cls := "java/lang/String", name := "indexOf", desc := "(I)I" } : Jvm.MethodName) ({ cls := "java/lang/String", name := "indexOf", desc := "(I)I" } : Jvm.MethodName)) ∈ lw_all := lw_g (lw_at lw_m3 180 rfl) rfl
theorem q740 : (Jvm.Cond.code ({ cls := "java/lang/String", name := "indexOf", desc := "(I)I" } : Jvm.MethodName) prog_36_method_79_code (2 : Nat) (Option.some Jvm.ClassFile.FieldType.int)) ∈ lw_all := lw_g (lw_at lw_m3 181 rfl) rfl
theorem q741 : (Jvm.Cond.methodLink "java/lang/String" (633 : Nat) ({ cls := "java/lang/String", name := "indexOf", desc := "(II)I" } : Jvm.MethodName)) ∈ lw_all := lw_g (lw_at lw_m3 182 rfl) rfl
theorem q742 : (Jvm.Cond.instanceMethod ({ cls := "java/lang/String", name := "indexOf", desc := "(II)I" } : Jvm.MethodName)) ∈ lw_all := lw_g (lw_at lw_m3 183 rfl) rfl
theorem q743 : (Jvm.Cond.selects "java/lang/String" ({ cls := "java/lang/String", name := "indexOf", desc := "(II)I" } : Jvm.MethodName) ({ cls := "java/lang/String", name := "indexOf", desc := "(II)I" } : Jvm.MethodName)) ∈ lw_all := lw_g (lw_at lw_m3 184 rfl) rfl
theorem q744 : (Jvm.Cond.code ({ cls := "java/lang/String", name := "indexOf", desc := "(II)I" } : Jvm.MethodName) prog_36_method_80_code (3 : Nat) (Option.some Jvm.ClassFile.FieldType.int)) ∈ lw_all := lw_g (lw_at lw_m3 185 rfl) rfl
theorem q745 : (Jvm.Cond.methodLink "java/lang/String" (492 : Nat) ({ cls := "java/lang/String", name := "isLatin1", desc := "()Z" } : Jvm.MethodName)) ∈ lw_all := lw_g (lw_at lw_m3 186 rfl) rfl
theorem q746 : (Jvm.Cond.instanceMethod ({ cls := "java/lang/String", name := "isLatin1", desc := "()Z" } : Jvm.MethodName)) ∈ lw_all := lw_g (lw_at lw_m3 187 rfl) rfl
theorem q747 : (Jvm.Cond.selects "java/lang/String" ({ cls := "java/lang/String", name := "isLatin1", desc := "()Z" } : Jvm.MethodName) ({ cls := "java/lang/String", name := "isLatin1", desc := "()Z" } : Jvm.MethodName)) ∈ lw_all := lw_g (lw_at lw_m3 188 rfl) rfl
theorem q748 : (Jvm.Cond.code ({ cls := "java/lang/String", name := "isLatin1", desc := "()Z" } : Jvm.MethodName) prog_36_method_154_code (1 : Nat) (Option.some Jvm.ClassFile.FieldType.boolean)) ∈ lw_all := lw_g (lw_at lw_m3 189 rfl) rfl
theorem q749 : (Jvm.Cond.fieldLink "java/lang/String" (38 : Nat) "java/lang/String" "COMPACT_STRINGS" "Z") ∈ lw_all := lw_g (lw_at lw_m3 190 rfl) rfl
theorem q750 : (Jvm.Cond.laysStatic "java/lang/String" "COMPACT_STRINGS" "Z") ∈ lw_tbl := lw_at lw_m3 191 rfl
theorem q751 : (Jvm.Cond.methodLink "java/lang/String" (505 : Nat) ({ cls := "java/lang/String", name := "length", desc := "()I" } : Jvm.MethodName)) ∈ lw_all := lw_g (lw_at lw_m3 192 rfl) rfl
theorem q752 : (Jvm.Cond.instanceMethod ({ cls := "java/lang/String", name := "length", desc := "()I" } : Jvm.MethodName)) ∈ lw_all := lw_g (lw_at lw_m3 193 rfl) rfl
theorem q753 : (Jvm.Cond.selects "java/lang/String" ({ cls := "java/lang/String", name := "length", desc := "()I" } : Jvm.MethodName) ({ cls := "java/lang/String", name := "length", desc := "()I" } : Jvm.MethodName)) ∈ lw_all := lw_g (lw_at lw_m3 194 rfl) rfl
theorem q754 : (Jvm.Cond.code ({ cls := "java/lang/String", name := "length", desc := "()I" } : Jvm.MethodName) prog_36_method_54_code (1 : Nat) (Option.some Jvm.ClassFile.FieldType.int)) ∈ lw_all := lw_g (lw_at lw_m3 195 rfl) rfl
theorem q755 : (Jvm.Cond.methodLink "java/lang/String" (335 : Nat) ({ cls := "java/lang/String", name := "coder", desc := "()B" } : Jvm.MethodName)) ∈ lw_all := lw_g (lw_at lw_m3 196 rfl) rfl
theorem q756 : (Jvm.Cond.instanceMethod ({ cls := "java/lang/String", name := "coder", desc := "()B" } : Jvm.MethodName)) ∈ lw_all := lw_g (lw_at lw_m3 197 rfl) rfl
theorem q757 : (Jvm.Cond.selects "java/lang/String" ({ cls := "java/lang/String", name := "coder", desc := "()B" } : Jvm.MethodName) ({ cls := "java/lang/String", name := "coder", desc := "()B" } : Jvm.MethodName)) ∈ lw_all := lw_g (lw_at lw_m3 198 rfl) rfl
theorem q758 : (Jvm.Cond.code ({ cls := "java/lang/String", name := "coder", desc := "()B" } : Jvm.MethodName) prog_36_method_152_code (1 : Nat) (Option.some Jvm.ClassFile.FieldType.byte)) ∈ lw_all := lw_g (lw_at lw_m3 199 rfl) rfl
theorem q759 : (Jvm.Cond.methodLink "java/lang/String" (637 : Nat) ({ cls := "java/lang/StringLatin1", name := "indexOf", desc := "([BIII)I" } : Jvm.MethodName)) ∈ lw_all := lw_g (lw_at lw_m3 200 rfl) rfl
theorem q770 : (Jvm.Cond.methodLink "java/lang/String" (640 : Nat) ({ cls := "java/lang/StringUTF16", name := "indexOf", desc := "([BIII)I" } : Jvm.MethodName)) ∈ lw_all := lw_g (lw_at lw_m3 211 rfl) rfl
theorem q786 : (Jvm.Cond.static ({ cls := "java/lang/String", name := "checkBoundsBeginEnd", desc := "(III)V" } : Jvm.MethodName)) ∈ lw_all := lw_g (lw_at lw_m3 227 rfl) rfl
theorem q787 : (Jvm.Cond.code ({ cls := "java/lang/String", name := "checkBoundsBeginEnd", desc := "(III)V" } : Jvm.MethodName) prog_36_method_158_code (3 : Nat) (Option.none : Option Jvm.ClassFile.FieldType)) ∈ lw_all := lw_g (lw_at lw_m3 228 rfl) rfl
theorem q788 : (Jvm.Cond.fieldLink "java/lang/String" (1053 : Nat) "jdk/internal/util/Preconditions" "SIOOBE_FORMATTER" "Ljava/util/function/BiFunction;") ∈ lw_all := lw_g (lw_at lw_m3 229 rfl) rfl
theorem q790 : (Jvm.Cond.methodLink "java/lang/String" (1062 : Nat) ({ cls := "jdk/internal/util/Preconditions", name := "checkFromToIndex", desc := "(IIILjava/util/function/BiFunction;)I" } : Jvm.MethodName)) ∈ lw_all := lw_g (lw_at lw_m3 231 rfl) rfl
theorem q1982 : (Jvm.Cond.fieldLink "java/lang/String" (15 : Nat) "java/lang/String" "coder" "B") ∈ lw_all := lw_g (lw_at lw_m8 223 rfl) rfl
theorem q1983 : (Jvm.Cond.fieldLink "java/lang/String" (9 : Nat) "java/lang/String" "value" "[B") ∈ lw_all := lw_g (lw_at lw_m8 224 rfl) rfl

/-! java/lang/StringLatin1 -/
set_option maxRecDepth 100000
def RJ5 : String := "java/lang/StringLatin1"
abbrev cJ5_indexOf : ByteArray := prog_37_method_22_code
def yJ5_indexOf : MethodName := ⟨RJ5, "indexOf", "([BIII)I"⟩
def dkwJ5_indexOf_1 : List UInt8 := [161, 0, 5, 2, 172, 42, 27, 28, 29, 184, 0, 95, 172]
abbrev dktJ5_indexOf_1 : List UInt8 := dkwJ5_indexOf_1 ++ []
def dkwJ5_indexOf_0 : List UInt8 := [27, 184, 0, 88, 154, 0, 5, 2, 172, 28, 3, 184, 0, 92, 61, 29, 42, 190, 184, 0, 38, 62, 28, 29]
abbrev dktJ5_indexOf_0 : List UInt8 := dkwJ5_indexOf_0 ++ dktJ5_indexOf_1
theorem dksJ5_indexOf_0 : cJ5_indexOf.data.toList.drop 0 = dktJ5_indexOf_0 := by decide +kernel
theorem dksJ5_indexOf_1 : cJ5_indexOf.data.toList.drop 24 = dktJ5_indexOf_1 := dk_seg dksJ5_indexOf_0 24 rfl rfl
theorem dJ5_indexOf_0 : decode cJ5_indexOf 0 = .ok (.iload_n 1, 1) := dk_27 (dk_at dksJ5_indexOf_0 0 rfl rfl)
theorem dJ5_indexOf_1 : decode cJ5_indexOf 1 = .ok (.invokestatic 88, 3) := dk_184 0 88 (dk_at dksJ5_indexOf_0 1 rfl rfl)
theorem dJ5_indexOf_4 : decode cJ5_indexOf 4 = .ok (.ifCond .ne 5, 3) := dk_154 0 5 (dk_at dksJ5_indexOf_0 4 rfl rfl)
theorem dJ5_indexOf_7 : decode cJ5_indexOf 7 = .ok (.iconst (-1), 1) := dk_2 (dk_at dksJ5_indexOf_0 7 rfl rfl)
theorem dJ5_indexOf_8 : decode cJ5_indexOf 8 = .ok (.ireturn, 1) := dk_172 (dk_at dksJ5_indexOf_0 8 rfl rfl)
theorem dJ5_indexOf_9 : decode cJ5_indexOf 9 = .ok (.iload_n 2, 1) := dk_28 (dk_at dksJ5_indexOf_0 9 rfl rfl)
theorem dJ5_indexOf_10 : decode cJ5_indexOf 10 = .ok (.iconst 0, 1) := dk_3 (dk_at dksJ5_indexOf_0 10 rfl rfl)
theorem dJ5_indexOf_11 : decode cJ5_indexOf 11 = .ok (.invokestatic 92, 3) := dk_184 0 92 (dk_at dksJ5_indexOf_0 11 rfl rfl)
theorem dJ5_indexOf_14 : decode cJ5_indexOf 14 = .ok (.istore_n 2, 1) := dk_61 (dk_at dksJ5_indexOf_0 14 rfl rfl)
theorem dJ5_indexOf_15 : decode cJ5_indexOf 15 = .ok (.iload_n 3, 1) := dk_29 (dk_at dksJ5_indexOf_0 15 rfl rfl)
theorem dJ5_indexOf_16 : decode cJ5_indexOf 16 = .ok (.aload_n 0, 1) := dk_42 (dk_at dksJ5_indexOf_0 16 rfl rfl)
theorem dJ5_indexOf_17 : decode cJ5_indexOf 17 = .ok (.arraylength, 1) := dk_190 (dk_at dksJ5_indexOf_0 17 rfl rfl)
theorem dJ5_indexOf_18 : decode cJ5_indexOf 18 = .ok (.invokestatic 38, 3) := dk_184 0 38 (dk_at dksJ5_indexOf_0 18 rfl rfl)
theorem dJ5_indexOf_21 : decode cJ5_indexOf 21 = .ok (.istore_n 3, 1) := dk_62 (dk_at dksJ5_indexOf_0 21 rfl rfl)
theorem dJ5_indexOf_22 : decode cJ5_indexOf 22 = .ok (.iload_n 2, 1) := dk_28 (dk_at dksJ5_indexOf_0 22 rfl rfl)
theorem dJ5_indexOf_23 : decode cJ5_indexOf 23 = .ok (.iload_n 3, 1) := dk_29 (dk_at dksJ5_indexOf_0 23 rfl rfl)
theorem dJ5_indexOf_24 : decode cJ5_indexOf 24 = .ok (.if_icmp .lt 5, 3) := dk_161 0 5 (dk_at dksJ5_indexOf_1 0 rfl rfl)
theorem dJ5_indexOf_27 : decode cJ5_indexOf 27 = .ok (.iconst (-1), 1) := dk_2 (dk_at dksJ5_indexOf_1 3 rfl rfl)
theorem dJ5_indexOf_28 : decode cJ5_indexOf 28 = .ok (.ireturn, 1) := dk_172 (dk_at dksJ5_indexOf_1 4 rfl rfl)
theorem dJ5_indexOf_29 : decode cJ5_indexOf 29 = .ok (.aload_n 0, 1) := dk_42 (dk_at dksJ5_indexOf_1 5 rfl rfl)
theorem dJ5_indexOf_30 : decode cJ5_indexOf 30 = .ok (.iload_n 1, 1) := dk_27 (dk_at dksJ5_indexOf_1 6 rfl rfl)
theorem dJ5_indexOf_31 : decode cJ5_indexOf 31 = .ok (.iload_n 2, 1) := dk_28 (dk_at dksJ5_indexOf_1 7 rfl rfl)
theorem dJ5_indexOf_32 : decode cJ5_indexOf 32 = .ok (.iload_n 3, 1) := dk_29 (dk_at dksJ5_indexOf_1 8 rfl rfl)
theorem dJ5_indexOf_33 : decode cJ5_indexOf 33 = .ok (.invokestatic 95, 3) := dk_184 0 95 (dk_at dksJ5_indexOf_1 9 rfl rfl)
theorem dJ5_indexOf_36 : decode cJ5_indexOf 36 = .ok (.ireturn, 1) := dk_172 (dk_at dksJ5_indexOf_1 12 rfl rfl)
abbrev cJ5_canEncode : ByteArray := prog_37_method_4_code
def yJ5_canEncode : MethodName := ⟨RJ5, "canEncode", "(I)Z"⟩
def dkwJ5_canEncode_0 : List UInt8 := [26, 155, 0, 14, 26, 17, 0, 255, 163, 0, 7, 4, 167, 0, 4, 3, 172]
abbrev dktJ5_canEncode_0 : List UInt8 := dkwJ5_canEncode_0 ++ []
theorem dksJ5_canEncode_0 : cJ5_canEncode.data.toList.drop 0 = dktJ5_canEncode_0 := by decide +kernel
theorem dJ5_canEncode_0 : decode cJ5_canEncode 0 = .ok (.iload_n 0, 1) := dk_26 (dk_at dksJ5_canEncode_0 0 rfl rfl)
theorem dJ5_canEncode_1 : decode cJ5_canEncode 1 = .ok (.ifCond .lt 14, 3) := dk_155 0 14 (dk_at dksJ5_canEncode_0 1 rfl rfl)
theorem dJ5_canEncode_4 : decode cJ5_canEncode 4 = .ok (.iload_n 0, 1) := dk_26 (dk_at dksJ5_canEncode_0 4 rfl rfl)
theorem dJ5_canEncode_5 : decode cJ5_canEncode 5 = .ok (.sipush 255, 3) := dk_17 0 255 (dk_at dksJ5_canEncode_0 5 rfl rfl)
theorem dJ5_canEncode_8 : decode cJ5_canEncode 8 = .ok (.if_icmp .gt 7, 3) := dk_163 0 7 (dk_at dksJ5_canEncode_0 8 rfl rfl)
theorem dJ5_canEncode_11 : decode cJ5_canEncode 11 = .ok (.iconst 1, 1) := dk_4 (dk_at dksJ5_canEncode_0 11 rfl rfl)
theorem dJ5_canEncode_12 : decode cJ5_canEncode 12 = .ok (.goto 4, 3) := dk_167 0 4 (dk_at dksJ5_canEncode_0 12 rfl rfl)
theorem dJ5_canEncode_15 : decode cJ5_canEncode 15 = .ok (.iconst 0, 1) := dk_3 (dk_at dksJ5_canEncode_0 15 rfl rfl)
theorem dJ5_canEncode_16 : decode cJ5_canEncode 16 = .ok (.ireturn, 1) := dk_172 (dk_at dksJ5_canEncode_0 16 rfl rfl)
abbrev cJ5_indexOfChar : ByteArray := prog_37_method_23_code
def yJ5_indexOfChar : MethodName := ⟨RJ5, "indexOfChar", "([BIII)I"⟩
def dkwJ5_indexOfChar_1 : List UInt8 := [172, 132, 5, 1, 167, 255, 235, 2, 172]
abbrev dktJ5_indexOfChar_1 : List UInt8 := dkwJ5_indexOfChar_1 ++ []
def dkwJ5_indexOfChar_0 : List UInt8 := [27, 145, 54, 4, 28, 54, 5, 21, 5, 29, 162, 0, 21, 42, 21, 5, 51, 21, 4, 160, 0, 6, 21, 5]
abbrev dktJ5_indexOfChar_0 : List UInt8 := dkwJ5_indexOfChar_0 ++ dktJ5_indexOfChar_1
theorem dksJ5_indexOfChar_0 : cJ5_indexOfChar.data.toList.drop 0 = dktJ5_indexOfChar_0 := by decide +kernel
theorem dksJ5_indexOfChar_1 : cJ5_indexOfChar.data.toList.drop 24 = dktJ5_indexOfChar_1 := dk_seg dksJ5_indexOfChar_0 24 rfl rfl
theorem dJ5_indexOfChar_0 : decode cJ5_indexOfChar 0 = .ok (.iload_n 1, 1) := dk_27 (dk_at dksJ5_indexOfChar_0 0 rfl rfl)
theorem dJ5_indexOfChar_1 : decode cJ5_indexOfChar 1 = .ok (.i2b, 1) := dk_145 (dk_at dksJ5_indexOfChar_0 1 rfl rfl)
theorem dJ5_indexOfChar_2 : decode cJ5_indexOfChar 2 = .ok (.istore 4, 2) := dk_54 4 (dk_at dksJ5_indexOfChar_0 2 rfl rfl)
theorem dJ5_indexOfChar_4 : decode cJ5_indexOfChar 4 = .ok (.iload_n 2, 1) := dk_28 (dk_at dksJ5_indexOfChar_0 4 rfl rfl)
theorem dJ5_indexOfChar_5 : decode cJ5_indexOfChar 5 = .ok (.istore 5, 2) := dk_54 5 (dk_at dksJ5_indexOfChar_0 5 rfl rfl)
theorem dJ5_indexOfChar_7 : decode cJ5_indexOfChar 7 = .ok (.iload 5, 2) := dk_21 5 (dk_at dksJ5_indexOfChar_0 7 rfl rfl)
theorem dJ5_indexOfChar_9 : decode cJ5_indexOfChar 9 = .ok (.iload_n 3, 1) := dk_29 (dk_at dksJ5_indexOfChar_0 9 rfl rfl)
theorem dJ5_indexOfChar_10 : decode cJ5_indexOfChar 10 = .ok (.if_icmp .ge 21, 3) := dk_162 0 21 (dk_at dksJ5_indexOfChar_0 10 rfl rfl)
theorem dJ5_indexOfChar_13 : decode cJ5_indexOfChar 13 = .ok (.aload_n 0, 1) := dk_42 (dk_at dksJ5_indexOfChar_0 13 rfl rfl)
theorem dJ5_indexOfChar_14 : decode cJ5_indexOfChar 14 = .ok (.iload 5, 2) := dk_21 5 (dk_at dksJ5_indexOfChar_0 14 rfl rfl)
theorem dJ5_indexOfChar_16 : decode cJ5_indexOfChar 16 = .ok (.baload, 1) := dk_51 (dk_at dksJ5_indexOfChar_0 16 rfl rfl)
theorem dJ5_indexOfChar_17 : decode cJ5_indexOfChar 17 = .ok (.iload 4, 2) := dk_21 4 (dk_at dksJ5_indexOfChar_0 17 rfl rfl)
theorem dJ5_indexOfChar_19 : decode cJ5_indexOfChar 19 = .ok (.if_icmp .ne 6, 3) := dk_160 0 6 (dk_at dksJ5_indexOfChar_0 19 rfl rfl)
theorem dJ5_indexOfChar_22 : decode cJ5_indexOfChar 22 = .ok (.iload 5, 2) := dk_21 5 (dk_at dksJ5_indexOfChar_0 22 rfl rfl)
theorem dJ5_indexOfChar_24 : decode cJ5_indexOfChar 24 = .ok (.ireturn, 1) := dk_172 (dk_at dksJ5_indexOfChar_1 0 rfl rfl)
theorem dJ5_indexOfChar_25 : decode cJ5_indexOfChar 25 = .ok (.iinc 5 1, 3) := dk_132 5 1 (dk_at dksJ5_indexOfChar_1 1 rfl rfl)
theorem dJ5_indexOfChar_28 : decode cJ5_indexOfChar 28 = .ok (.goto (-21), 3) := dk_167 255 235 (dk_at dksJ5_indexOfChar_1 4 rfl rfl)
theorem dJ5_indexOfChar_31 : decode cJ5_indexOfChar 31 = .ok (.iconst (-1), 1) := dk_2 (dk_at dksJ5_indexOfChar_1 7 rfl rfl)
theorem dJ5_indexOfChar_32 : decode cJ5_indexOfChar 32 = .ok (.ireturn, 1) := dk_172 (dk_at dksJ5_indexOfChar_1 8 rfl rfl)
theorem q102 : (Jvm.Cond.initialized "java/lang/StringLatin1") ∈ lw_all := lw_g (lw_at lw_m1 23 rfl) rfl
theorem q760 : (Jvm.Cond.static ({ cls := "java/lang/StringLatin1", name := "indexOf", desc := "([BIII)I" } : Jvm.MethodName)) ∈ lw_all := lw_g (lw_at lw_m3 201 rfl) rfl
theorem q761 : (Jvm.Cond.code ({ cls := "java/lang/StringLatin1", name := "indexOf", desc := "([BIII)I" } : Jvm.MethodName) prog_37_method_22_code (4 : Nat) (Option.some Jvm.ClassFile.FieldType.int)) ∈ lw_all := lw_g (lw_at lw_m3 202 rfl) rfl
theorem q762 : (Jvm.Cond.methodLink "java/lang/StringLatin1" (88 : Nat) ({ cls := "java/lang/StringLatin1", name := "canEncode", desc := "(I)Z" } : Jvm.MethodName)) ∈ lw_all := lw_g (lw_at lw_m3 203 rfl) rfl
theorem q763 : (Jvm.Cond.static ({ cls := "java/lang/StringLatin1", name := "canEncode", desc := "(I)Z" } : Jvm.MethodName)) ∈ lw_all := lw_g (lw_at lw_m3 204 rfl) rfl
theorem q764 : (Jvm.Cond.code ({ cls := "java/lang/StringLatin1", name := "canEncode", desc := "(I)Z" } : Jvm.MethodName) prog_37_method_4_code (1 : Nat) (Option.some Jvm.ClassFile.FieldType.boolean)) ∈ lw_all := lw_g (lw_at lw_m3 205 rfl) rfl
theorem q765 : (Jvm.Cond.methodLink "java/lang/StringLatin1" (92 : Nat) ({ cls := "java/lang/Math", name := "max", desc := "(II)I" } : Jvm.MethodName)) ∈ lw_all := lw_g (lw_at lw_m3 206 rfl) rfl
theorem q766 : (Jvm.Cond.methodLink "java/lang/StringLatin1" (38 : Nat) ({ cls := "java/lang/Math", name := "min", desc := "(II)I" } : Jvm.MethodName)) ∈ lw_all := lw_g (lw_at lw_m3 207 rfl) rfl
theorem q767 : (Jvm.Cond.methodLink "java/lang/StringLatin1" (95 : Nat) ({ cls := "java/lang/StringLatin1", name := "indexOfChar", desc := "([BIII)I" } : Jvm.MethodName)) ∈ lw_all := lw_g (lw_at lw_m3 208 rfl) rfl
theorem q768 : (Jvm.Cond.static ({ cls := "java/lang/StringLatin1", name := "indexOfChar", desc := "([BIII)I" } : Jvm.MethodName)) ∈ lw_all := lw_g (lw_at lw_m3 209 rfl) rfl
theorem q769 : (Jvm.Cond.code ({ cls := "java/lang/StringLatin1", name := "indexOfChar", desc := "([BIII)I" } : Jvm.MethodName) prog_37_method_23_code (6 : Nat) (Option.some Jvm.ClassFile.FieldType.int)) ∈ lw_all := lw_g (lw_at lw_m3 210 rfl) rfl

/-! java/lang/StringUTF16 -/
set_option maxRecDepth 100000
def RJ6 : String := "java/lang/StringUTF16"
abbrev cJ6_indexOf : ByteArray := prog_38_method_40_code
def yJ6_indexOf : MethodName := ⟨RJ6, "indexOf", "([BIII)I"⟩
def dkwJ6_indexOf_1 : List UInt8 := [18, 227, 162, 0, 11, 42, 27, 28, 29, 184, 0, 228, 172, 42, 27, 28, 29, 184, 0, 232, 172]
abbrev dktJ6_indexOf_1 : List UInt8 := dkwJ6_indexOf_1 ++ []
def dkwJ6_indexOf_0 : List UInt8 := [28, 3, 184, 0, 224, 61, 29, 42, 190, 4, 122, 184, 0, 183, 62, 28, 29, 161, 0, 5, 2, 172, 27]
abbrev dktJ6_indexOf_0 : List UInt8 := dkwJ6_indexOf_0 ++ dktJ6_indexOf_1
theorem dksJ6_indexOf_0 : cJ6_indexOf.data.toList.drop 0 = dktJ6_indexOf_0 := by decide +kernel
theorem dksJ6_indexOf_1 : cJ6_indexOf.data.toList.drop 23 = dktJ6_indexOf_1 := dk_seg dksJ6_indexOf_0 23 rfl rfl
theorem dJ6_indexOf_0 : decode cJ6_indexOf 0 = .ok (.iload_n 2, 1) := dk_28 (dk_at dksJ6_indexOf_0 0 rfl rfl)
theorem dJ6_indexOf_1 : decode cJ6_indexOf 1 = .ok (.iconst 0, 1) := dk_3 (dk_at dksJ6_indexOf_0 1 rfl rfl)
theorem dJ6_indexOf_2 : decode cJ6_indexOf 2 = .ok (.invokestatic 224, 3) := dk_184 0 224 (dk_at dksJ6_indexOf_0 2 rfl rfl)
theorem dJ6_indexOf_5 : decode cJ6_indexOf 5 = .ok (.istore_n 2, 1) := dk_61 (dk_at dksJ6_indexOf_0 5 rfl rfl)
theorem dJ6_indexOf_6 : decode cJ6_indexOf 6 = .ok (.iload_n 3, 1) := dk_29 (dk_at dksJ6_indexOf_0 6 rfl rfl)
theorem dJ6_indexOf_7 : decode cJ6_indexOf 7 = .ok (.aload_n 0, 1) := dk_42 (dk_at dksJ6_indexOf_0 7 rfl rfl)
theorem dJ6_indexOf_8 : decode cJ6_indexOf 8 = .ok (.arraylength, 1) := dk_190 (dk_at dksJ6_indexOf_0 8 rfl rfl)
theorem dJ6_indexOf_9 : decode cJ6_indexOf 9 = .ok (.iconst 1, 1) := dk_4 (dk_at dksJ6_indexOf_0 9 rfl rfl)
theorem dJ6_indexOf_10 : decode cJ6_indexOf 10 = .ok (.ishr, 1) := dk_122 (dk_at dksJ6_indexOf_0 10 rfl rfl)
theorem dJ6_indexOf_11 : decode cJ6_indexOf 11 = .ok (.invokestatic 183, 3) := dk_184 0 183 (dk_at dksJ6_indexOf_0 11 rfl rfl)
theorem dJ6_indexOf_14 : decode cJ6_indexOf 14 = .ok (.istore_n 3, 1) := dk_62 (dk_at dksJ6_indexOf_0 14 rfl rfl)
theorem dJ6_indexOf_15 : decode cJ6_indexOf 15 = .ok (.iload_n 2, 1) := dk_28 (dk_at dksJ6_indexOf_0 15 rfl rfl)
theorem dJ6_indexOf_16 : decode cJ6_indexOf 16 = .ok (.iload_n 3, 1) := dk_29 (dk_at dksJ6_indexOf_0 16 rfl rfl)
theorem dJ6_indexOf_17 : decode cJ6_indexOf 17 = .ok (.if_icmp .lt 5, 3) := dk_161 0 5 (dk_at dksJ6_indexOf_0 17 rfl rfl)
theorem dJ6_indexOf_20 : decode cJ6_indexOf 20 = .ok (.iconst (-1), 1) := dk_2 (dk_at dksJ6_indexOf_0 20 rfl rfl)
theorem dJ6_indexOf_21 : decode cJ6_indexOf 21 = .ok (.ireturn, 1) := dk_172 (dk_at dksJ6_indexOf_0 21 rfl rfl)
theorem dJ6_indexOf_22 : decode cJ6_indexOf 22 = .ok (.iload_n 1, 1) := dk_27 (dk_at dksJ6_indexOf_0 22 rfl rfl)
theorem dJ6_indexOf_23 : decode cJ6_indexOf 23 = .ok (.ldc 227, 2) := dk_18 227 (dk_at dksJ6_indexOf_1 0 rfl rfl)
theorem dJ6_indexOf_25 : decode cJ6_indexOf 25 = .ok (.if_icmp .ge 11, 3) := dk_162 0 11 (dk_at dksJ6_indexOf_1 2 rfl rfl)
theorem dJ6_indexOf_28 : decode cJ6_indexOf 28 = .ok (.aload_n 0, 1) := dk_42 (dk_at dksJ6_indexOf_1 5 rfl rfl)
theorem dJ6_indexOf_29 : decode cJ6_indexOf 29 = .ok (.iload_n 1, 1) := dk_27 (dk_at dksJ6_indexOf_1 6 rfl rfl)
theorem dJ6_indexOf_30 : decode cJ6_indexOf 30 = .ok (.iload_n 2, 1) := dk_28 (dk_at dksJ6_indexOf_1 7 rfl rfl)
theorem dJ6_indexOf_31 : decode cJ6_indexOf 31 = .ok (.iload_n 3, 1) := dk_29 (dk_at dksJ6_indexOf_1 8 rfl rfl)
theorem dJ6_indexOf_32 : decode cJ6_indexOf 32 = .ok (.invokestatic 228, 3) := dk_184 0 228 (dk_at dksJ6_indexOf_1 9 rfl rfl)
theorem dJ6_indexOf_35 : decode cJ6_indexOf 35 = .ok (.ireturn, 1) := dk_172 (dk_at dksJ6_indexOf_1 12 rfl rfl)
theorem dJ6_indexOf_36 : decode cJ6_indexOf 36 = .ok (.aload_n 0, 1) := dk_42 (dk_at dksJ6_indexOf_1 13 rfl rfl)
theorem dJ6_indexOf_37 : decode cJ6_indexOf 37 = .ok (.iload_n 1, 1) := dk_27 (dk_at dksJ6_indexOf_1 14 rfl rfl)
theorem dJ6_indexOf_38 : decode cJ6_indexOf 38 = .ok (.iload_n 2, 1) := dk_28 (dk_at dksJ6_indexOf_1 15 rfl rfl)
theorem dJ6_indexOf_39 : decode cJ6_indexOf 39 = .ok (.iload_n 3, 1) := dk_29 (dk_at dksJ6_indexOf_1 16 rfl rfl)
theorem dJ6_indexOf_40 : decode cJ6_indexOf 40 = .ok (.invokestatic 232, 3) := dk_184 0 232 (dk_at dksJ6_indexOf_1 17 rfl rfl)
theorem dJ6_indexOf_43 : decode cJ6_indexOf 43 = .ok (.ireturn, 1) := dk_172 (dk_at dksJ6_indexOf_1 20 rfl rfl)
abbrev cJ6_indexOfChar : ByteArray := prog_38_method_47_code
def yJ6_indexOfChar : MethodName := ⟨RJ6, "indexOfChar", "([BIII)I"⟩
def dkwJ6_indexOfChar_0 : List UInt8 := [28, 29, 42, 184, 0, 96, 42, 27, 28, 29, 184, 0, 244, 172]
abbrev dktJ6_indexOfChar_0 : List UInt8 := dkwJ6_indexOfChar_0 ++ []
theorem dksJ6_indexOfChar_0 : cJ6_indexOfChar.data.toList.drop 0 = dktJ6_indexOfChar_0 := by decide +kernel
theorem dJ6_indexOfChar_0 : decode cJ6_indexOfChar 0 = .ok (.iload_n 2, 1) := dk_28 (dk_at dksJ6_indexOfChar_0 0 rfl rfl)
theorem dJ6_indexOfChar_1 : decode cJ6_indexOfChar 1 = .ok (.iload_n 3, 1) := dk_29 (dk_at dksJ6_indexOfChar_0 1 rfl rfl)
theorem dJ6_indexOfChar_2 : decode cJ6_indexOfChar 2 = .ok (.aload_n 0, 1) := dk_42 (dk_at dksJ6_indexOfChar_0 2 rfl rfl)
theorem dJ6_indexOfChar_3 : decode cJ6_indexOfChar 3 = .ok (.invokestatic 96, 3) := dk_184 0 96 (dk_at dksJ6_indexOfChar_0 3 rfl rfl)
theorem dJ6_indexOfChar_6 : decode cJ6_indexOfChar 6 = .ok (.aload_n 0, 1) := dk_42 (dk_at dksJ6_indexOfChar_0 6 rfl rfl)
theorem dJ6_indexOfChar_7 : decode cJ6_indexOfChar 7 = .ok (.iload_n 1, 1) := dk_27 (dk_at dksJ6_indexOfChar_0 7 rfl rfl)
theorem dJ6_indexOfChar_8 : decode cJ6_indexOfChar 8 = .ok (.iload_n 2, 1) := dk_28 (dk_at dksJ6_indexOfChar_0 8 rfl rfl)
theorem dJ6_indexOfChar_9 : decode cJ6_indexOfChar 9 = .ok (.iload_n 3, 1) := dk_29 (dk_at dksJ6_indexOfChar_0 9 rfl rfl)
theorem dJ6_indexOfChar_10 : decode cJ6_indexOfChar 10 = .ok (.invokestatic 244, 3) := dk_184 0 244 (dk_at dksJ6_indexOfChar_0 10 rfl rfl)
theorem dJ6_indexOfChar_13 : decode cJ6_indexOfChar 13 = .ok (.ireturn, 1) := dk_172 (dk_at dksJ6_indexOfChar_0 13 rfl rfl)
abbrev cJ6_checkBoundsBeginEnd : ByteArray := prog_38_method_93_code
def yJ6_checkBoundsBeginEnd : MethodName := ⟨RJ6, "checkBoundsBeginEnd", "(II[B)V"⟩
def dkwJ6_checkBoundsBeginEnd_0 : List UInt8 := [26, 27, 44, 184, 0, 48, 184, 0, 241, 177]
abbrev dktJ6_checkBoundsBeginEnd_0 : List UInt8 := dkwJ6_checkBoundsBeginEnd_0 ++ []
theorem dksJ6_checkBoundsBeginEnd_0 : cJ6_checkBoundsBeginEnd.data.toList.drop 0 = dktJ6_checkBoundsBeginEnd_0 := by decide +kernel
theorem dJ6_checkBoundsBeginEnd_0 : decode cJ6_checkBoundsBeginEnd 0 = .ok (.iload_n 0, 1) := dk_26 (dk_at dksJ6_checkBoundsBeginEnd_0 0 rfl rfl)
theorem dJ6_checkBoundsBeginEnd_1 : decode cJ6_checkBoundsBeginEnd 1 = .ok (.iload_n 1, 1) := dk_27 (dk_at dksJ6_checkBoundsBeginEnd_0 1 rfl rfl)
theorem dJ6_checkBoundsBeginEnd_2 : decode cJ6_checkBoundsBeginEnd 2 = .ok (.aload_n 2, 1) := dk_44 (dk_at dksJ6_checkBoundsBeginEnd_0 2 rfl rfl)
theorem dJ6_checkBoundsBeginEnd_3 : decode cJ6_checkBoundsBeginEnd 3 = .ok (.invokestatic 48, 3) := dk_184 0 48 (dk_at dksJ6_checkBoundsBeginEnd_0 3 rfl rfl)
theorem dJ6_checkBoundsBeginEnd_6 : decode cJ6_checkBoundsBeginEnd 6 = .ok (.invokestatic 241, 3) := dk_184 0 241 (dk_at dksJ6_checkBoundsBeginEnd_0 6 rfl rfl)
theorem dJ6_checkBoundsBeginEnd_9 : decode cJ6_checkBoundsBeginEnd 9 = .ok (.return_, 1) := dk_177 (dk_at dksJ6_checkBoundsBeginEnd_0 9 rfl rfl)
abbrev cJ6_length : ByteArray := prog_38_method_6_code
def yJ6_length : MethodName := ⟨RJ6, "length", "([B)I"⟩
def dkwJ6_length_0 : List UInt8 := [42, 190, 4, 122, 172]
abbrev dktJ6_length_0 : List UInt8 := dkwJ6_length_0 ++ []
theorem dksJ6_length_0 : cJ6_length.data.toList.drop 0 = dktJ6_length_0 := by decide +kernel
theorem dJ6_length_0 : decode cJ6_length 0 = .ok (.aload_n 0, 1) := dk_42 (dk_at dksJ6_length_0 0 rfl rfl)
theorem dJ6_length_1 : decode cJ6_length 1 = .ok (.arraylength, 1) := dk_190 (dk_at dksJ6_length_0 1 rfl rfl)
theorem dJ6_length_2 : decode cJ6_length 2 = .ok (.iconst 1, 1) := dk_4 (dk_at dksJ6_length_0 2 rfl rfl)
theorem dJ6_length_3 : decode cJ6_length 3 = .ok (.ishr, 1) := dk_122 (dk_at dksJ6_length_0 3 rfl rfl)
theorem dJ6_length_4 : decode cJ6_length 4 = .ok (.ireturn, 1) := dk_172 (dk_at dksJ6_length_0 4 rfl rfl)
abbrev cJ6_indexOfCharUnsafe : ByteArray := prog_38_method_48_code
def yJ6_indexOfCharUnsafe : MethodName := ⟨RJ6, "indexOfCharUnsafe", "([BIII)I"⟩
def dkwJ6_indexOfCharUnsafe_1 : List UInt8 := [132, 4, 1, 167, 255, 234, 2, 172]
abbrev dktJ6_indexOfCharUnsafe_1 : List UInt8 := dkwJ6_indexOfCharUnsafe_1 ++ []
def dkwJ6_indexOfCharUnsafe_0 : List UInt8 := [28, 54, 4, 21, 4, 29, 162, 0, 22, 42, 21, 4, 184, 0, 71, 27, 160, 0, 6, 21, 4, 172]
abbrev dktJ6_indexOfCharUnsafe_0 : List UInt8 := dkwJ6_indexOfCharUnsafe_0 ++ dktJ6_indexOfCharUnsafe_1
theorem dksJ6_indexOfCharUnsafe_0 : cJ6_indexOfCharUnsafe.data.toList.drop 0 = dktJ6_indexOfCharUnsafe_0 := by decide +kernel
theorem dksJ6_indexOfCharUnsafe_1 : cJ6_indexOfCharUnsafe.data.toList.drop 22 = dktJ6_indexOfCharUnsafe_1 := dk_seg dksJ6_indexOfCharUnsafe_0 22 rfl rfl
theorem dJ6_indexOfCharUnsafe_0 : decode cJ6_indexOfCharUnsafe 0 = .ok (.iload_n 2, 1) := dk_28 (dk_at dksJ6_indexOfCharUnsafe_0 0 rfl rfl)
theorem dJ6_indexOfCharUnsafe_1 : decode cJ6_indexOfCharUnsafe 1 = .ok (.istore 4, 2) := dk_54 4 (dk_at dksJ6_indexOfCharUnsafe_0 1 rfl rfl)
theorem dJ6_indexOfCharUnsafe_3 : decode cJ6_indexOfCharUnsafe 3 = .ok (.iload 4, 2) := dk_21 4 (dk_at dksJ6_indexOfCharUnsafe_0 3 rfl rfl)
theorem dJ6_indexOfCharUnsafe_5 : decode cJ6_indexOfCharUnsafe 5 = .ok (.iload_n 3, 1) := dk_29 (dk_at dksJ6_indexOfCharUnsafe_0 5 rfl rfl)
theorem dJ6_indexOfCharUnsafe_6 : decode cJ6_indexOfCharUnsafe 6 = .ok (.if_icmp .ge 22, 3) := dk_162 0 22 (dk_at dksJ6_indexOfCharUnsafe_0 6 rfl rfl)
theorem dJ6_indexOfCharUnsafe_9 : decode cJ6_indexOfCharUnsafe 9 = .ok (.aload_n 0, 1) := dk_42 (dk_at dksJ6_indexOfCharUnsafe_0 9 rfl rfl)
theorem dJ6_indexOfCharUnsafe_10 : decode cJ6_indexOfCharUnsafe 10 = .ok (.iload 4, 2) := dk_21 4 (dk_at dksJ6_indexOfCharUnsafe_0 10 rfl rfl)
theorem dJ6_indexOfCharUnsafe_12 : decode cJ6_indexOfCharUnsafe 12 = .ok (.invokestatic 71, 3) := dk_184 0 71 (dk_at dksJ6_indexOfCharUnsafe_0 12 rfl rfl)
theorem dJ6_indexOfCharUnsafe_15 : decode cJ6_indexOfCharUnsafe 15 = .ok (.iload_n 1, 1) := dk_27 (dk_at dksJ6_indexOfCharUnsafe_0 15 rfl rfl)
theorem dJ6_indexOfCharUnsafe_16 : decode cJ6_indexOfCharUnsafe 16 = .ok (.if_icmp .ne 6, 3) := dk_160 0 6 (dk_at dksJ6_indexOfCharUnsafe_0 16 rfl rfl)
theorem dJ6_indexOfCharUnsafe_19 : decode cJ6_indexOfCharUnsafe 19 = .ok (.iload 4, 2) := dk_21 4 (dk_at dksJ6_indexOfCharUnsafe_0 19 rfl rfl)
theorem dJ6_indexOfCharUnsafe_21 : decode cJ6_indexOfCharUnsafe 21 = .ok (.ireturn, 1) := dk_172 (dk_at dksJ6_indexOfCharUnsafe_0 21 rfl rfl)
theorem dJ6_indexOfCharUnsafe_22 : decode cJ6_indexOfCharUnsafe 22 = .ok (.iinc 4 1, 3) := dk_132 4 1 (dk_at dksJ6_indexOfCharUnsafe_1 0 rfl rfl)
theorem dJ6_indexOfCharUnsafe_25 : decode cJ6_indexOfCharUnsafe 25 = .ok (.goto (-22), 3) := dk_167 255 234 (dk_at dksJ6_indexOfCharUnsafe_1 3 rfl rfl)
theorem dJ6_indexOfCharUnsafe_28 : decode cJ6_indexOfCharUnsafe 28 = .ok (.iconst (-1), 1) := dk_2 (dk_at dksJ6_indexOfCharUnsafe_1 6 rfl rfl)
theorem dJ6_indexOfCharUnsafe_29 : decode cJ6_indexOfCharUnsafe 29 = .ok (.ireturn, 1) := dk_172 (dk_at dksJ6_indexOfCharUnsafe_1 7 rfl rfl)
abbrev cJ6_getChar : ByteArray := prog_38_method_5_code
def yJ6_getChar : MethodName := ⟨RJ6, "getChar", "([BI)C"⟩
def dkwJ6_getChar_2 : List UInt8 := [51, 17, 0, 255, 126, 178, 0, 63, 120, 128, 146, 172]
abbrev dktJ6_getChar_2 : List UInt8 := dkwJ6_getChar_2 ++ []
def dkwJ6_getChar_1 : List UInt8 := [183, 0, 56, 191, 27, 4, 120, 60, 42, 27, 132, 1, 1, 51, 17, 0, 255, 126, 178, 0, 59, 120, 42, 27]
abbrev dktJ6_getChar_1 : List UInt8 := dkwJ6_getChar_1 ++ dktJ6_getChar_2
def dkwJ6_getChar_0 : List UInt8 := [178, 0, 44, 154, 0, 25, 27, 155, 0, 11, 27, 42, 184, 0, 48, 161, 0, 13, 187, 0, 52, 89, 18, 54]
abbrev dktJ6_getChar_0 : List UInt8 := dkwJ6_getChar_0 ++ dktJ6_getChar_1
theorem dksJ6_getChar_0 : cJ6_getChar.data.toList.drop 0 = dktJ6_getChar_0 := by decide +kernel
theorem dksJ6_getChar_1 : cJ6_getChar.data.toList.drop 24 = dktJ6_getChar_1 := dk_seg dksJ6_getChar_0 24 rfl rfl
theorem dksJ6_getChar_2 : cJ6_getChar.data.toList.drop 48 = dktJ6_getChar_2 := dk_seg dksJ6_getChar_1 24 rfl rfl
theorem dJ6_getChar_0 : decode cJ6_getChar 0 = .ok (.getstatic 44, 3) := dk_178 0 44 (dk_at dksJ6_getChar_0 0 rfl rfl)
theorem dJ6_getChar_3 : decode cJ6_getChar 3 = .ok (.ifCond .ne 25, 3) := dk_154 0 25 (dk_at dksJ6_getChar_0 3 rfl rfl)
theorem dJ6_getChar_6 : decode cJ6_getChar 6 = .ok (.iload_n 1, 1) := dk_27 (dk_at dksJ6_getChar_0 6 rfl rfl)
theorem dJ6_getChar_7 : decode cJ6_getChar 7 = .ok (.ifCond .lt 11, 3) := dk_155 0 11 (dk_at dksJ6_getChar_0 7 rfl rfl)
theorem dJ6_getChar_10 : decode cJ6_getChar 10 = .ok (.iload_n 1, 1) := dk_27 (dk_at dksJ6_getChar_0 10 rfl rfl)
theorem dJ6_getChar_11 : decode cJ6_getChar 11 = .ok (.aload_n 0, 1) := dk_42 (dk_at dksJ6_getChar_0 11 rfl rfl)
theorem dJ6_getChar_12 : decode cJ6_getChar 12 = .ok (.invokestatic 48, 3) := dk_184 0 48 (dk_at dksJ6_getChar_0 12 rfl rfl)
theorem dJ6_getChar_15 : decode cJ6_getChar 15 = .ok (.if_icmp .lt 13, 3) := dk_161 0 13 (dk_at dksJ6_getChar_0 15 rfl rfl)
theorem dJ6_getChar_18 : decode cJ6_getChar 18 = .ok (.new 52, 3) := dk_187 0 52 (dk_at dksJ6_getChar_0 18 rfl rfl)
theorem dJ6_getChar_21 : decode cJ6_getChar 21 = .ok (.dup, 1) := dk_89 (dk_at dksJ6_getChar_0 21 rfl rfl)
theorem dJ6_getChar_22 : decode cJ6_getChar 22 = .ok (.ldc 54, 2) := dk_18 54 (dk_at dksJ6_getChar_0 22 rfl rfl)
theorem dJ6_getChar_24 : decode cJ6_getChar 24 = .ok (.invokespecial 56, 3) := dk_183 0 56 (dk_at dksJ6_getChar_1 0 rfl rfl)
theorem dJ6_getChar_27 : decode cJ6_getChar 27 = .ok (.athrow, 1) := dk_191 (dk_at dksJ6_getChar_1 3 rfl rfl)
theorem dJ6_getChar_28 : decode cJ6_getChar 28 = .ok (.iload_n 1, 1) := dk_27 (dk_at dksJ6_getChar_1 4 rfl rfl)
theorem dJ6_getChar_29 : decode cJ6_getChar 29 = .ok (.iconst 1, 1) := dk_4 (dk_at dksJ6_getChar_1 5 rfl rfl)
theorem dJ6_getChar_30 : decode cJ6_getChar 30 = .ok (.ishl, 1) := dk_120 (dk_at dksJ6_getChar_1 6 rfl rfl)
theorem dJ6_getChar_31 : decode cJ6_getChar 31 = .ok (.istore_n 1, 1) := dk_60 (dk_at dksJ6_getChar_1 7 rfl rfl)
theorem dJ6_getChar_32 : decode cJ6_getChar 32 = .ok (.aload_n 0, 1) := dk_42 (dk_at dksJ6_getChar_1 8 rfl rfl)
theorem dJ6_getChar_33 : decode cJ6_getChar 33 = .ok (.iload_n 1, 1) := dk_27 (dk_at dksJ6_getChar_1 9 rfl rfl)
theorem dJ6_getChar_34 : decode cJ6_getChar 34 = .ok (.iinc 1 1, 3) := dk_132 1 1 (dk_at dksJ6_getChar_1 10 rfl rfl)
theorem dJ6_getChar_37 : decode cJ6_getChar 37 = .ok (.baload, 1) := dk_51 (dk_at dksJ6_getChar_1 13 rfl rfl)
theorem dJ6_getChar_38 : decode cJ6_getChar 38 = .ok (.sipush 255, 3) := dk_17 0 255 (dk_at dksJ6_getChar_1 14 rfl rfl)
theorem dJ6_getChar_41 : decode cJ6_getChar 41 = .ok (.iand, 1) := dk_126 (dk_at dksJ6_getChar_1 17 rfl rfl)
theorem dJ6_getChar_42 : decode cJ6_getChar 42 = .ok (.getstatic 59, 3) := dk_178 0 59 (dk_at dksJ6_getChar_1 18 rfl rfl)
theorem dJ6_getChar_45 : decode cJ6_getChar 45 = .ok (.ishl, 1) := dk_120 (dk_at dksJ6_getChar_1 21 rfl rfl)
theorem dJ6_getChar_46 : decode cJ6_getChar 46 = .ok (.aload_n 0, 1) := dk_42 (dk_at dksJ6_getChar_1 22 rfl rfl)
theorem dJ6_getChar_47 : decode cJ6_getChar 47 = .ok (.iload_n 1, 1) := dk_27 (dk_at dksJ6_getChar_1 23 rfl rfl)
theorem dJ6_getChar_48 : decode cJ6_getChar 48 = .ok (.baload, 1) := dk_51 (dk_at dksJ6_getChar_2 0 rfl rfl)
theorem dJ6_getChar_49 : decode cJ6_getChar 49 = .ok (.sipush 255, 3) := dk_17 0 255 (dk_at dksJ6_getChar_2 1 rfl rfl)
theorem dJ6_getChar_52 : decode cJ6_getChar 52 = .ok (.iand, 1) := dk_126 (dk_at dksJ6_getChar_2 4 rfl rfl)
theorem dJ6_getChar_53 : decode cJ6_getChar 53 = .ok (.getstatic 63, 3) := dk_178 0 63 (dk_at dksJ6_getChar_2 5 rfl rfl)
theorem dJ6_getChar_56 : decode cJ6_getChar 56 = .ok (.ishl, 1) := dk_120 (dk_at dksJ6_getChar_2 8 rfl rfl)
theorem dJ6_getChar_57 : decode cJ6_getChar 57 = .ok (.ior, 1) := dk_128 (dk_at dksJ6_getChar_2 9 rfl rfl)
theorem dJ6_getChar_58 : decode cJ6_getChar 58 = .ok (.i2c, 1) := dk_146 (dk_at dksJ6_getChar_2 10 rfl rfl)
theorem dJ6_getChar_59 : decode cJ6_getChar 59 = .ok (.ireturn, 1) := dk_172 (dk_at dksJ6_getChar_2 11 rfl rfl)
abbrev cJ6_indexOfSupplementary : ByteArray := prog_38_method_49_code
def yJ6_indexOfSupplementary : MethodName := ⟨RJ6, "indexOfSupplementary", "([BIII)I"⟩
def dkwJ6_indexOfSupplementary_3 : List UInt8 := [167, 255, 218, 2, 172]
abbrev dktJ6_indexOfSupplementary_3 : List UInt8 := dkwJ6_indexOfSupplementary_3 ++ []
def dkwJ6_indexOfSupplementary_2 : List UInt8 := [160, 0, 19, 42, 21, 6, 4, 96, 184, 0, 71, 21, 5, 160, 0, 6, 21, 6, 172, 132, 6, 1]
abbrev dktJ6_indexOfSupplementary_2 : List UInt8 := dkwJ6_indexOfSupplementary_2 ++ dktJ6_indexOfSupplementary_3
def dkwJ6_indexOfSupplementary_1 : List UInt8 := [184, 0, 96, 28, 54, 6, 21, 6, 29, 4, 100, 162, 0, 36, 42, 21, 6, 184, 0, 71, 21, 4]
abbrev dktJ6_indexOfSupplementary_1 : List UInt8 := dkwJ6_indexOfSupplementary_1 ++ dktJ6_indexOfSupplementary_2
def dkwJ6_indexOfSupplementary_0 : List UInt8 := [27, 184, 0, 164, 153, 0, 65, 27, 184, 0, 157, 54, 4, 27, 184, 0, 161, 54, 5, 28, 29, 42]
abbrev dktJ6_indexOfSupplementary_0 : List UInt8 := dkwJ6_indexOfSupplementary_0 ++ dktJ6_indexOfSupplementary_1
theorem dksJ6_indexOfSupplementary_0 : cJ6_indexOfSupplementary.data.toList.drop 0 = dktJ6_indexOfSupplementary_0 := by decide +kernel
theorem dksJ6_indexOfSupplementary_1 : cJ6_indexOfSupplementary.data.toList.drop 22 = dktJ6_indexOfSupplementary_1 := dk_seg dksJ6_indexOfSupplementary_0 22 rfl rfl
theorem dksJ6_indexOfSupplementary_2 : cJ6_indexOfSupplementary.data.toList.drop 44 = dktJ6_indexOfSupplementary_2 := dk_seg dksJ6_indexOfSupplementary_1 22 rfl rfl
theorem dksJ6_indexOfSupplementary_3 : cJ6_indexOfSupplementary.data.toList.drop 66 = dktJ6_indexOfSupplementary_3 := dk_seg dksJ6_indexOfSupplementary_2 22 rfl rfl
theorem dJ6_indexOfSupplementary_0 : decode cJ6_indexOfSupplementary 0 = .ok (.iload_n 1, 1) := dk_27 (dk_at dksJ6_indexOfSupplementary_0 0 rfl rfl)
theorem dJ6_indexOfSupplementary_1 : decode cJ6_indexOfSupplementary 1 = .ok (.invokestatic 164, 3) := dk_184 0 164 (dk_at dksJ6_indexOfSupplementary_0 1 rfl rfl)
theorem dJ6_indexOfSupplementary_4 : decode cJ6_indexOfSupplementary 4 = .ok (.ifCond .eq 65, 3) := dk_153 0 65 (dk_at dksJ6_indexOfSupplementary_0 4 rfl rfl)
theorem dJ6_indexOfSupplementary_7 : decode cJ6_indexOfSupplementary 7 = .ok (.iload_n 1, 1) := dk_27 (dk_at dksJ6_indexOfSupplementary_0 7 rfl rfl)
theorem dJ6_indexOfSupplementary_8 : decode cJ6_indexOfSupplementary 8 = .ok (.invokestatic 157, 3) := dk_184 0 157 (dk_at dksJ6_indexOfSupplementary_0 8 rfl rfl)
theorem dJ6_indexOfSupplementary_11 : decode cJ6_indexOfSupplementary 11 = .ok (.istore 4, 2) := dk_54 4 (dk_at dksJ6_indexOfSupplementary_0 11 rfl rfl)
theorem dJ6_indexOfSupplementary_13 : decode cJ6_indexOfSupplementary 13 = .ok (.iload_n 1, 1) := dk_27 (dk_at dksJ6_indexOfSupplementary_0 13 rfl rfl)
theorem dJ6_indexOfSupplementary_14 : decode cJ6_indexOfSupplementary 14 = .ok (.invokestatic 161, 3) := dk_184 0 161 (dk_at dksJ6_indexOfSupplementary_0 14 rfl rfl)
theorem dJ6_indexOfSupplementary_17 : decode cJ6_indexOfSupplementary 17 = .ok (.istore 5, 2) := dk_54 5 (dk_at dksJ6_indexOfSupplementary_0 17 rfl rfl)
theorem dJ6_indexOfSupplementary_19 : decode cJ6_indexOfSupplementary 19 = .ok (.iload_n 2, 1) := dk_28 (dk_at dksJ6_indexOfSupplementary_0 19 rfl rfl)
theorem dJ6_indexOfSupplementary_20 : decode cJ6_indexOfSupplementary 20 = .ok (.iload_n 3, 1) := dk_29 (dk_at dksJ6_indexOfSupplementary_0 20 rfl rfl)
theorem dJ6_indexOfSupplementary_21 : decode cJ6_indexOfSupplementary 21 = .ok (.aload_n 0, 1) := dk_42 (dk_at dksJ6_indexOfSupplementary_0 21 rfl rfl)
theorem dJ6_indexOfSupplementary_22 : decode cJ6_indexOfSupplementary 22 = .ok (.invokestatic 96, 3) := dk_184 0 96 (dk_at dksJ6_indexOfSupplementary_1 0 rfl rfl)
theorem dJ6_indexOfSupplementary_25 : decode cJ6_indexOfSupplementary 25 = .ok (.iload_n 2, 1) := dk_28 (dk_at dksJ6_indexOfSupplementary_1 3 rfl rfl)
theorem dJ6_indexOfSupplementary_26 : decode cJ6_indexOfSupplementary 26 = .ok (.istore 6, 2) := dk_54 6 (dk_at dksJ6_indexOfSupplementary_1 4 rfl rfl)
theorem dJ6_indexOfSupplementary_28 : decode cJ6_indexOfSupplementary 28 = .ok (.iload 6, 2) := dk_21 6 (dk_at dksJ6_indexOfSupplementary_1 6 rfl rfl)
theorem dJ6_indexOfSupplementary_30 : decode cJ6_indexOfSupplementary 30 = .ok (.iload_n 3, 1) := dk_29 (dk_at dksJ6_indexOfSupplementary_1 8 rfl rfl)
theorem dJ6_indexOfSupplementary_31 : decode cJ6_indexOfSupplementary 31 = .ok (.iconst 1, 1) := dk_4 (dk_at dksJ6_indexOfSupplementary_1 9 rfl rfl)
theorem dJ6_indexOfSupplementary_32 : decode cJ6_indexOfSupplementary 32 = .ok (.isub, 1) := dk_100 (dk_at dksJ6_indexOfSupplementary_1 10 rfl rfl)
theorem dJ6_indexOfSupplementary_33 : decode cJ6_indexOfSupplementary 33 = .ok (.if_icmp .ge 36, 3) := dk_162 0 36 (dk_at dksJ6_indexOfSupplementary_1 11 rfl rfl)
theorem dJ6_indexOfSupplementary_36 : decode cJ6_indexOfSupplementary 36 = .ok (.aload_n 0, 1) := dk_42 (dk_at dksJ6_indexOfSupplementary_1 14 rfl rfl)
theorem dJ6_indexOfSupplementary_37 : decode cJ6_indexOfSupplementary 37 = .ok (.iload 6, 2) := dk_21 6 (dk_at dksJ6_indexOfSupplementary_1 15 rfl rfl)
theorem dJ6_indexOfSupplementary_39 : decode cJ6_indexOfSupplementary 39 = .ok (.invokestatic 71, 3) := dk_184 0 71 (dk_at dksJ6_indexOfSupplementary_1 17 rfl rfl)
theorem dJ6_indexOfSupplementary_42 : decode cJ6_indexOfSupplementary 42 = .ok (.iload 4, 2) := dk_21 4 (dk_at dksJ6_indexOfSupplementary_1 20 rfl rfl)
theorem dJ6_indexOfSupplementary_44 : decode cJ6_indexOfSupplementary 44 = .ok (.if_icmp .ne 19, 3) := dk_160 0 19 (dk_at dksJ6_indexOfSupplementary_2 0 rfl rfl)
theorem dJ6_indexOfSupplementary_47 : decode cJ6_indexOfSupplementary 47 = .ok (.aload_n 0, 1) := dk_42 (dk_at dksJ6_indexOfSupplementary_2 3 rfl rfl)
theorem dJ6_indexOfSupplementary_48 : decode cJ6_indexOfSupplementary 48 = .ok (.iload 6, 2) := dk_21 6 (dk_at dksJ6_indexOfSupplementary_2 4 rfl rfl)
theorem dJ6_indexOfSupplementary_50 : decode cJ6_indexOfSupplementary 50 = .ok (.iconst 1, 1) := dk_4 (dk_at dksJ6_indexOfSupplementary_2 6 rfl rfl)
theorem dJ6_indexOfSupplementary_51 : decode cJ6_indexOfSupplementary 51 = .ok (.iadd, 1) := dk_96 (dk_at dksJ6_indexOfSupplementary_2 7 rfl rfl)
theorem dJ6_indexOfSupplementary_52 : decode cJ6_indexOfSupplementary 52 = .ok (.invokestatic 71, 3) := dk_184 0 71 (dk_at dksJ6_indexOfSupplementary_2 8 rfl rfl)
theorem dJ6_indexOfSupplementary_55 : decode cJ6_indexOfSupplementary 55 = .ok (.iload 5, 2) := dk_21 5 (dk_at dksJ6_indexOfSupplementary_2 11 rfl rfl)
theorem dJ6_indexOfSupplementary_57 : decode cJ6_indexOfSupplementary 57 = .ok (.if_icmp .ne 6, 3) := dk_160 0 6 (dk_at dksJ6_indexOfSupplementary_2 13 rfl rfl)
theorem dJ6_indexOfSupplementary_60 : decode cJ6_indexOfSupplementary 60 = .ok (.iload 6, 2) := dk_21 6 (dk_at dksJ6_indexOfSupplementary_2 16 rfl rfl)
theorem dJ6_indexOfSupplementary_62 : decode cJ6_indexOfSupplementary 62 = .ok (.ireturn, 1) := dk_172 (dk_at dksJ6_indexOfSupplementary_2 18 rfl rfl)
theorem dJ6_indexOfSupplementary_63 : decode cJ6_indexOfSupplementary 63 = .ok (.iinc 6 1, 3) := dk_132 6 1 (dk_at dksJ6_indexOfSupplementary_2 19 rfl rfl)
theorem dJ6_indexOfSupplementary_66 : decode cJ6_indexOfSupplementary 66 = .ok (.goto (-38), 3) := dk_167 255 218 (dk_at dksJ6_indexOfSupplementary_3 0 rfl rfl)
theorem dJ6_indexOfSupplementary_69 : decode cJ6_indexOfSupplementary 69 = .ok (.iconst (-1), 1) := dk_2 (dk_at dksJ6_indexOfSupplementary_3 3 rfl rfl)
theorem dJ6_indexOfSupplementary_70 : decode cJ6_indexOfSupplementary 70 = .ok (.ireturn, 1) := dk_172 (dk_at dksJ6_indexOfSupplementary_3 4 rfl rfl)
theorem q103 : (Jvm.Cond.initialized "java/lang/StringUTF16") ∈ lw_all := lw_g (lw_at lw_m1 24 rfl) rfl
theorem q771 : (Jvm.Cond.static ({ cls := "java/lang/StringUTF16", name := "indexOf", desc := "([BIII)I" } : Jvm.MethodName)) ∈ lw_all := lw_g (lw_at lw_m3 212 rfl) rfl
theorem q772 : (Jvm.Cond.code ({ cls := "java/lang/StringUTF16", name := "indexOf", desc := "([BIII)I" } : Jvm.MethodName) prog_38_method_40_code (4 : Nat) (Option.some Jvm.ClassFile.FieldType.int)) ∈ lw_all := lw_g (lw_at lw_m3 213 rfl) rfl
theorem q773 : (Jvm.Cond.methodLink "java/lang/StringUTF16" (224 : Nat) ({ cls := "java/lang/Math", name := "max", desc := "(II)I" } : Jvm.MethodName)) ∈ lw_all := lw_g (lw_at lw_m3 214 rfl) rfl
theorem q774 : (Jvm.Cond.methodLink "java/lang/StringUTF16" (183 : Nat) ({ cls := "java/lang/Math", name := "min", desc := "(II)I" } : Jvm.MethodName)) ∈ lw_all := lw_g (lw_at lw_m3 215 rfl) rfl
theorem q775 : (Jvm.Cond.constant "java/lang/StringUTF16" (227 : Nat) (65536 : Int32)) ∈ lw_all := lw_g (lw_at lw_m3 216 rfl) rfl
theorem q776 : (Jvm.Cond.methodLink "java/lang/StringUTF16" (228 : Nat) ({ cls := "java/lang/StringUTF16", name := "indexOfChar", desc := "([BIII)I" } : Jvm.MethodName)) ∈ lw_all := lw_g (lw_at lw_m3 217 rfl) rfl
theorem q777 : (Jvm.Cond.static ({ cls := "java/lang/StringUTF16", name := "indexOfChar", desc := "([BIII)I" } : Jvm.MethodName)) ∈ lw_all := lw_g (lw_at lw_m3 218 rfl) rfl
theorem q778 : (Jvm.Cond.code ({ cls := "java/lang/StringUTF16", name := "indexOfChar", desc := "([BIII)I" } : Jvm.MethodName) prog_38_method_47_code (4 : Nat) (Option.some Jvm.ClassFile.FieldType.int)) ∈ lw_all := lw_g (lw_at lw_m3 219 rfl) rfl
theorem q779 : (Jvm.Cond.methodLink "java/lang/StringUTF16" (96 : Nat) ({ cls := "java/lang/StringUTF16", name := "checkBoundsBeginEnd", desc := "(II[B)V" } : Jvm.MethodName)) ∈ lw_all := lw_g (lw_at lw_m3 220 rfl) rfl
theorem q780 : (Jvm.Cond.static ({ cls := "java/lang/StringUTF16", name := "checkBoundsBeginEnd", desc := "(II[B)V" } : Jvm.MethodName)) ∈ lw_all := lw_g (lw_at lw_m3 221 rfl) rfl
theorem q781 : (Jvm.Cond.code ({ cls := "java/lang/StringUTF16", name := "checkBoundsBeginEnd", desc := "(II[B)V" } : Jvm.MethodName) prog_38_method_93_code (3 : Nat) (Option.none : Option Jvm.ClassFile.FieldType)) ∈ lw_all := lw_g (lw_at lw_m3 222 rfl) rfl
theorem q782 : (Jvm.Cond.methodLink "java/lang/StringUTF16" (48 : Nat) ({ cls := "java/lang/StringUTF16", name := "length", desc := "([B)I" } : Jvm.MethodName)) ∈ lw_all := lw_g (lw_at lw_m3 223 rfl) rfl
theorem q783 : (Jvm.Cond.static ({ cls := "java/lang/StringUTF16", name := "length", desc := "([B)I" } : Jvm.MethodName)) ∈ lw_all := lw_g (lw_at lw_m3 224 rfl) rfl
theorem q784 : (Jvm.Cond.code ({ cls := "java/lang/StringUTF16", name := "length", desc := "([B)I" } : Jvm.MethodName) prog_38_method_6_code (1 : Nat) (Option.some Jvm.ClassFile.FieldType.int)) ∈ lw_all := lw_g (lw_at lw_m3 225 rfl) rfl
theorem q785 : (Jvm.Cond.methodLink "java/lang/StringUTF16" (241 : Nat) ({ cls := "java/lang/String", name := "checkBoundsBeginEnd", desc := "(III)V" } : Jvm.MethodName)) ∈ lw_all := lw_g (lw_at lw_m3 226 rfl) rfl
theorem q793 : (Jvm.Cond.methodLink "java/lang/StringUTF16" (244 : Nat) ({ cls := "java/lang/StringUTF16", name := "indexOfCharUnsafe", desc := "([BIII)I" } : Jvm.MethodName)) ∈ lw_all := lw_g (lw_at lw_m3 234 rfl) rfl
theorem q794 : (Jvm.Cond.static ({ cls := "java/lang/StringUTF16", name := "indexOfCharUnsafe", desc := "([BIII)I" } : Jvm.MethodName)) ∈ lw_all := lw_g (lw_at lw_m3 235 rfl) rfl
theorem q795 : (Jvm.Cond.code ({ cls := "java/lang/StringUTF16", name := "indexOfCharUnsafe", desc := "([BIII)I" } : Jvm.MethodName) prog_38_method_48_code (5 : Nat) (Option.some Jvm.ClassFile.FieldType.int)) ∈ lw_all := lw_g (lw_at lw_m3 236 rfl) rfl
theorem q796 : (Jvm.Cond.methodLink "java/lang/StringUTF16" (71 : Nat) ({ cls := "java/lang/StringUTF16", name := "getChar", desc := "([BI)C" } : Jvm.MethodName)) ∈ lw_all := lw_g (lw_at lw_m3 237 rfl) rfl
theorem q797 : (Jvm.Cond.static ({ cls := "java/lang/StringUTF16", name := "getChar", desc := "([BI)C" } : Jvm.MethodName)) ∈ lw_all := lw_g (lw_at lw_m3 238 rfl) rfl
theorem q798 : (Jvm.Cond.code ({ cls := "java/lang/StringUTF16", name := "getChar", desc := "([BI)C" } : Jvm.MethodName) prog_38_method_5_code (2 : Nat) (Option.some Jvm.ClassFile.FieldType.char)) ∈ lw_all := lw_g (lw_at lw_m3 239 rfl) rfl
theorem q799 : (Jvm.Cond.fieldLink "java/lang/StringUTF16" (44 : Nat) "java/lang/StringUTF16" "$assertionsDisabled" "Z") ∈ lw_all := lw_g (lw_at lw_m4 0 rfl) rfl
theorem q800 : (Jvm.Cond.laysStatic "java/lang/StringUTF16" "$assertionsDisabled" "Z") ∈ lw_tbl := lw_at lw_m4 1 rfl
theorem q801 : (Jvm.Cond.fieldLink "java/lang/StringUTF16" (59 : Nat) "java/lang/StringUTF16" "HI_BYTE_SHIFT" "I") ∈ lw_all := lw_g (lw_at lw_m4 2 rfl) rfl
theorem q802 : (Jvm.Cond.laysStatic "java/lang/StringUTF16" "HI_BYTE_SHIFT" "I") ∈ lw_tbl := lw_at lw_m4 3 rfl
theorem q803 : (Jvm.Cond.fieldLink "java/lang/StringUTF16" (63 : Nat) "java/lang/StringUTF16" "LO_BYTE_SHIFT" "I") ∈ lw_all := lw_g (lw_at lw_m4 4 rfl) rfl
theorem q804 : (Jvm.Cond.laysStatic "java/lang/StringUTF16" "LO_BYTE_SHIFT" "I") ∈ lw_tbl := lw_at lw_m4 5 rfl
theorem q805 : (Jvm.Cond.methodLink "java/lang/StringUTF16" (232 : Nat) ({ cls := "java/lang/StringUTF16", name := "indexOfSupplementary", desc := "([BIII)I" } : Jvm.MethodName)) ∈ lw_all := lw_g (lw_at lw_m4 6 rfl) rfl
theorem q806 : (Jvm.Cond.static ({ cls := "java/lang/StringUTF16", name := "indexOfSupplementary", desc := "([BIII)I" } : Jvm.MethodName)) ∈ lw_all := lw_g (lw_at lw_m4 7 rfl) rfl
theorem q807 : (Jvm.Cond.code ({ cls := "java/lang/StringUTF16", name := "indexOfSupplementary", desc := "([BIII)I" } : Jvm.MethodName) prog_38_method_49_code (7 : Nat) (Option.some Jvm.ClassFile.FieldType.int)) ∈ lw_all := lw_g (lw_at lw_m4 8 rfl) rfl
theorem q808 : (Jvm.Cond.methodLink "java/lang/StringUTF16" (164 : Nat) ({ cls := "java/lang/Character", name := "isValidCodePoint", desc := "(I)Z" } : Jvm.MethodName)) ∈ lw_all := lw_g (lw_at lw_m4 9 rfl) rfl
theorem q811 : (Jvm.Cond.methodLink "java/lang/StringUTF16" (157 : Nat) ({ cls := "java/lang/Character", name := "highSurrogate", desc := "(I)C" } : Jvm.MethodName)) ∈ lw_all := lw_g (lw_at lw_m4 12 rfl) rfl
theorem q815 : (Jvm.Cond.methodLink "java/lang/StringUTF16" (161 : Nat) ({ cls := "java/lang/Character", name := "lowSurrogate", desc := "(I)C" } : Jvm.MethodName)) ∈ lw_all := lw_g (lw_at lw_m4 16 rfl) rfl

/-! jdk/internal/util/Preconditions -/
set_option maxRecDepth 100000
def RJ7 : String := "jdk/internal/util/Preconditions"
abbrev cJ7_checkFromToIndex : ByteArray := prog_41_method_12_code
def yJ7_checkFromToIndex : MethodName := ⟨RJ7, "checkFromToIndex", "(IIILjava/util/function/BiFunction;)I"⟩
def dkwJ7_checkFromToIndex_0 : List UInt8 := [26, 155, 0, 13, 26, 27, 163, 0, 8, 27, 28, 164, 0, 11, 45, 26, 27, 28, 184, 0, 99, 191, 26, 172]
abbrev dktJ7_checkFromToIndex_0 : List UInt8 := dkwJ7_checkFromToIndex_0 ++ []
theorem dksJ7_checkFromToIndex_0 : cJ7_checkFromToIndex.data.toList.drop 0 = dktJ7_checkFromToIndex_0 := by decide +kernel
theorem dJ7_checkFromToIndex_0 : decode cJ7_checkFromToIndex 0 = .ok (.iload_n 0, 1) := dk_26 (dk_at dksJ7_checkFromToIndex_0 0 rfl rfl)
theorem dJ7_checkFromToIndex_1 : decode cJ7_checkFromToIndex 1 = .ok (.ifCond .lt 13, 3) := dk_155 0 13 (dk_at dksJ7_checkFromToIndex_0 1 rfl rfl)
theorem dJ7_checkFromToIndex_4 : decode cJ7_checkFromToIndex 4 = .ok (.iload_n 0, 1) := dk_26 (dk_at dksJ7_checkFromToIndex_0 4 rfl rfl)
theorem dJ7_checkFromToIndex_5 : decode cJ7_checkFromToIndex 5 = .ok (.iload_n 1, 1) := dk_27 (dk_at dksJ7_checkFromToIndex_0 5 rfl rfl)
theorem dJ7_checkFromToIndex_6 : decode cJ7_checkFromToIndex 6 = .ok (.if_icmp .gt 8, 3) := dk_163 0 8 (dk_at dksJ7_checkFromToIndex_0 6 rfl rfl)
theorem dJ7_checkFromToIndex_9 : decode cJ7_checkFromToIndex 9 = .ok (.iload_n 1, 1) := dk_27 (dk_at dksJ7_checkFromToIndex_0 9 rfl rfl)
theorem dJ7_checkFromToIndex_10 : decode cJ7_checkFromToIndex 10 = .ok (.iload_n 2, 1) := dk_28 (dk_at dksJ7_checkFromToIndex_0 10 rfl rfl)
theorem dJ7_checkFromToIndex_11 : decode cJ7_checkFromToIndex 11 = .ok (.if_icmp .le 11, 3) := dk_164 0 11 (dk_at dksJ7_checkFromToIndex_0 11 rfl rfl)
theorem dJ7_checkFromToIndex_14 : decode cJ7_checkFromToIndex 14 = .ok (.aload_n 3, 1) := dk_45 (dk_at dksJ7_checkFromToIndex_0 14 rfl rfl)
theorem dJ7_checkFromToIndex_15 : decode cJ7_checkFromToIndex 15 = .ok (.iload_n 0, 1) := dk_26 (dk_at dksJ7_checkFromToIndex_0 15 rfl rfl)
theorem dJ7_checkFromToIndex_16 : decode cJ7_checkFromToIndex 16 = .ok (.iload_n 1, 1) := dk_27 (dk_at dksJ7_checkFromToIndex_0 16 rfl rfl)
theorem dJ7_checkFromToIndex_17 : decode cJ7_checkFromToIndex 17 = .ok (.iload_n 2, 1) := dk_28 (dk_at dksJ7_checkFromToIndex_0 17 rfl rfl)
theorem dJ7_checkFromToIndex_18 : decode cJ7_checkFromToIndex 18 = .ok (.invokestatic 99, 3) := dk_184 0 99 (dk_at dksJ7_checkFromToIndex_0 18 rfl rfl)
theorem dJ7_checkFromToIndex_21 : decode cJ7_checkFromToIndex 21 = .ok (.athrow, 1) := dk_191 (dk_at dksJ7_checkFromToIndex_0 21 rfl rfl)
theorem dJ7_checkFromToIndex_22 : decode cJ7_checkFromToIndex 22 = .ok (.iload_n 0, 1) := dk_26 (dk_at dksJ7_checkFromToIndex_0 22 rfl rfl)
theorem dJ7_checkFromToIndex_23 : decode cJ7_checkFromToIndex 23 = .ok (.ireturn, 1) := dk_172 (dk_at dksJ7_checkFromToIndex_0 23 rfl rfl)
theorem q104 : (Jvm.Cond.initialized "jdk/internal/util/Preconditions") ∈ lw_all := lw_g (lw_at lw_m1 25 rfl) rfl
theorem q789 : (Jvm.Cond.laysStatic "jdk/internal/util/Preconditions" "SIOOBE_FORMATTER" "Ljava/util/function/BiFunction;") ∈ lw_tbl := lw_at lw_m3 230 rfl
theorem q791 : (Jvm.Cond.static ({ cls := "jdk/internal/util/Preconditions", name := "checkFromToIndex", desc := "(IIILjava/util/function/BiFunction;)I" } : Jvm.MethodName)) ∈ lw_all := lw_g (lw_at lw_m3 232 rfl) rfl
theorem q792 : (Jvm.Cond.code ({ cls := "jdk/internal/util/Preconditions", name := "checkFromToIndex", desc := "(IIILjava/util/function/BiFunction;)I" } : Jvm.MethodName) prog_41_method_12_code (4 : Nat) (Option.some Jvm.ClassFile.FieldType.int)) ∈ lw_all := lw_g (lw_at lw_m3 233 rfl) rfl

/-! java/lang/Character -/
set_option maxRecDepth 100000
def RJ8 : String := "java/lang/Character"
abbrev cJ8_isValidCodePoint : ByteArray := prog_31_method_11_code
def yJ8_isValidCodePoint : MethodName := ⟨RJ8, "isValidCodePoint", "(I)Z"⟩
def dkwJ8_isValidCodePoint_0 : List UInt8 := [26, 16, 16, 124, 60, 27, 16, 17, 162, 0, 7, 4, 167, 0, 4, 3, 172]
abbrev dktJ8_isValidCodePoint_0 : List UInt8 := dkwJ8_isValidCodePoint_0 ++ []
theorem dksJ8_isValidCodePoint_0 : cJ8_isValidCodePoint.data.toList.drop 0 = dktJ8_isValidCodePoint_0 := by decide +kernel
theorem dJ8_isValidCodePoint_0 : decode cJ8_isValidCodePoint 0 = .ok (.iload_n 0, 1) := dk_26 (dk_at dksJ8_isValidCodePoint_0 0 rfl rfl)
theorem dJ8_isValidCodePoint_1 : decode cJ8_isValidCodePoint 1 = .ok (.bipush 16, 2) := dk_16 16 (dk_at dksJ8_isValidCodePoint_0 1 rfl rfl)
theorem dJ8_isValidCodePoint_3 : decode cJ8_isValidCodePoint 3 = .ok (.iushr, 1) := dk_124 (dk_at dksJ8_isValidCodePoint_0 3 rfl rfl)
theorem dJ8_isValidCodePoint_4 : decode cJ8_isValidCodePoint 4 = .ok (.istore_n 1, 1) := dk_60 (dk_at dksJ8_isValidCodePoint_0 4 rfl rfl)
theorem dJ8_isValidCodePoint_5 : decode cJ8_isValidCodePoint 5 = .ok (.iload_n 1, 1) := dk_27 (dk_at dksJ8_isValidCodePoint_0 5 rfl rfl)
theorem dJ8_isValidCodePoint_6 : decode cJ8_isValidCodePoint 6 = .ok (.bipush 17, 2) := dk_16 17 (dk_at dksJ8_isValidCodePoint_0 6 rfl rfl)
theorem dJ8_isValidCodePoint_8 : decode cJ8_isValidCodePoint 8 = .ok (.if_icmp .ge 7, 3) := dk_162 0 7 (dk_at dksJ8_isValidCodePoint_0 8 rfl rfl)
theorem dJ8_isValidCodePoint_11 : decode cJ8_isValidCodePoint 11 = .ok (.iconst 1, 1) := dk_4 (dk_at dksJ8_isValidCodePoint_0 11 rfl rfl)
theorem dJ8_isValidCodePoint_12 : decode cJ8_isValidCodePoint 12 = .ok (.goto 4, 3) := dk_167 0 4 (dk_at dksJ8_isValidCodePoint_0 12 rfl rfl)
theorem dJ8_isValidCodePoint_15 : decode cJ8_isValidCodePoint 15 = .ok (.iconst 0, 1) := dk_3 (dk_at dksJ8_isValidCodePoint_0 15 rfl rfl)
theorem dJ8_isValidCodePoint_16 : decode cJ8_isValidCodePoint 16 = .ok (.ireturn, 1) := dk_172 (dk_at dksJ8_isValidCodePoint_0 16 rfl rfl)
abbrev cJ8_highSurrogate : ByteArray := prog_31_method_28_code
def yJ8_highSurrogate : MethodName := ⟨RJ8, "highSurrogate", "(I)C"⟩
def dkwJ8_highSurrogate_0 : List UInt8 := [26, 16, 10, 124, 18, 110, 96, 146, 172]
abbrev dktJ8_highSurrogate_0 : List UInt8 := dkwJ8_highSurrogate_0 ++ []
theorem dksJ8_highSurrogate_0 : cJ8_highSurrogate.data.toList.drop 0 = dktJ8_highSurrogate_0 := by decide +kernel
theorem dJ8_highSurrogate_0 : decode cJ8_highSurrogate 0 = .ok (.iload_n 0, 1) := dk_26 (dk_at dksJ8_highSurrogate_0 0 rfl rfl)
theorem dJ8_highSurrogate_1 : decode cJ8_highSurrogate 1 = .ok (.bipush 10, 2) := dk_16 10 (dk_at dksJ8_highSurrogate_0 1 rfl rfl)
theorem dJ8_highSurrogate_3 : decode cJ8_highSurrogate 3 = .ok (.iushr, 1) := dk_124 (dk_at dksJ8_highSurrogate_0 3 rfl rfl)
theorem dJ8_highSurrogate_4 : decode cJ8_highSurrogate 4 = .ok (.ldc 110, 2) := dk_18 110 (dk_at dksJ8_highSurrogate_0 4 rfl rfl)
theorem dJ8_highSurrogate_6 : decode cJ8_highSurrogate 6 = .ok (.iadd, 1) := dk_96 (dk_at dksJ8_highSurrogate_0 6 rfl rfl)
theorem dJ8_highSurrogate_7 : decode cJ8_highSurrogate 7 = .ok (.i2c, 1) := dk_146 (dk_at dksJ8_highSurrogate_0 7 rfl rfl)
theorem dJ8_highSurrogate_8 : decode cJ8_highSurrogate 8 = .ok (.ireturn, 1) := dk_172 (dk_at dksJ8_highSurrogate_0 8 rfl rfl)
abbrev cJ8_lowSurrogate : ByteArray := prog_31_method_29_code
def yJ8_lowSurrogate : MethodName := ⟨RJ8, "lowSurrogate", "(I)C"⟩
def dkwJ8_lowSurrogate_0 : List UInt8 := [26, 17, 3, 255, 126, 18, 76, 96, 146, 172]
abbrev dktJ8_lowSurrogate_0 : List UInt8 := dkwJ8_lowSurrogate_0 ++ []
theorem dksJ8_lowSurrogate_0 : cJ8_lowSurrogate.data.toList.drop 0 = dktJ8_lowSurrogate_0 := by decide +kernel
theorem dJ8_lowSurrogate_0 : decode cJ8_lowSurrogate 0 = .ok (.iload_n 0, 1) := dk_26 (dk_at dksJ8_lowSurrogate_0 0 rfl rfl)
theorem dJ8_lowSurrogate_1 : decode cJ8_lowSurrogate 1 = .ok (.sipush 1023, 3) := dk_17 3 255 (dk_at dksJ8_lowSurrogate_0 1 rfl rfl)
theorem dJ8_lowSurrogate_4 : decode cJ8_lowSurrogate 4 = .ok (.iand, 1) := dk_126 (dk_at dksJ8_lowSurrogate_0 4 rfl rfl)
theorem dJ8_lowSurrogate_5 : decode cJ8_lowSurrogate 5 = .ok (.ldc 76, 2) := dk_18 76 (dk_at dksJ8_lowSurrogate_0 5 rfl rfl)
theorem dJ8_lowSurrogate_7 : decode cJ8_lowSurrogate 7 = .ok (.iadd, 1) := dk_96 (dk_at dksJ8_lowSurrogate_0 7 rfl rfl)
theorem dJ8_lowSurrogate_8 : decode cJ8_lowSurrogate 8 = .ok (.i2c, 1) := dk_146 (dk_at dksJ8_lowSurrogate_0 8 rfl rfl)
theorem dJ8_lowSurrogate_9 : decode cJ8_lowSurrogate 9 = .ok (.ireturn, 1) := dk_172 (dk_at dksJ8_lowSurrogate_0 9 rfl rfl)
theorem q105 : (Jvm.Cond.initialized "java/lang/Character") ∈ lw_all := lw_g (lw_at lw_m1 26 rfl) rfl
theorem q809 : (Jvm.Cond.static ({ cls := "java/lang/Character", name := "isValidCodePoint", desc := "(I)Z" } : Jvm.MethodName)) ∈ lw_all := lw_g (lw_at lw_m4 10 rfl) rfl
theorem q810 : (Jvm.Cond.code ({ cls := "java/lang/Character", name := "isValidCodePoint", desc := "(I)Z" } : Jvm.MethodName) prog_31_method_11_code (2 : Nat) (Option.some Jvm.ClassFile.FieldType.boolean)) ∈ lw_all := lw_g (lw_at lw_m4 11 rfl) rfl
theorem q812 : (Jvm.Cond.static ({ cls := "java/lang/Character", name := "highSurrogate", desc := "(I)C" } : Jvm.MethodName)) ∈ lw_all := lw_g (lw_at lw_m4 13 rfl) rfl
theorem q813 : (Jvm.Cond.code ({ cls := "java/lang/Character", name := "highSurrogate", desc := "(I)C" } : Jvm.MethodName) prog_31_method_28_code (1 : Nat) (Option.some Jvm.ClassFile.FieldType.char)) ∈ lw_all := lw_g (lw_at lw_m4 14 rfl) rfl
theorem q814 : (Jvm.Cond.constant "java/lang/Character" (110 : Nat) (55232 : Int32)) ∈ lw_all := lw_g (lw_at lw_m4 15 rfl) rfl
theorem q816 : (Jvm.Cond.static ({ cls := "java/lang/Character", name := "lowSurrogate", desc := "(I)C" } : Jvm.MethodName)) ∈ lw_all := lw_g (lw_at lw_m4 17 rfl) rfl
theorem q817 : (Jvm.Cond.code ({ cls := "java/lang/Character", name := "lowSurrogate", desc := "(I)C" } : Jvm.MethodName) prog_31_method_29_code (1 : Nat) (Option.some Jvm.ClassFile.FieldType.char)) ∈ lw_all := lw_g (lw_at lw_m4 18 rfl) rfl
theorem q818 : (Jvm.Cond.constant "java/lang/Character" (76 : Nat) (56320 : Int32)) ∈ lw_all := lw_g (lw_at lw_m4 19 rfl) rfl

/-! java/lang/Integer -/
set_option maxRecDepth 100000
def RJ9 : String := "java/lang/Integer"
abbrev cJ9_bitCount : ByteArray := prog_33_method_49_code
def yJ9_bitCount : MethodName := ⟨RJ9, "bitCount", "(I)I"⟩
def dkwJ9_bitCount_2 : List UInt8 := [26, 16, 63, 126, 172]
abbrev dktJ9_bitCount_2 : List UInt8 := dkwJ9_bitCount_2 ++ []
def dkwJ9_bitCount_1 : List UInt8 := [26, 26, 7, 124, 96, 19, 1, 11, 126, 59, 26, 26, 16, 8, 124, 96, 59, 26, 26, 16, 16, 124, 96, 59]
abbrev dktJ9_bitCount_1 : List UInt8 := dkwJ9_bitCount_1 ++ dktJ9_bitCount_2
def dkwJ9_bitCount_0 : List UInt8 := [26, 26, 4, 124, 19, 1, 9, 126, 100, 59, 26, 19, 1, 10, 126, 26, 5, 124, 19, 1, 10, 126, 96, 59]
abbrev dktJ9_bitCount_0 : List UInt8 := dkwJ9_bitCount_0 ++ dktJ9_bitCount_1
theorem dksJ9_bitCount_0 : cJ9_bitCount.data.toList.drop 0 = dktJ9_bitCount_0 := by decide +kernel
theorem dksJ9_bitCount_1 : cJ9_bitCount.data.toList.drop 24 = dktJ9_bitCount_1 := dk_seg dksJ9_bitCount_0 24 rfl rfl
theorem dksJ9_bitCount_2 : cJ9_bitCount.data.toList.drop 48 = dktJ9_bitCount_2 := dk_seg dksJ9_bitCount_1 24 rfl rfl
theorem dJ9_bitCount_0 : decode cJ9_bitCount 0 = .ok (.iload_n 0, 1) := dk_26 (dk_at dksJ9_bitCount_0 0 rfl rfl)
theorem dJ9_bitCount_1 : decode cJ9_bitCount 1 = .ok (.iload_n 0, 1) := dk_26 (dk_at dksJ9_bitCount_0 1 rfl rfl)
theorem dJ9_bitCount_2 : decode cJ9_bitCount 2 = .ok (.iconst 1, 1) := dk_4 (dk_at dksJ9_bitCount_0 2 rfl rfl)
theorem dJ9_bitCount_3 : decode cJ9_bitCount 3 = .ok (.iushr, 1) := dk_124 (dk_at dksJ9_bitCount_0 3 rfl rfl)
theorem dJ9_bitCount_4 : decode cJ9_bitCount 4 = .ok (.ldc_w 265, 3) := dk_19 1 9 (dk_at dksJ9_bitCount_0 4 rfl rfl)
theorem dJ9_bitCount_7 : decode cJ9_bitCount 7 = .ok (.iand, 1) := dk_126 (dk_at dksJ9_bitCount_0 7 rfl rfl)
theorem dJ9_bitCount_8 : decode cJ9_bitCount 8 = .ok (.isub, 1) := dk_100 (dk_at dksJ9_bitCount_0 8 rfl rfl)
theorem dJ9_bitCount_9 : decode cJ9_bitCount 9 = .ok (.istore_n 0, 1) := dk_59 (dk_at dksJ9_bitCount_0 9 rfl rfl)
theorem dJ9_bitCount_10 : decode cJ9_bitCount 10 = .ok (.iload_n 0, 1) := dk_26 (dk_at dksJ9_bitCount_0 10 rfl rfl)
theorem dJ9_bitCount_11 : decode cJ9_bitCount 11 = .ok (.ldc_w 266, 3) := dk_19 1 10 (dk_at dksJ9_bitCount_0 11 rfl rfl)
theorem dJ9_bitCount_14 : decode cJ9_bitCount 14 = .ok (.iand, 1) := dk_126 (dk_at dksJ9_bitCount_0 14 rfl rfl)
theorem dJ9_bitCount_15 : decode cJ9_bitCount 15 = .ok (.iload_n 0, 1) := dk_26 (dk_at dksJ9_bitCount_0 15 rfl rfl)
theorem dJ9_bitCount_16 : decode cJ9_bitCount 16 = .ok (.iconst 2, 1) := dk_5 (dk_at dksJ9_bitCount_0 16 rfl rfl)
theorem dJ9_bitCount_17 : decode cJ9_bitCount 17 = .ok (.iushr, 1) := dk_124 (dk_at dksJ9_bitCount_0 17 rfl rfl)
theorem dJ9_bitCount_18 : decode cJ9_bitCount 18 = .ok (.ldc_w 266, 3) := dk_19 1 10 (dk_at dksJ9_bitCount_0 18 rfl rfl)
theorem dJ9_bitCount_21 : decode cJ9_bitCount 21 = .ok (.iand, 1) := dk_126 (dk_at dksJ9_bitCount_0 21 rfl rfl)
theorem dJ9_bitCount_22 : decode cJ9_bitCount 22 = .ok (.iadd, 1) := dk_96 (dk_at dksJ9_bitCount_0 22 rfl rfl)
theorem dJ9_bitCount_23 : decode cJ9_bitCount 23 = .ok (.istore_n 0, 1) := dk_59 (dk_at dksJ9_bitCount_0 23 rfl rfl)
theorem dJ9_bitCount_24 : decode cJ9_bitCount 24 = .ok (.iload_n 0, 1) := dk_26 (dk_at dksJ9_bitCount_1 0 rfl rfl)
theorem dJ9_bitCount_25 : decode cJ9_bitCount 25 = .ok (.iload_n 0, 1) := dk_26 (dk_at dksJ9_bitCount_1 1 rfl rfl)
theorem dJ9_bitCount_26 : decode cJ9_bitCount 26 = .ok (.iconst 4, 1) := dk_7 (dk_at dksJ9_bitCount_1 2 rfl rfl)
theorem dJ9_bitCount_27 : decode cJ9_bitCount 27 = .ok (.iushr, 1) := dk_124 (dk_at dksJ9_bitCount_1 3 rfl rfl)
theorem dJ9_bitCount_28 : decode cJ9_bitCount 28 = .ok (.iadd, 1) := dk_96 (dk_at dksJ9_bitCount_1 4 rfl rfl)
theorem dJ9_bitCount_29 : decode cJ9_bitCount 29 = .ok (.ldc_w 267, 3) := dk_19 1 11 (dk_at dksJ9_bitCount_1 5 rfl rfl)
theorem dJ9_bitCount_32 : decode cJ9_bitCount 32 = .ok (.iand, 1) := dk_126 (dk_at dksJ9_bitCount_1 8 rfl rfl)
theorem dJ9_bitCount_33 : decode cJ9_bitCount 33 = .ok (.istore_n 0, 1) := dk_59 (dk_at dksJ9_bitCount_1 9 rfl rfl)
theorem dJ9_bitCount_34 : decode cJ9_bitCount 34 = .ok (.iload_n 0, 1) := dk_26 (dk_at dksJ9_bitCount_1 10 rfl rfl)
theorem dJ9_bitCount_35 : decode cJ9_bitCount 35 = .ok (.iload_n 0, 1) := dk_26 (dk_at dksJ9_bitCount_1 11 rfl rfl)
theorem dJ9_bitCount_36 : decode cJ9_bitCount 36 = .ok (.bipush 8, 2) := dk_16 8 (dk_at dksJ9_bitCount_1 12 rfl rfl)
theorem dJ9_bitCount_38 : decode cJ9_bitCount 38 = .ok (.iushr, 1) := dk_124 (dk_at dksJ9_bitCount_1 14 rfl rfl)
theorem dJ9_bitCount_39 : decode cJ9_bitCount 39 = .ok (.iadd, 1) := dk_96 (dk_at dksJ9_bitCount_1 15 rfl rfl)
theorem dJ9_bitCount_40 : decode cJ9_bitCount 40 = .ok (.istore_n 0, 1) := dk_59 (dk_at dksJ9_bitCount_1 16 rfl rfl)
theorem dJ9_bitCount_41 : decode cJ9_bitCount 41 = .ok (.iload_n 0, 1) := dk_26 (dk_at dksJ9_bitCount_1 17 rfl rfl)
theorem dJ9_bitCount_42 : decode cJ9_bitCount 42 = .ok (.iload_n 0, 1) := dk_26 (dk_at dksJ9_bitCount_1 18 rfl rfl)
theorem dJ9_bitCount_43 : decode cJ9_bitCount 43 = .ok (.bipush 16, 2) := dk_16 16 (dk_at dksJ9_bitCount_1 19 rfl rfl)
theorem dJ9_bitCount_45 : decode cJ9_bitCount 45 = .ok (.iushr, 1) := dk_124 (dk_at dksJ9_bitCount_1 21 rfl rfl)
theorem dJ9_bitCount_46 : decode cJ9_bitCount 46 = .ok (.iadd, 1) := dk_96 (dk_at dksJ9_bitCount_1 22 rfl rfl)
theorem dJ9_bitCount_47 : decode cJ9_bitCount 47 = .ok (.istore_n 0, 1) := dk_59 (dk_at dksJ9_bitCount_1 23 rfl rfl)
theorem dJ9_bitCount_48 : decode cJ9_bitCount 48 = .ok (.iload_n 0, 1) := dk_26 (dk_at dksJ9_bitCount_2 0 rfl rfl)
theorem dJ9_bitCount_49 : decode cJ9_bitCount 49 = .ok (.bipush 63, 2) := dk_16 63 (dk_at dksJ9_bitCount_2 1 rfl rfl)
theorem dJ9_bitCount_51 : decode cJ9_bitCount 51 = .ok (.iand, 1) := dk_126 (dk_at dksJ9_bitCount_2 3 rfl rfl)
theorem dJ9_bitCount_52 : decode cJ9_bitCount 52 = .ok (.ireturn, 1) := dk_172 (dk_at dksJ9_bitCount_2 4 rfl rfl)
theorem q110 : (Jvm.Cond.initialized "java/lang/Integer") ∈ lw_all := lw_g (lw_at lw_m1 31 rfl) rfl
theorem q1061 : (Jvm.Cond.static ({ cls := "java/lang/Integer", name := "bitCount", desc := "(I)I" } : Jvm.MethodName)) ∈ lw_all := lw_g (lw_at lw_m5 22 rfl) rfl
theorem q1062 : (Jvm.Cond.code ({ cls := "java/lang/Integer", name := "bitCount", desc := "(I)I" } : Jvm.MethodName) prog_33_method_49_code (1 : Nat) (Option.some Jvm.ClassFile.FieldType.int)) ∈ lw_all := lw_g (lw_at lw_m5 23 rfl) rfl
theorem q1063 : (Jvm.Cond.constant "java/lang/Integer" (265 : Nat) (1431655765 : Int32)) ∈ lw_all := lw_g (lw_at lw_m5 24 rfl) rfl
theorem q1064 : (Jvm.Cond.constant "java/lang/Integer" (266 : Nat) (858993459 : Int32)) ∈ lw_all := lw_g (lw_at lw_m5 25 rfl) rfl
theorem q1065 : (Jvm.Cond.constant "java/lang/Integer" (267 : Nat) (252645135 : Int32)) ∈ lw_all := lw_g (lw_at lw_m5 26 rfl) rfl

/-! java/lang/Object -/
set_option maxRecDepth 100000
def RJ10 : String := "java/lang/Object"
abbrev cJ10_init : ByteArray := object_method_1_code
def yJ10_init : MethodName := ⟨RJ10, "<init>", "()V"⟩
theorem dJ10_init_0 : decode cJ10_init 0 = .ok (.return_, 1) := by decide +kernel
theorem q122 : (Jvm.Cond.instanceMethod ({ cls := "java/lang/Object", name := "<init>", desc := "()V" } : Jvm.MethodName)) ∈ lw_all := lw_g (lw_at lw_m1 43 rfl) rfl
theorem q123 : (Jvm.Cond.code ({ cls := "java/lang/Object", name := "<init>", desc := "()V" } : Jvm.MethodName) object_method_1_code (1 : Nat) (Option.none : Option Jvm.ClassFile.FieldType)) ∈ lw_all := lw_g (lw_at lw_m1 44 rfl) rfl

/-! WellNames$Finding -/
set_option maxRecDepth 100000
def RX1 : String := "WellNames$Finding"
def TX1 : u_T := fun k => match k with
  | 0 => ("java/lang/Throwable", "cause", "Ljava/lang/Throwable;", false)
  | 1 => ("java/lang/Throwable", "stackTrace", "[Ljava/lang/StackTraceElement;", false)
  | 2 => ("java/lang/Throwable", "suppressedExceptions", "Ljava/util/List;", false)
  | 3 => ("java/lang/Throwable", "detailMessage", "Ljava/lang/String;", false)
  | 4 => ("java/lang/Throwable", "backtrace", "Ljava/lang/Object;", false)
  | 5 => ("java/lang/Throwable", "depth", "I", false)
  | _ => ("WellNames$Finding", "code", "I", false)
def tyX1 : Nat → FieldType := fun k => match k with
  | 0 => .object "java/lang/Throwable"
  | 1 => .array (.object "java/lang/StackTraceElement")
  | 2 => .object "java/util/List"
  | 3 => .object "java/lang/String"
  | 4 => .object "java/lang/Object"
  | 5 => .int
  | _ => .int
abbrev wsX10 : List Cond := u_ws RX1 TX1 7
theorem nmX1 : ∀ a, a < 7 → ∀ b, b < 7 → a ≠ b → (TX1 a).2.1 ≠ (TX1 b).2.1 := by decide +kernel
theorem tyX1_ok : ∀ k, k < 7 → parseFieldDescriptor (TX1 k).2.2.1 = some (tyX1 k) := by decide +kernel
abbrev cX1_init : ByteArray := prog_13_method_1_code
def yX1_init : MethodName := ⟨RX1, "<init>", "()V"⟩
def dkwX1_init_0 : List UInt8 := [42, 1, 1, 3, 3, 183, 0, 1, 177]
abbrev dktX1_init_0 : List UInt8 := dkwX1_init_0 ++ []
theorem dksX1_init_0 : cX1_init.data.toList.drop 0 = dktX1_init_0 := by decide +kernel
theorem dX1_init_0 : decode cX1_init 0 = .ok (.aload_n 0, 1) := dk_42 (dk_at dksX1_init_0 0 rfl rfl)
theorem dX1_init_1 : decode cX1_init 1 = .ok (.aconst_null, 1) := dk_1 (dk_at dksX1_init_0 1 rfl rfl)
theorem dX1_init_2 : decode cX1_init 2 = .ok (.aconst_null, 1) := dk_1 (dk_at dksX1_init_0 2 rfl rfl)
theorem dX1_init_3 : decode cX1_init 3 = .ok (.iconst 0, 1) := dk_3 (dk_at dksX1_init_0 3 rfl rfl)
theorem dX1_init_4 : decode cX1_init 4 = .ok (.iconst 0, 1) := dk_3 (dk_at dksX1_init_0 4 rfl rfl)
theorem dX1_init_5 : decode cX1_init 5 = .ok (.invokespecial 1, 3) := dk_183 0 1 (dk_at dksX1_init_0 5 rfl rfl)
theorem dX1_init_8 : decode cX1_init 8 = .ok (.return_, 1) := dk_177 (dk_at dksX1_init_0 8 rfl rfl)
abbrev cX1_of : ByteArray := prog_13_method_2_code
def yX1_of : MethodName := ⟨RX1, "of", "(I)LWellNames$Finding;"⟩
def dkwX1_of_0 : List UInt8 := [42, 27, 181, 0, 7, 42, 176]
abbrev dktX1_of_0 : List UInt8 := dkwX1_of_0 ++ []
theorem dksX1_of_0 : cX1_of.data.toList.drop 0 = dktX1_of_0 := by decide +kernel
theorem dX1_of_0 : decode cX1_of 0 = .ok (.aload_n 0, 1) := dk_42 (dk_at dksX1_of_0 0 rfl rfl)
theorem dX1_of_1 : decode cX1_of 1 = .ok (.iload_n 1, 1) := dk_27 (dk_at dksX1_of_0 1 rfl rfl)
theorem dX1_of_2 : decode cX1_of 2 = .ok (.putfield 7, 3) := dk_181 0 7 (dk_at dksX1_of_0 2 rfl rfl)
theorem dX1_of_5 : decode cX1_of 5 = .ok (.aload_n 0, 1) := dk_42 (dk_at dksX1_of_0 5 rfl rfl)
theorem dX1_of_6 : decode cX1_of 6 = .ok (.areturn, 1) := dk_176 (dk_at dksX1_of_0 6 rfl rfl)
theorem q84 : (Jvm.Cond.initialized "WellNames$Finding") ∈ lw_all := lw_g (lw_at lw_m1 5 rfl) rfl
theorem q125 : (Jvm.Cond.instantiable "WellNames$Finding" (7 : Nat)) ∈ lw_all := lw_g (lw_at lw_m1 46 rfl) rfl
theorem q126 : (Jvm.Cond.castable "WellNames$Finding" "WellNames$Finding") ∈ lw_tbl := lw_at lw_m1 47 rfl
theorem q133 : (Jvm.Cond.selects "WellNames$Finding" ({ cls := "java/lang/Throwable", name := "fillInStackTrace", desc := "(I)Ljava/lang/Throwable;" } : Jvm.MethodName) ({ cls := "java/lang/Throwable", name := "fillInStackTrace", desc := "(I)Ljava/lang/Throwable;" } : Jvm.MethodName)) ∈ lw_all := lw_g (lw_at lw_m1 54 rfl) rfl
theorem q134 : (Jvm.Cond.selects "WellNames$Finding" ({ cls := "java/lang/Throwable", name := "fillInStackTrace", desc := "()Ljava/lang/Throwable;" } : Jvm.MethodName) ({ cls := "java/lang/Throwable", name := "fillInStackTrace", desc := "()Ljava/lang/Throwable;" } : Jvm.MethodName)) ∈ lw_all := lw_g (lw_at lw_m1 55 rfl) rfl
theorem q135 : (Jvm.Cond.lays "WellNames$Finding" "java/lang/Throwable" "cause" "Ljava/lang/Throwable;") ∈ lw_all := lw_g (lw_at lw_m1 56 rfl) rfl
theorem q137 : (Jvm.Cond.lays "WellNames$Finding" "java/lang/Throwable" "stackTrace" "[Ljava/lang/StackTraceElement;") ∈ lw_all := lw_g (lw_at lw_m1 58 rfl) rfl
theorem q139 : (Jvm.Cond.lays "WellNames$Finding" "java/lang/Throwable" "suppressedExceptions" "Ljava/util/List;") ∈ lw_all := lw_g (lw_at lw_m1 60 rfl) rfl
theorem q141 : (Jvm.Cond.lays "WellNames$Finding" "java/lang/Throwable" "detailMessage" "Ljava/lang/String;") ∈ lw_all := lw_g (lw_at lw_m1 62 rfl) rfl
theorem q143 : (Jvm.Cond.lays "WellNames$Finding" "java/lang/Throwable" "backtrace" "Ljava/lang/Object;") ∈ lw_all := lw_g (lw_at lw_m1 64 rfl) rfl
theorem q165 : (Jvm.Cond.instanceMethod ({ cls := "WellNames$Finding", name := "<init>", desc := "()V" } : Jvm.MethodName)) ∈ lw_all := lw_g (lw_at lw_m1 86 rfl) rfl
theorem q166 : (Jvm.Cond.code ({ cls := "WellNames$Finding", name := "<init>", desc := "()V" } : Jvm.MethodName) prog_13_method_1_code (1 : Nat) (Option.none : Option Jvm.ClassFile.FieldType)) ∈ lw_all := lw_g (lw_at lw_m1 87 rfl) rfl
theorem q167 : (Jvm.Cond.methodLink "WellNames$Finding" (1 : Nat) ({ cls := "java/lang/RuntimeException", name := "<init>", desc := "(Ljava/lang/String;Ljava/lang/Throwable;ZZ)V" } : Jvm.MethodName)) ∈ lw_all := lw_g (lw_at lw_m1 88 rfl) rfl
theorem q176 : (Jvm.Cond.fieldLink "WellNames$Finding" (7 : Nat) "WellNames$Finding" "code" "I") ∈ lw_all := lw_g (lw_at lw_m1 97 rfl) rfl
theorem q183 : (Jvm.Cond.lays "WellNames$Finding" "WellNames$Finding" "code" "I") ∈ lw_all := lw_g (lw_at lw_m1 104 rfl) rfl
theorem q184 : (Jvm.Cond.soleField "WellNames$Finding" "code") ∈ lw_all := lw_g (lw_at lw_m1 105 rfl) rfl
theorem q189 : (Jvm.Cond.lays "WellNames$Finding" "java/lang/Throwable" "depth" "I") ∈ lw_all := lw_g (lw_at lw_m1 110 rfl) rfl
theorem q192 : (Jvm.Cond.superclass "WellNames$Finding" "java/lang/RuntimeException") ∈ lw_all := lw_g (lw_at lw_m1 113 rfl) rfl
theorem q372 : (Jvm.Cond.instanceMethod ({ cls := "WellNames$Finding", name := "of", desc := "(I)LWellNames$Finding;" } : Jvm.MethodName)) ∈ lw_all := lw_g (lw_at lw_m2 53 rfl) rfl
theorem q373 : (Jvm.Cond.selects "WellNames$Finding" ({ cls := "WellNames$Finding", name := "of", desc := "(I)LWellNames$Finding;" } : Jvm.MethodName) ({ cls := "WellNames$Finding", name := "of", desc := "(I)LWellNames$Finding;" } : Jvm.MethodName)) ∈ lw_all := lw_g (lw_at lw_m2 54 rfl) rfl
theorem q374 : (Jvm.Cond.code ({ cls := "WellNames$Finding", name := "of", desc := "(I)LWellNames$Finding;" } : Jvm.MethodName) prog_13_method_2_code (2 : Nat) (Option.some (Jvm.ClassFile.FieldType.object "WellNames$Finding"))) ∈ lw_all := lw_g (lw_at lw_m2 55 rfl) rfl
theorem in_X1 : ∀ w ∈ wsX10, w ∈ lw_all := lw_in wsX10 [135, 137, 139, 141, 143, 189, 183] (by decide +kernel) (by decide +kernel)

/-! WellNames$Desert -/
set_option maxRecDepth 100000
def RX2 : String := "WellNames$Desert"
def TX2 : u_T := fun k => match k with
  | 0 => ("WellNames$Desert", "water", "[I", true)
  | 1 => ("WellNames$Desert", "road", "[I", true)
  | 2 => ("WellNames$Desert", "owed", "[I", true)
  | 3 => ("WellNames$Desert", "rain", "I", false)
  | 4 => ("WellNames$Desert", "hour", "I", false)
  | 5 => ("WellNames$Desert", "day", "I", false)
  | 6 => ("WellNames$Desert", "people", "I", false)
  | 7 => ("WellNames$Desert", "person", "[LWellNames$Drinker;", true)
  | 8 => ("WellNames$Desert", "at", "[I", true)
  | 9 => ("WellNames$Desert", "name", "[I", true)
  | 10 => ("WellNames$Desert", "thirst", "[I", true)
  | 11 => ("WellNames$Desert", "isDead", "[Z", true)
  | 12 => ("WellNames$Desert", "text", "[LWellNames$Term;", true)
  | 13 => ("WellNames$Desert", "z", "I", false)
  | 14 => ("WellNames$Desert", "tape", "[B", true)
  | 15 => ("WellNames$Desert", "taped", "I", false)
  | 16 => ("WellNames$Desert", "waiting", "[I", true)
  | 17 => ("WellNames$Desert", "waits", "I", false)
  | _ => ("WellNames$Desert", "facts", "LWellNames$Facts;", true)
def tyX2 : Nat → FieldType := fun k => match k with
  | 0 => .array .int
  | 1 => .array .int
  | 2 => .array .int
  | 3 => .int
  | 4 => .int
  | 5 => .int
  | 6 => .int
  | 7 => .array (.object "WellNames$Drinker")
  | 8 => .array .int
  | 9 => .array .int
  | 10 => .array .int
  | 11 => .array .boolean
  | 12 => .array (.object "WellNames$Term")
  | 13 => .int
  | 14 => .array .byte
  | 15 => .int
  | 16 => .array .int
  | 17 => .int
  | _ => .object "WellNames$Facts"
abbrev wsX20 : List Cond := u_ws RX2 TX2 19
set_option maxRecDepth 100000 in
theorem nmX2 : ∀ a, a < 19 → ∀ b, b < 19 → a ≠ b → (TX2 a).2.1 ≠ (TX2 b).2.1 := by decide +kernel
set_option maxRecDepth 100000 in
theorem tyX2_ok : ∀ k, k < 19 → parseFieldDescriptor (TX2 k).2.2.1 = some (tyX2 k) := by decide +kernel
abbrev cX2_init : ByteArray := prog_7_method_1_code
def yX2_init : MethodName := ⟨RX2, "<init>", "()V"⟩
def dkwX2_init_5 : List UInt8 := [162, 0, 17, 42, 180, 0, 9, 27, 16, 9, 79, 132, 1, 1, 167, 255, 239, 177]
abbrev dktX2_init_5 : List UInt8 := dkwX2_init_5 ++ []
def dkwX2_init_4 : List UInt8 := [42, 16, 20, 188, 10, 181, 0, 57, 42, 187, 0, 60, 89, 183, 0, 62, 181, 0, 63, 3, 60, 27, 16, 8]
abbrev dktX2_init_4 : List UInt8 := dkwX2_init_4 ++ dktX2_init_5
def dkwX2_init_3 : List UInt8 := [181, 0, 40, 42, 5, 189, 0, 44, 181, 0, 46, 42, 4, 181, 0, 50, 42, 16, 50, 188, 8, 181, 0, 53]
abbrev dktX2_init_3 : List UInt8 := dkwX2_init_3 ++ dktX2_init_4
def dkwX2_init_2 : List UInt8 := [181, 0, 31, 42, 16, 6, 188, 10, 181, 0, 34, 42, 16, 6, 188, 10, 181, 0, 37, 42, 16, 6, 188, 4]
abbrev dktX2_init_2 : List UInt8 := dkwX2_init_2 ++ dktX2_init_3
def dkwX2_init_1 : List UInt8 := [188, 10, 181, 0, 18, 42, 4, 181, 0, 21, 42, 16, 6, 189, 0, 25, 181, 0, 27, 42, 16, 6, 188, 10]
abbrev dktX2_init_1 : List UInt8 := dkwX2_init_1 ++ dktX2_init_2
def dkwX2_init_0 : List UInt8 := [42, 183, 0, 3, 42, 16, 8, 188, 10, 181, 0, 9, 42, 16, 64, 188, 10, 181, 0, 15, 42, 16, 64]
abbrev dktX2_init_0 : List UInt8 := dkwX2_init_0 ++ dktX2_init_1
theorem dksX2_init_0 : cX2_init.data.toList.drop 0 = dktX2_init_0 := by decide +kernel
theorem dksX2_init_1 : cX2_init.data.toList.drop 23 = dktX2_init_1 := dk_seg dksX2_init_0 23 rfl rfl
theorem dksX2_init_2 : cX2_init.data.toList.drop 47 = dktX2_init_2 := dk_seg dksX2_init_1 24 rfl rfl
theorem dksX2_init_3 : cX2_init.data.toList.drop 71 = dktX2_init_3 := dk_seg dksX2_init_2 24 rfl rfl
theorem dksX2_init_4 : cX2_init.data.toList.drop 95 = dktX2_init_4 := dk_seg dksX2_init_3 24 rfl rfl
theorem dksX2_init_5 : cX2_init.data.toList.drop 119 = dktX2_init_5 := dk_seg dksX2_init_4 24 rfl rfl
theorem dX2_init_0 : decode cX2_init 0 = .ok (.aload_n 0, 1) := dk_42 (dk_at dksX2_init_0 0 rfl rfl)
theorem dX2_init_1 : decode cX2_init 1 = .ok (.invokespecial 3, 3) := dk_183 0 3 (dk_at dksX2_init_0 1 rfl rfl)
theorem dX2_init_4 : decode cX2_init 4 = .ok (.aload_n 0, 1) := dk_42 (dk_at dksX2_init_0 4 rfl rfl)
theorem dX2_init_5 : decode cX2_init 5 = .ok (.bipush 8, 2) := dk_16 8 (dk_at dksX2_init_0 5 rfl rfl)
theorem dX2_init_7 : decode cX2_init 7 = .ok (.newarray .int, 2) := dk_188_10 (dk_at dksX2_init_0 7 rfl rfl)
theorem dX2_init_9 : decode cX2_init 9 = .ok (.putfield 9, 3) := dk_181 0 9 (dk_at dksX2_init_0 9 rfl rfl)
theorem dX2_init_12 : decode cX2_init 12 = .ok (.aload_n 0, 1) := dk_42 (dk_at dksX2_init_0 12 rfl rfl)
theorem dX2_init_13 : decode cX2_init 13 = .ok (.bipush 64, 2) := dk_16 64 (dk_at dksX2_init_0 13 rfl rfl)
theorem dX2_init_15 : decode cX2_init 15 = .ok (.newarray .int, 2) := dk_188_10 (dk_at dksX2_init_0 15 rfl rfl)
theorem dX2_init_17 : decode cX2_init 17 = .ok (.putfield 15, 3) := dk_181 0 15 (dk_at dksX2_init_0 17 rfl rfl)
theorem dX2_init_20 : decode cX2_init 20 = .ok (.aload_n 0, 1) := dk_42 (dk_at dksX2_init_0 20 rfl rfl)
theorem dX2_init_21 : decode cX2_init 21 = .ok (.bipush 64, 2) := dk_16 64 (dk_at dksX2_init_0 21 rfl rfl)
theorem dX2_init_23 : decode cX2_init 23 = .ok (.newarray .int, 2) := dk_188_10 (dk_at dksX2_init_1 0 rfl rfl)
theorem dX2_init_25 : decode cX2_init 25 = .ok (.putfield 18, 3) := dk_181 0 18 (dk_at dksX2_init_1 2 rfl rfl)
theorem dX2_init_28 : decode cX2_init 28 = .ok (.aload_n 0, 1) := dk_42 (dk_at dksX2_init_1 5 rfl rfl)
theorem dX2_init_29 : decode cX2_init 29 = .ok (.iconst 1, 1) := dk_4 (dk_at dksX2_init_1 6 rfl rfl)
theorem dX2_init_30 : decode cX2_init 30 = .ok (.putfield 21, 3) := dk_181 0 21 (dk_at dksX2_init_1 7 rfl rfl)
theorem dX2_init_33 : decode cX2_init 33 = .ok (.aload_n 0, 1) := dk_42 (dk_at dksX2_init_1 10 rfl rfl)
theorem dX2_init_34 : decode cX2_init 34 = .ok (.bipush 6, 2) := dk_16 6 (dk_at dksX2_init_1 11 rfl rfl)
theorem dX2_init_36 : decode cX2_init 36 = .ok (.anewarray 25, 3) := dk_189 0 25 (dk_at dksX2_init_1 13 rfl rfl)
theorem dX2_init_39 : decode cX2_init 39 = .ok (.putfield 27, 3) := dk_181 0 27 (dk_at dksX2_init_1 16 rfl rfl)
theorem dX2_init_42 : decode cX2_init 42 = .ok (.aload_n 0, 1) := dk_42 (dk_at dksX2_init_1 19 rfl rfl)
theorem dX2_init_43 : decode cX2_init 43 = .ok (.bipush 6, 2) := dk_16 6 (dk_at dksX2_init_1 20 rfl rfl)
theorem dX2_init_45 : decode cX2_init 45 = .ok (.newarray .int, 2) := dk_188_10 (dk_at dksX2_init_1 22 rfl rfl)
theorem dX2_init_47 : decode cX2_init 47 = .ok (.putfield 31, 3) := dk_181 0 31 (dk_at dksX2_init_2 0 rfl rfl)
theorem dX2_init_50 : decode cX2_init 50 = .ok (.aload_n 0, 1) := dk_42 (dk_at dksX2_init_2 3 rfl rfl)
theorem dX2_init_51 : decode cX2_init 51 = .ok (.bipush 6, 2) := dk_16 6 (dk_at dksX2_init_2 4 rfl rfl)
theorem dX2_init_53 : decode cX2_init 53 = .ok (.newarray .int, 2) := dk_188_10 (dk_at dksX2_init_2 6 rfl rfl)
theorem dX2_init_55 : decode cX2_init 55 = .ok (.putfield 34, 3) := dk_181 0 34 (dk_at dksX2_init_2 8 rfl rfl)
theorem dX2_init_58 : decode cX2_init 58 = .ok (.aload_n 0, 1) := dk_42 (dk_at dksX2_init_2 11 rfl rfl)
theorem dX2_init_59 : decode cX2_init 59 = .ok (.bipush 6, 2) := dk_16 6 (dk_at dksX2_init_2 12 rfl rfl)
theorem dX2_init_61 : decode cX2_init 61 = .ok (.newarray .int, 2) := dk_188_10 (dk_at dksX2_init_2 14 rfl rfl)
theorem dX2_init_63 : decode cX2_init 63 = .ok (.putfield 37, 3) := dk_181 0 37 (dk_at dksX2_init_2 16 rfl rfl)
theorem dX2_init_66 : decode cX2_init 66 = .ok (.aload_n 0, 1) := dk_42 (dk_at dksX2_init_2 19 rfl rfl)
theorem dX2_init_67 : decode cX2_init 67 = .ok (.bipush 6, 2) := dk_16 6 (dk_at dksX2_init_2 20 rfl rfl)
theorem dX2_init_69 : decode cX2_init 69 = .ok (.newarray .boolean, 2) := dk_188_4 (dk_at dksX2_init_2 22 rfl rfl)
theorem dX2_init_71 : decode cX2_init 71 = .ok (.putfield 40, 3) := dk_181 0 40 (dk_at dksX2_init_3 0 rfl rfl)
theorem dX2_init_74 : decode cX2_init 74 = .ok (.aload_n 0, 1) := dk_42 (dk_at dksX2_init_3 3 rfl rfl)
theorem dX2_init_75 : decode cX2_init 75 = .ok (.iconst 2, 1) := dk_5 (dk_at dksX2_init_3 4 rfl rfl)
theorem dX2_init_76 : decode cX2_init 76 = .ok (.anewarray 44, 3) := dk_189 0 44 (dk_at dksX2_init_3 5 rfl rfl)
theorem dX2_init_79 : decode cX2_init 79 = .ok (.putfield 46, 3) := dk_181 0 46 (dk_at dksX2_init_3 8 rfl rfl)
theorem dX2_init_82 : decode cX2_init 82 = .ok (.aload_n 0, 1) := dk_42 (dk_at dksX2_init_3 11 rfl rfl)
theorem dX2_init_83 : decode cX2_init 83 = .ok (.iconst 1, 1) := dk_4 (dk_at dksX2_init_3 12 rfl rfl)
theorem dX2_init_84 : decode cX2_init 84 = .ok (.putfield 50, 3) := dk_181 0 50 (dk_at dksX2_init_3 13 rfl rfl)
theorem dX2_init_87 : decode cX2_init 87 = .ok (.aload_n 0, 1) := dk_42 (dk_at dksX2_init_3 16 rfl rfl)
theorem dX2_init_88 : decode cX2_init 88 = .ok (.bipush 50, 2) := dk_16 50 (dk_at dksX2_init_3 17 rfl rfl)
theorem dX2_init_90 : decode cX2_init 90 = .ok (.newarray .byte, 2) := dk_188_8 (dk_at dksX2_init_3 19 rfl rfl)
theorem dX2_init_92 : decode cX2_init 92 = .ok (.putfield 53, 3) := dk_181 0 53 (dk_at dksX2_init_3 21 rfl rfl)
theorem dX2_init_95 : decode cX2_init 95 = .ok (.aload_n 0, 1) := dk_42 (dk_at dksX2_init_4 0 rfl rfl)
theorem dX2_init_96 : decode cX2_init 96 = .ok (.bipush 20, 2) := dk_16 20 (dk_at dksX2_init_4 1 rfl rfl)
theorem dX2_init_98 : decode cX2_init 98 = .ok (.newarray .int, 2) := dk_188_10 (dk_at dksX2_init_4 3 rfl rfl)
theorem dX2_init_100 : decode cX2_init 100 = .ok (.putfield 57, 3) := dk_181 0 57 (dk_at dksX2_init_4 5 rfl rfl)
theorem dX2_init_103 : decode cX2_init 103 = .ok (.aload_n 0, 1) := dk_42 (dk_at dksX2_init_4 8 rfl rfl)
theorem dX2_init_104 : decode cX2_init 104 = .ok (.new 60, 3) := dk_187 0 60 (dk_at dksX2_init_4 9 rfl rfl)
theorem dX2_init_107 : decode cX2_init 107 = .ok (.dup, 1) := dk_89 (dk_at dksX2_init_4 12 rfl rfl)
theorem dX2_init_108 : decode cX2_init 108 = .ok (.invokespecial 62, 3) := dk_183 0 62 (dk_at dksX2_init_4 13 rfl rfl)
theorem dX2_init_111 : decode cX2_init 111 = .ok (.putfield 63, 3) := dk_181 0 63 (dk_at dksX2_init_4 16 rfl rfl)
theorem dX2_init_114 : decode cX2_init 114 = .ok (.iconst 0, 1) := dk_3 (dk_at dksX2_init_4 19 rfl rfl)
theorem dX2_init_115 : decode cX2_init 115 = .ok (.istore_n 1, 1) := dk_60 (dk_at dksX2_init_4 20 rfl rfl)
theorem dX2_init_116 : decode cX2_init 116 = .ok (.iload_n 1, 1) := dk_27 (dk_at dksX2_init_4 21 rfl rfl)
theorem dX2_init_117 : decode cX2_init 117 = .ok (.bipush 8, 2) := dk_16 8 (dk_at dksX2_init_4 22 rfl rfl)
theorem dX2_init_119 : decode cX2_init 119 = .ok (.if_icmp .ge 17, 3) := dk_162 0 17 (dk_at dksX2_init_5 0 rfl rfl)
theorem dX2_init_122 : decode cX2_init 122 = .ok (.aload_n 0, 1) := dk_42 (dk_at dksX2_init_5 3 rfl rfl)
theorem dX2_init_123 : decode cX2_init 123 = .ok (.getfield 9, 3) := dk_180 0 9 (dk_at dksX2_init_5 4 rfl rfl)
theorem dX2_init_126 : decode cX2_init 126 = .ok (.iload_n 1, 1) := dk_27 (dk_at dksX2_init_5 7 rfl rfl)
theorem dX2_init_127 : decode cX2_init 127 = .ok (.bipush 9, 2) := dk_16 9 (dk_at dksX2_init_5 8 rfl rfl)
theorem dX2_init_129 : decode cX2_init 129 = .ok (.iastore, 1) := dk_79 (dk_at dksX2_init_5 10 rfl rfl)
theorem dX2_init_130 : decode cX2_init 130 = .ok (.iinc 1 1, 3) := dk_132 1 1 (dk_at dksX2_init_5 11 rfl rfl)
theorem dX2_init_133 : decode cX2_init 133 = .ok (.goto (-17), 3) := dk_167 255 239 (dk_at dksX2_init_5 14 rfl rfl)
theorem dX2_init_136 : decode cX2_init 136 = .ok (.return_, 1) := dk_177 (dk_at dksX2_init_5 17 rfl rfl)
abbrev cX2_roadOf : ByteArray := prog_7_method_6_code
def yX2_roadOf : MethodName := ⟨RX2, "roadOf", "(II)I"⟩
def dkwX2_roadOf_0 : List UInt8 := [42, 180, 0, 15, 16, 8, 27, 104, 28, 96, 46, 172]
abbrev dktX2_roadOf_0 : List UInt8 := dkwX2_roadOf_0 ++ []
theorem dksX2_roadOf_0 : cX2_roadOf.data.toList.drop 0 = dktX2_roadOf_0 := by decide +kernel
theorem dX2_roadOf_0 : decode cX2_roadOf 0 = .ok (.aload_n 0, 1) := dk_42 (dk_at dksX2_roadOf_0 0 rfl rfl)
theorem dX2_roadOf_1 : decode cX2_roadOf 1 = .ok (.getfield 15, 3) := dk_180 0 15 (dk_at dksX2_roadOf_0 1 rfl rfl)
theorem dX2_roadOf_4 : decode cX2_roadOf 4 = .ok (.bipush 8, 2) := dk_16 8 (dk_at dksX2_roadOf_0 4 rfl rfl)
theorem dX2_roadOf_6 : decode cX2_roadOf 6 = .ok (.iload_n 1, 1) := dk_27 (dk_at dksX2_roadOf_0 6 rfl rfl)
theorem dX2_roadOf_7 : decode cX2_roadOf 7 = .ok (.imul, 1) := dk_104 (dk_at dksX2_roadOf_0 7 rfl rfl)
theorem dX2_roadOf_8 : decode cX2_roadOf 8 = .ok (.iload_n 2, 1) := dk_28 (dk_at dksX2_roadOf_0 8 rfl rfl)
theorem dX2_roadOf_9 : decode cX2_roadOf 9 = .ok (.iadd, 1) := dk_96 (dk_at dksX2_roadOf_0 9 rfl rfl)
theorem dX2_roadOf_10 : decode cX2_roadOf 10 = .ok (.iaload, 1) := dk_46 (dk_at dksX2_roadOf_0 10 rfl rfl)
theorem dX2_roadOf_11 : decode cX2_roadOf 11 = .ok (.ireturn, 1) := dk_172 (dk_at dksX2_roadOf_0 11 rfl rfl)
abbrev cX2_owesOf : ByteArray := prog_7_method_7_code
def yX2_owesOf : MethodName := ⟨RX2, "owesOf", "(I)I"⟩
def dkwX2_owesOf_1 : List UInt8 := [29, 96, 46, 96, 61, 132, 3, 1, 167, 255, 228, 28, 172]
abbrev dktX2_owesOf_1 : List UInt8 := dkwX2_owesOf_1 ++ []
def dkwX2_owesOf_0 : List UInt8 := [3, 61, 3, 62, 29, 16, 8, 162, 0, 28, 27, 2, 159, 0, 23, 28, 42, 180, 0, 18, 16, 8, 27, 104]
abbrev dktX2_owesOf_0 : List UInt8 := dkwX2_owesOf_0 ++ dktX2_owesOf_1
theorem dksX2_owesOf_0 : cX2_owesOf.data.toList.drop 0 = dktX2_owesOf_0 := by decide +kernel
theorem dksX2_owesOf_1 : cX2_owesOf.data.toList.drop 24 = dktX2_owesOf_1 := dk_seg dksX2_owesOf_0 24 rfl rfl
theorem dX2_owesOf_0 : decode cX2_owesOf 0 = .ok (.iconst 0, 1) := dk_3 (dk_at dksX2_owesOf_0 0 rfl rfl)
theorem dX2_owesOf_1 : decode cX2_owesOf 1 = .ok (.istore_n 2, 1) := dk_61 (dk_at dksX2_owesOf_0 1 rfl rfl)
theorem dX2_owesOf_2 : decode cX2_owesOf 2 = .ok (.iconst 0, 1) := dk_3 (dk_at dksX2_owesOf_0 2 rfl rfl)
theorem dX2_owesOf_3 : decode cX2_owesOf 3 = .ok (.istore_n 3, 1) := dk_62 (dk_at dksX2_owesOf_0 3 rfl rfl)
theorem dX2_owesOf_4 : decode cX2_owesOf 4 = .ok (.iload_n 3, 1) := dk_29 (dk_at dksX2_owesOf_0 4 rfl rfl)
theorem dX2_owesOf_5 : decode cX2_owesOf 5 = .ok (.bipush 8, 2) := dk_16 8 (dk_at dksX2_owesOf_0 5 rfl rfl)
theorem dX2_owesOf_7 : decode cX2_owesOf 7 = .ok (.if_icmp .ge 28, 3) := dk_162 0 28 (dk_at dksX2_owesOf_0 7 rfl rfl)
theorem dX2_owesOf_10 : decode cX2_owesOf 10 = .ok (.iload_n 1, 1) := dk_27 (dk_at dksX2_owesOf_0 10 rfl rfl)
theorem dX2_owesOf_11 : decode cX2_owesOf 11 = .ok (.iconst (-1), 1) := dk_2 (dk_at dksX2_owesOf_0 11 rfl rfl)
theorem dX2_owesOf_12 : decode cX2_owesOf 12 = .ok (.if_icmp .eq 23, 3) := dk_159 0 23 (dk_at dksX2_owesOf_0 12 rfl rfl)
theorem dX2_owesOf_15 : decode cX2_owesOf 15 = .ok (.iload_n 2, 1) := dk_28 (dk_at dksX2_owesOf_0 15 rfl rfl)
theorem dX2_owesOf_16 : decode cX2_owesOf 16 = .ok (.aload_n 0, 1) := dk_42 (dk_at dksX2_owesOf_0 16 rfl rfl)
theorem dX2_owesOf_17 : decode cX2_owesOf 17 = .ok (.getfield 18, 3) := dk_180 0 18 (dk_at dksX2_owesOf_0 17 rfl rfl)
theorem dX2_owesOf_20 : decode cX2_owesOf 20 = .ok (.bipush 8, 2) := dk_16 8 (dk_at dksX2_owesOf_0 20 rfl rfl)
theorem dX2_owesOf_22 : decode cX2_owesOf 22 = .ok (.iload_n 1, 1) := dk_27 (dk_at dksX2_owesOf_0 22 rfl rfl)
theorem dX2_owesOf_23 : decode cX2_owesOf 23 = .ok (.imul, 1) := dk_104 (dk_at dksX2_owesOf_0 23 rfl rfl)
theorem dX2_owesOf_24 : decode cX2_owesOf 24 = .ok (.iload_n 3, 1) := dk_29 (dk_at dksX2_owesOf_1 0 rfl rfl)
theorem dX2_owesOf_25 : decode cX2_owesOf 25 = .ok (.iadd, 1) := dk_96 (dk_at dksX2_owesOf_1 1 rfl rfl)
theorem dX2_owesOf_26 : decode cX2_owesOf 26 = .ok (.iaload, 1) := dk_46 (dk_at dksX2_owesOf_1 2 rfl rfl)
theorem dX2_owesOf_27 : decode cX2_owesOf 27 = .ok (.iadd, 1) := dk_96 (dk_at dksX2_owesOf_1 3 rfl rfl)
theorem dX2_owesOf_28 : decode cX2_owesOf 28 = .ok (.istore_n 2, 1) := dk_61 (dk_at dksX2_owesOf_1 4 rfl rfl)
theorem dX2_owesOf_29 : decode cX2_owesOf 29 = .ok (.iinc 3 1, 3) := dk_132 3 1 (dk_at dksX2_owesOf_1 5 rfl rfl)
theorem dX2_owesOf_32 : decode cX2_owesOf 32 = .ok (.goto (-28), 3) := dk_167 255 228 (dk_at dksX2_owesOf_1 8 rfl rfl)
theorem dX2_owesOf_35 : decode cX2_owesOf 35 = .ok (.iload_n 2, 1) := dk_28 (dk_at dksX2_owesOf_1 11 rfl rfl)
theorem dX2_owesOf_36 : decode cX2_owesOf 36 = .ok (.ireturn, 1) := dk_172 (dk_at dksX2_owesOf_1 12 rfl rfl)
abbrev cX2_needs : ByteArray := prog_7_method_8_code
def yX2_needs : MethodName := ⟨RX2, "needs", "(I)I"⟩
def dkwX2_needs_0 : List UInt8 := [42, 180, 0, 27, 27, 50, 42, 42, 180, 0, 37, 27, 46, 182, 0, 109, 172]
abbrev dktX2_needs_0 : List UInt8 := dkwX2_needs_0 ++ []
theorem dksX2_needs_0 : cX2_needs.data.toList.drop 0 = dktX2_needs_0 := by decide +kernel
theorem dX2_needs_0 : decode cX2_needs 0 = .ok (.aload_n 0, 1) := dk_42 (dk_at dksX2_needs_0 0 rfl rfl)
theorem dX2_needs_1 : decode cX2_needs 1 = .ok (.getfield 27, 3) := dk_180 0 27 (dk_at dksX2_needs_0 1 rfl rfl)
theorem dX2_needs_4 : decode cX2_needs 4 = .ok (.iload_n 1, 1) := dk_27 (dk_at dksX2_needs_0 4 rfl rfl)
theorem dX2_needs_5 : decode cX2_needs 5 = .ok (.aaload, 1) := dk_50 (dk_at dksX2_needs_0 5 rfl rfl)
theorem dX2_needs_6 : decode cX2_needs 6 = .ok (.aload_n 0, 1) := dk_42 (dk_at dksX2_needs_0 6 rfl rfl)
theorem dX2_needs_7 : decode cX2_needs 7 = .ok (.aload_n 0, 1) := dk_42 (dk_at dksX2_needs_0 7 rfl rfl)
theorem dX2_needs_8 : decode cX2_needs 8 = .ok (.getfield 37, 3) := dk_180 0 37 (dk_at dksX2_needs_0 8 rfl rfl)
theorem dX2_needs_11 : decode cX2_needs 11 = .ok (.iload_n 1, 1) := dk_27 (dk_at dksX2_needs_0 11 rfl rfl)
theorem dX2_needs_12 : decode cX2_needs 12 = .ok (.iaload, 1) := dk_46 (dk_at dksX2_needs_0 12 rfl rfl)
theorem dX2_needs_13 : decode cX2_needs 13 = .ok (.invokevirtual 109, 3) := dk_182 0 109 (dk_at dksX2_needs_0 13 rfl rfl)
theorem dX2_needs_16 : decode cX2_needs 16 = .ok (.ireturn, 1) := dk_172 (dk_at dksX2_needs_0 16 rfl rfl)
abbrev cX2_needsBy : ByteArray := prog_7_method_4_code
def yX2_needsBy : MethodName := ⟨RX2, "needsBy", "(III)I"⟩
def dkwX2_needsBy_2 : List UInt8 := [54, 4, 21, 4, 3, 16, 99, 184, 0, 105, 172]
abbrev dktX2_needsBy_2 : List UInt8 := dkwX2_needsBy_2 ++ []
def dkwX2_needsBy_1 : List UInt8 := [180, 0, 63, 16, 109, 27, 182, 0, 97, 16, 116, 28, 182, 0, 97, 16, 100, 29, 182, 0, 97, 182, 0, 101]
abbrev dktX2_needsBy_1 : List UInt8 := dkwX2_needsBy_1 ++ dktX2_needsBy_2
def dkwX2_needsBy_0 : List UInt8 := [42, 180, 0, 46, 3, 50, 199, 0, 11, 4, 28, 7, 108, 96, 167, 0, 34, 42, 180, 0, 46, 3, 50, 42]
abbrev dktX2_needsBy_0 : List UInt8 := dkwX2_needsBy_0 ++ dktX2_needsBy_1
theorem dksX2_needsBy_0 : cX2_needsBy.data.toList.drop 0 = dktX2_needsBy_0 := by decide +kernel
theorem dksX2_needsBy_1 : cX2_needsBy.data.toList.drop 24 = dktX2_needsBy_1 := dk_seg dksX2_needsBy_0 24 rfl rfl
theorem dksX2_needsBy_2 : cX2_needsBy.data.toList.drop 48 = dktX2_needsBy_2 := dk_seg dksX2_needsBy_1 24 rfl rfl
theorem dX2_needsBy_0 : decode cX2_needsBy 0 = .ok (.aload_n 0, 1) := dk_42 (dk_at dksX2_needsBy_0 0 rfl rfl)
theorem dX2_needsBy_1 : decode cX2_needsBy 1 = .ok (.getfield 46, 3) := dk_180 0 46 (dk_at dksX2_needsBy_0 1 rfl rfl)
theorem dX2_needsBy_4 : decode cX2_needsBy 4 = .ok (.iconst 0, 1) := dk_3 (dk_at dksX2_needsBy_0 4 rfl rfl)
theorem dX2_needsBy_5 : decode cX2_needsBy 5 = .ok (.aaload, 1) := dk_50 (dk_at dksX2_needsBy_0 5 rfl rfl)
theorem dX2_needsBy_6 : decode cX2_needsBy 6 = .ok (.ifnonnull 11, 3) := dk_199 0 11 (dk_at dksX2_needsBy_0 6 rfl rfl)
theorem dX2_needsBy_9 : decode cX2_needsBy 9 = .ok (.iconst 1, 1) := dk_4 (dk_at dksX2_needsBy_0 9 rfl rfl)
theorem dX2_needsBy_10 : decode cX2_needsBy 10 = .ok (.iload_n 2, 1) := dk_28 (dk_at dksX2_needsBy_0 10 rfl rfl)
theorem dX2_needsBy_11 : decode cX2_needsBy 11 = .ok (.iconst 4, 1) := dk_7 (dk_at dksX2_needsBy_0 11 rfl rfl)
theorem dX2_needsBy_12 : decode cX2_needsBy 12 = .ok (.idiv, 1) := dk_108 (dk_at dksX2_needsBy_0 12 rfl rfl)
theorem dX2_needsBy_13 : decode cX2_needsBy 13 = .ok (.iadd, 1) := dk_96 (dk_at dksX2_needsBy_0 13 rfl rfl)
theorem dX2_needsBy_14 : decode cX2_needsBy 14 = .ok (.goto 34, 3) := dk_167 0 34 (dk_at dksX2_needsBy_0 14 rfl rfl)
theorem dX2_needsBy_17 : decode cX2_needsBy 17 = .ok (.aload_n 0, 1) := dk_42 (dk_at dksX2_needsBy_0 17 rfl rfl)
theorem dX2_needsBy_18 : decode cX2_needsBy 18 = .ok (.getfield 46, 3) := dk_180 0 46 (dk_at dksX2_needsBy_0 18 rfl rfl)
theorem dX2_needsBy_21 : decode cX2_needsBy 21 = .ok (.iconst 0, 1) := dk_3 (dk_at dksX2_needsBy_0 21 rfl rfl)
theorem dX2_needsBy_22 : decode cX2_needsBy 22 = .ok (.aaload, 1) := dk_50 (dk_at dksX2_needsBy_0 22 rfl rfl)
theorem dX2_needsBy_23 : decode cX2_needsBy 23 = .ok (.aload_n 0, 1) := dk_42 (dk_at dksX2_needsBy_0 23 rfl rfl)
theorem dX2_needsBy_24 : decode cX2_needsBy 24 = .ok (.getfield 63, 3) := dk_180 0 63 (dk_at dksX2_needsBy_1 0 rfl rfl)
theorem dX2_needsBy_27 : decode cX2_needsBy 27 = .ok (.bipush 109, 2) := dk_16 109 (dk_at dksX2_needsBy_1 3 rfl rfl)
theorem dX2_needsBy_29 : decode cX2_needsBy 29 = .ok (.iload_n 1, 1) := dk_27 (dk_at dksX2_needsBy_1 5 rfl rfl)
theorem dX2_needsBy_30 : decode cX2_needsBy 30 = .ok (.invokevirtual 97, 3) := dk_182 0 97 (dk_at dksX2_needsBy_1 6 rfl rfl)
theorem dX2_needsBy_33 : decode cX2_needsBy 33 = .ok (.bipush 116, 2) := dk_16 116 (dk_at dksX2_needsBy_1 9 rfl rfl)
theorem dX2_needsBy_35 : decode cX2_needsBy 35 = .ok (.iload_n 2, 1) := dk_28 (dk_at dksX2_needsBy_1 11 rfl rfl)
theorem dX2_needsBy_36 : decode cX2_needsBy 36 = .ok (.invokevirtual 97, 3) := dk_182 0 97 (dk_at dksX2_needsBy_1 12 rfl rfl)
theorem dX2_needsBy_39 : decode cX2_needsBy 39 = .ok (.bipush 100, 2) := dk_16 100 (dk_at dksX2_needsBy_1 15 rfl rfl)
theorem dX2_needsBy_41 : decode cX2_needsBy 41 = .ok (.iload_n 3, 1) := dk_29 (dk_at dksX2_needsBy_1 17 rfl rfl)
theorem dX2_needsBy_42 : decode cX2_needsBy 42 = .ok (.invokevirtual 97, 3) := dk_182 0 97 (dk_at dksX2_needsBy_1 18 rfl rfl)
theorem dX2_needsBy_45 : decode cX2_needsBy 45 = .ok (.invokevirtual 101, 3) := dk_182 0 101 (dk_at dksX2_needsBy_1 21 rfl rfl)
theorem dX2_needsBy_48 : decode cX2_needsBy 48 = .ok (.istore 4, 2) := dk_54 4 (dk_at dksX2_needsBy_2 0 rfl rfl)
theorem dX2_needsBy_50 : decode cX2_needsBy 50 = .ok (.iload 4, 2) := dk_21 4 (dk_at dksX2_needsBy_2 2 rfl rfl)
theorem dX2_needsBy_52 : decode cX2_needsBy 52 = .ok (.iconst 0, 1) := dk_3 (dk_at dksX2_needsBy_2 4 rfl rfl)
theorem dX2_needsBy_53 : decode cX2_needsBy 53 = .ok (.bipush 99, 2) := dk_16 99 (dk_at dksX2_needsBy_2 5 rfl rfl)
theorem dX2_needsBy_55 : decode cX2_needsBy 55 = .ok (.invokestatic 105, 3) := dk_184 0 105 (dk_at dksX2_needsBy_2 7 rfl rfl)
theorem dX2_needsBy_58 : decode cX2_needsBy 58 = .ok (.ireturn, 1) := dk_172 (dk_at dksX2_needsBy_2 10 rfl rfl)
abbrev cX2_held : ByteArray := prog_7_method_3_code
def yX2_held : MethodName := ⟨RX2, "held", "(III)I"⟩
def dkwX2_held_0 : List UInt8 := [27, 28, 26, 184, 0, 88, 184, 0, 94, 172]
abbrev dktX2_held_0 : List UInt8 := dkwX2_held_0 ++ []
theorem dksX2_held_0 : cX2_held.data.toList.drop 0 = dktX2_held_0 := by decide +kernel
theorem dX2_held_0 : decode cX2_held 0 = .ok (.iload_n 1, 1) := dk_27 (dk_at dksX2_held_0 0 rfl rfl)
theorem dX2_held_1 : decode cX2_held 1 = .ok (.iload_n 2, 1) := dk_28 (dk_at dksX2_held_0 1 rfl rfl)
theorem dX2_held_2 : decode cX2_held 2 = .ok (.iload_n 0, 1) := dk_26 (dk_at dksX2_held_0 2 rfl rfl)
theorem dX2_held_3 : decode cX2_held 3 = .ok (.invokestatic 88, 3) := dk_184 0 88 (dk_at dksX2_held_0 3 rfl rfl)
theorem dX2_held_6 : decode cX2_held 6 = .ok (.invokestatic 94, 3) := dk_184 0 94 (dk_at dksX2_held_0 6 rfl rfl)
theorem dX2_held_9 : decode cX2_held 9 = .ok (.ireturn, 1) := dk_172 (dk_at dksX2_held_0 9 rfl rfl)
abbrev cX2_parchedBy : ByteArray := prog_7_method_5_code
def yX2_parchedBy : MethodName := ⟨RX2, "parchedBy", "(III)I"⟩
def dkwX2_parchedBy_2 : List UInt8 := [21, 4, 3, 16, 99, 184, 0, 105, 172]
abbrev dktX2_parchedBy_2 : List UInt8 := dkwX2_parchedBy_2 ++ []
def dkwX2_parchedBy_1 : List UInt8 := [16, 108, 27, 182, 0, 97, 16, 109, 28, 182, 0, 97, 16, 100, 29, 182, 0, 97, 182, 0, 101, 54, 4]
abbrev dktX2_parchedBy_1 : List UInt8 := dkwX2_parchedBy_1 ++ dktX2_parchedBy_2
def dkwX2_parchedBy_0 : List UInt8 := [42, 180, 0, 46, 4, 50, 199, 0, 7, 27, 167, 0, 34, 42, 180, 0, 46, 4, 50, 42, 180, 0, 63]
abbrev dktX2_parchedBy_0 : List UInt8 := dkwX2_parchedBy_0 ++ dktX2_parchedBy_1
theorem dksX2_parchedBy_0 : cX2_parchedBy.data.toList.drop 0 = dktX2_parchedBy_0 := by decide +kernel
theorem dksX2_parchedBy_1 : cX2_parchedBy.data.toList.drop 23 = dktX2_parchedBy_1 := dk_seg dksX2_parchedBy_0 23 rfl rfl
theorem dksX2_parchedBy_2 : cX2_parchedBy.data.toList.drop 46 = dktX2_parchedBy_2 := dk_seg dksX2_parchedBy_1 23 rfl rfl
theorem dX2_parchedBy_0 : decode cX2_parchedBy 0 = .ok (.aload_n 0, 1) := dk_42 (dk_at dksX2_parchedBy_0 0 rfl rfl)
theorem dX2_parchedBy_1 : decode cX2_parchedBy 1 = .ok (.getfield 46, 3) := dk_180 0 46 (dk_at dksX2_parchedBy_0 1 rfl rfl)
theorem dX2_parchedBy_4 : decode cX2_parchedBy 4 = .ok (.iconst 1, 1) := dk_4 (dk_at dksX2_parchedBy_0 4 rfl rfl)
theorem dX2_parchedBy_5 : decode cX2_parchedBy 5 = .ok (.aaload, 1) := dk_50 (dk_at dksX2_parchedBy_0 5 rfl rfl)
theorem dX2_parchedBy_6 : decode cX2_parchedBy 6 = .ok (.ifnonnull 7, 3) := dk_199 0 7 (dk_at dksX2_parchedBy_0 6 rfl rfl)
theorem dX2_parchedBy_9 : decode cX2_parchedBy 9 = .ok (.iload_n 1, 1) := dk_27 (dk_at dksX2_parchedBy_0 9 rfl rfl)
theorem dX2_parchedBy_10 : decode cX2_parchedBy 10 = .ok (.goto 34, 3) := dk_167 0 34 (dk_at dksX2_parchedBy_0 10 rfl rfl)
theorem dX2_parchedBy_13 : decode cX2_parchedBy 13 = .ok (.aload_n 0, 1) := dk_42 (dk_at dksX2_parchedBy_0 13 rfl rfl)
theorem dX2_parchedBy_14 : decode cX2_parchedBy 14 = .ok (.getfield 46, 3) := dk_180 0 46 (dk_at dksX2_parchedBy_0 14 rfl rfl)
theorem dX2_parchedBy_17 : decode cX2_parchedBy 17 = .ok (.iconst 1, 1) := dk_4 (dk_at dksX2_parchedBy_0 17 rfl rfl)
theorem dX2_parchedBy_18 : decode cX2_parchedBy 18 = .ok (.aaload, 1) := dk_50 (dk_at dksX2_parchedBy_0 18 rfl rfl)
theorem dX2_parchedBy_19 : decode cX2_parchedBy 19 = .ok (.aload_n 0, 1) := dk_42 (dk_at dksX2_parchedBy_0 19 rfl rfl)
theorem dX2_parchedBy_20 : decode cX2_parchedBy 20 = .ok (.getfield 63, 3) := dk_180 0 63 (dk_at dksX2_parchedBy_0 20 rfl rfl)
theorem dX2_parchedBy_23 : decode cX2_parchedBy 23 = .ok (.bipush 108, 2) := dk_16 108 (dk_at dksX2_parchedBy_1 0 rfl rfl)
theorem dX2_parchedBy_25 : decode cX2_parchedBy 25 = .ok (.iload_n 1, 1) := dk_27 (dk_at dksX2_parchedBy_1 2 rfl rfl)
theorem dX2_parchedBy_26 : decode cX2_parchedBy 26 = .ok (.invokevirtual 97, 3) := dk_182 0 97 (dk_at dksX2_parchedBy_1 3 rfl rfl)
theorem dX2_parchedBy_29 : decode cX2_parchedBy 29 = .ok (.bipush 109, 2) := dk_16 109 (dk_at dksX2_parchedBy_1 6 rfl rfl)
theorem dX2_parchedBy_31 : decode cX2_parchedBy 31 = .ok (.iload_n 2, 1) := dk_28 (dk_at dksX2_parchedBy_1 8 rfl rfl)
theorem dX2_parchedBy_32 : decode cX2_parchedBy 32 = .ok (.invokevirtual 97, 3) := dk_182 0 97 (dk_at dksX2_parchedBy_1 9 rfl rfl)
theorem dX2_parchedBy_35 : decode cX2_parchedBy 35 = .ok (.bipush 100, 2) := dk_16 100 (dk_at dksX2_parchedBy_1 12 rfl rfl)
theorem dX2_parchedBy_37 : decode cX2_parchedBy 37 = .ok (.iload_n 3, 1) := dk_29 (dk_at dksX2_parchedBy_1 14 rfl rfl)
theorem dX2_parchedBy_38 : decode cX2_parchedBy 38 = .ok (.invokevirtual 97, 3) := dk_182 0 97 (dk_at dksX2_parchedBy_1 15 rfl rfl)
theorem dX2_parchedBy_41 : decode cX2_parchedBy 41 = .ok (.invokevirtual 101, 3) := dk_182 0 101 (dk_at dksX2_parchedBy_1 18 rfl rfl)
theorem dX2_parchedBy_44 : decode cX2_parchedBy 44 = .ok (.istore 4, 2) := dk_54 4 (dk_at dksX2_parchedBy_1 21 rfl rfl)
theorem dX2_parchedBy_46 : decode cX2_parchedBy 46 = .ok (.iload 4, 2) := dk_21 4 (dk_at dksX2_parchedBy_2 0 rfl rfl)
theorem dX2_parchedBy_48 : decode cX2_parchedBy 48 = .ok (.iconst 0, 1) := dk_3 (dk_at dksX2_parchedBy_2 2 rfl rfl)
theorem dX2_parchedBy_49 : decode cX2_parchedBy 49 = .ok (.bipush 99, 2) := dk_16 99 (dk_at dksX2_parchedBy_2 3 rfl rfl)
theorem dX2_parchedBy_51 : decode cX2_parchedBy 51 = .ok (.invokestatic 105, 3) := dk_184 0 105 (dk_at dksX2_parchedBy_2 5 rfl rfl)
theorem dX2_parchedBy_54 : decode cX2_parchedBy 54 = .ok (.ireturn, 1) := dk_172 (dk_at dksX2_parchedBy_2 8 rfl rfl)
abbrev cX2_canDrink : ByteArray := prog_7_method_10_code
def yX2_canDrink : MethodName := ⟨RX2, "canDrink", "(I)Z"⟩
def dkwX2_canDrink_1 : List UInt8 := [182, 0, 119, 161, 0, 7, 4, 167, 0, 4, 3, 172]
abbrev dktX2_canDrink_1 : List UInt8 := dkwX2_canDrink_1 ++ []
def dkwX2_canDrink_0 : List UInt8 := [42, 180, 0, 40, 27, 51, 154, 0, 26, 42, 180, 0, 9, 42, 180, 0, 31, 27, 46, 46, 42, 27]
abbrev dktX2_canDrink_0 : List UInt8 := dkwX2_canDrink_0 ++ dktX2_canDrink_1
theorem dksX2_canDrink_0 : cX2_canDrink.data.toList.drop 0 = dktX2_canDrink_0 := by decide +kernel
theorem dksX2_canDrink_1 : cX2_canDrink.data.toList.drop 22 = dktX2_canDrink_1 := dk_seg dksX2_canDrink_0 22 rfl rfl
theorem dX2_canDrink_0 : decode cX2_canDrink 0 = .ok (.aload_n 0, 1) := dk_42 (dk_at dksX2_canDrink_0 0 rfl rfl)
theorem dX2_canDrink_1 : decode cX2_canDrink 1 = .ok (.getfield 40, 3) := dk_180 0 40 (dk_at dksX2_canDrink_0 1 rfl rfl)
theorem dX2_canDrink_4 : decode cX2_canDrink 4 = .ok (.iload_n 1, 1) := dk_27 (dk_at dksX2_canDrink_0 4 rfl rfl)
theorem dX2_canDrink_5 : decode cX2_canDrink 5 = .ok (.baload, 1) := dk_51 (dk_at dksX2_canDrink_0 5 rfl rfl)
theorem dX2_canDrink_6 : decode cX2_canDrink 6 = .ok (.ifCond .ne 26, 3) := dk_154 0 26 (dk_at dksX2_canDrink_0 6 rfl rfl)
theorem dX2_canDrink_9 : decode cX2_canDrink 9 = .ok (.aload_n 0, 1) := dk_42 (dk_at dksX2_canDrink_0 9 rfl rfl)
theorem dX2_canDrink_10 : decode cX2_canDrink 10 = .ok (.getfield 9, 3) := dk_180 0 9 (dk_at dksX2_canDrink_0 10 rfl rfl)
theorem dX2_canDrink_13 : decode cX2_canDrink 13 = .ok (.aload_n 0, 1) := dk_42 (dk_at dksX2_canDrink_0 13 rfl rfl)
theorem dX2_canDrink_14 : decode cX2_canDrink 14 = .ok (.getfield 31, 3) := dk_180 0 31 (dk_at dksX2_canDrink_0 14 rfl rfl)
theorem dX2_canDrink_17 : decode cX2_canDrink 17 = .ok (.iload_n 1, 1) := dk_27 (dk_at dksX2_canDrink_0 17 rfl rfl)
theorem dX2_canDrink_18 : decode cX2_canDrink 18 = .ok (.iaload, 1) := dk_46 (dk_at dksX2_canDrink_0 18 rfl rfl)
theorem dX2_canDrink_19 : decode cX2_canDrink 19 = .ok (.iaload, 1) := dk_46 (dk_at dksX2_canDrink_0 19 rfl rfl)
theorem dX2_canDrink_20 : decode cX2_canDrink 20 = .ok (.aload_n 0, 1) := dk_42 (dk_at dksX2_canDrink_0 20 rfl rfl)
theorem dX2_canDrink_21 : decode cX2_canDrink 21 = .ok (.iload_n 1, 1) := dk_27 (dk_at dksX2_canDrink_0 21 rfl rfl)
theorem dX2_canDrink_22 : decode cX2_canDrink 22 = .ok (.invokevirtual 119, 3) := dk_182 0 119 (dk_at dksX2_canDrink_1 0 rfl rfl)
theorem dX2_canDrink_25 : decode cX2_canDrink 25 = .ok (.if_icmp .lt 7, 3) := dk_161 0 7 (dk_at dksX2_canDrink_1 3 rfl rfl)
theorem dX2_canDrink_28 : decode cX2_canDrink 28 = .ok (.iconst 1, 1) := dk_4 (dk_at dksX2_canDrink_1 6 rfl rfl)
theorem dX2_canDrink_29 : decode cX2_canDrink 29 = .ok (.goto 4, 3) := dk_167 0 4 (dk_at dksX2_canDrink_1 7 rfl rfl)
theorem dX2_canDrink_32 : decode cX2_canDrink 32 = .ok (.iconst 0, 1) := dk_3 (dk_at dksX2_canDrink_1 10 rfl rfl)
theorem dX2_canDrink_33 : decode cX2_canDrink 33 = .ok (.ireturn, 1) := dk_172 (dk_at dksX2_canDrink_1 11 rfl rfl)
abbrev cX2_drinks : ByteArray := prog_7_method_11_code
def yX2_drinks : MethodName := ⟨RX2, "drinks", "(I)V"⟩
def dkwX2_drinks_2 : List UInt8 := [46, 42, 180, 0, 73, 182, 0, 122, 79, 177]
abbrev dktX2_drinks_2 : List UInt8 := dkwX2_drinks_2 ++ []
def dkwX2_drinks_1 : List UInt8 := [3, 79, 42, 180, 0, 34, 27, 42, 180, 0, 27, 27, 50, 42, 180, 0, 31, 27, 46, 42, 180, 0, 34, 27]
abbrev dktX2_drinks_1 : List UInt8 := dkwX2_drinks_1 ++ dktX2_drinks_2
def dkwX2_drinks_0 : List UInt8 := [42, 180, 0, 9, 42, 180, 0, 31, 27, 46, 92, 46, 42, 27, 182, 0, 119, 100, 79, 42, 180, 0, 37, 27]
abbrev dktX2_drinks_0 : List UInt8 := dkwX2_drinks_0 ++ dktX2_drinks_1
theorem dksX2_drinks_0 : cX2_drinks.data.toList.drop 0 = dktX2_drinks_0 := by decide +kernel
theorem dksX2_drinks_1 : cX2_drinks.data.toList.drop 24 = dktX2_drinks_1 := dk_seg dksX2_drinks_0 24 rfl rfl
theorem dksX2_drinks_2 : cX2_drinks.data.toList.drop 48 = dktX2_drinks_2 := dk_seg dksX2_drinks_1 24 rfl rfl
theorem dX2_drinks_0 : decode cX2_drinks 0 = .ok (.aload_n 0, 1) := dk_42 (dk_at dksX2_drinks_0 0 rfl rfl)
theorem dX2_drinks_1 : decode cX2_drinks 1 = .ok (.getfield 9, 3) := dk_180 0 9 (dk_at dksX2_drinks_0 1 rfl rfl)
theorem dX2_drinks_4 : decode cX2_drinks 4 = .ok (.aload_n 0, 1) := dk_42 (dk_at dksX2_drinks_0 4 rfl rfl)
theorem dX2_drinks_5 : decode cX2_drinks 5 = .ok (.getfield 31, 3) := dk_180 0 31 (dk_at dksX2_drinks_0 5 rfl rfl)
theorem dX2_drinks_8 : decode cX2_drinks 8 = .ok (.iload_n 1, 1) := dk_27 (dk_at dksX2_drinks_0 8 rfl rfl)
theorem dX2_drinks_9 : decode cX2_drinks 9 = .ok (.iaload, 1) := dk_46 (dk_at dksX2_drinks_0 9 rfl rfl)
theorem dX2_drinks_10 : decode cX2_drinks 10 = .ok (.dup2, 1) := dk_92 (dk_at dksX2_drinks_0 10 rfl rfl)
theorem dX2_drinks_11 : decode cX2_drinks 11 = .ok (.iaload, 1) := dk_46 (dk_at dksX2_drinks_0 11 rfl rfl)
theorem dX2_drinks_12 : decode cX2_drinks 12 = .ok (.aload_n 0, 1) := dk_42 (dk_at dksX2_drinks_0 12 rfl rfl)
theorem dX2_drinks_13 : decode cX2_drinks 13 = .ok (.iload_n 1, 1) := dk_27 (dk_at dksX2_drinks_0 13 rfl rfl)
theorem dX2_drinks_14 : decode cX2_drinks 14 = .ok (.invokevirtual 119, 3) := dk_182 0 119 (dk_at dksX2_drinks_0 14 rfl rfl)
theorem dX2_drinks_17 : decode cX2_drinks 17 = .ok (.isub, 1) := dk_100 (dk_at dksX2_drinks_0 17 rfl rfl)
theorem dX2_drinks_18 : decode cX2_drinks 18 = .ok (.iastore, 1) := dk_79 (dk_at dksX2_drinks_0 18 rfl rfl)
theorem dX2_drinks_19 : decode cX2_drinks 19 = .ok (.aload_n 0, 1) := dk_42 (dk_at dksX2_drinks_0 19 rfl rfl)
theorem dX2_drinks_20 : decode cX2_drinks 20 = .ok (.getfield 37, 3) := dk_180 0 37 (dk_at dksX2_drinks_0 20 rfl rfl)
theorem dX2_drinks_23 : decode cX2_drinks 23 = .ok (.iload_n 1, 1) := dk_27 (dk_at dksX2_drinks_0 23 rfl rfl)
theorem dX2_drinks_24 : decode cX2_drinks 24 = .ok (.iconst 0, 1) := dk_3 (dk_at dksX2_drinks_1 0 rfl rfl)
theorem dX2_drinks_25 : decode cX2_drinks 25 = .ok (.iastore, 1) := dk_79 (dk_at dksX2_drinks_1 1 rfl rfl)
theorem dX2_drinks_26 : decode cX2_drinks 26 = .ok (.aload_n 0, 1) := dk_42 (dk_at dksX2_drinks_1 2 rfl rfl)
theorem dX2_drinks_27 : decode cX2_drinks 27 = .ok (.getfield 34, 3) := dk_180 0 34 (dk_at dksX2_drinks_1 3 rfl rfl)
theorem dX2_drinks_30 : decode cX2_drinks 30 = .ok (.iload_n 1, 1) := dk_27 (dk_at dksX2_drinks_1 6 rfl rfl)
theorem dX2_drinks_31 : decode cX2_drinks 31 = .ok (.aload_n 0, 1) := dk_42 (dk_at dksX2_drinks_1 7 rfl rfl)
theorem dX2_drinks_32 : decode cX2_drinks 32 = .ok (.getfield 27, 3) := dk_180 0 27 (dk_at dksX2_drinks_1 8 rfl rfl)
theorem dX2_drinks_35 : decode cX2_drinks 35 = .ok (.iload_n 1, 1) := dk_27 (dk_at dksX2_drinks_1 11 rfl rfl)
theorem dX2_drinks_36 : decode cX2_drinks 36 = .ok (.aaload, 1) := dk_50 (dk_at dksX2_drinks_1 12 rfl rfl)
theorem dX2_drinks_37 : decode cX2_drinks 37 = .ok (.aload_n 0, 1) := dk_42 (dk_at dksX2_drinks_1 13 rfl rfl)
theorem dX2_drinks_38 : decode cX2_drinks 38 = .ok (.getfield 31, 3) := dk_180 0 31 (dk_at dksX2_drinks_1 14 rfl rfl)
theorem dX2_drinks_41 : decode cX2_drinks 41 = .ok (.iload_n 1, 1) := dk_27 (dk_at dksX2_drinks_1 17 rfl rfl)
theorem dX2_drinks_42 : decode cX2_drinks 42 = .ok (.iaload, 1) := dk_46 (dk_at dksX2_drinks_1 18 rfl rfl)
theorem dX2_drinks_43 : decode cX2_drinks 43 = .ok (.aload_n 0, 1) := dk_42 (dk_at dksX2_drinks_1 19 rfl rfl)
theorem dX2_drinks_44 : decode cX2_drinks 44 = .ok (.getfield 34, 3) := dk_180 0 34 (dk_at dksX2_drinks_1 20 rfl rfl)
theorem dX2_drinks_47 : decode cX2_drinks 47 = .ok (.iload_n 1, 1) := dk_27 (dk_at dksX2_drinks_1 23 rfl rfl)
theorem dX2_drinks_48 : decode cX2_drinks 48 = .ok (.iaload, 1) := dk_46 (dk_at dksX2_drinks_2 0 rfl rfl)
theorem dX2_drinks_49 : decode cX2_drinks 49 = .ok (.aload_n 0, 1) := dk_42 (dk_at dksX2_drinks_2 1 rfl rfl)
theorem dX2_drinks_50 : decode cX2_drinks 50 = .ok (.getfield 73, 3) := dk_180 0 73 (dk_at dksX2_drinks_2 2 rfl rfl)
theorem dX2_drinks_53 : decode cX2_drinks 53 = .ok (.invokevirtual 122, 3) := dk_182 0 122 (dk_at dksX2_drinks_2 5 rfl rfl)
theorem dX2_drinks_56 : decode cX2_drinks 56 = .ok (.iastore, 1) := dk_79 (dk_at dksX2_drinks_2 8 rfl rfl)
theorem dX2_drinks_57 : decode cX2_drinks 57 = .ok (.return_, 1) := dk_177 (dk_at dksX2_drinks_2 9 rfl rfl)
abbrev cX2_goes : ByteArray := prog_7_method_13_code
def yX2_goes : MethodName := ⟨RX2, "goes", "(II)V"⟩
def dkwX2_goes_1 : List UInt8 := [42, 27, 29, 182, 0, 132, 182, 0, 135, 42, 180, 0, 31, 27, 28, 79, 177]
abbrev dktX2_goes_1 : List UInt8 := dkwX2_goes_1 ++ []
def dkwX2_goes_0 : List UInt8 := [42, 42, 180, 0, 31, 27, 46, 28, 182, 0, 129, 62, 42, 89, 180, 0, 73, 29, 96, 181, 0, 73, 42, 27]
abbrev dktX2_goes_0 : List UInt8 := dkwX2_goes_0 ++ dktX2_goes_1
theorem dksX2_goes_0 : cX2_goes.data.toList.drop 0 = dktX2_goes_0 := by decide +kernel
theorem dksX2_goes_1 : cX2_goes.data.toList.drop 24 = dktX2_goes_1 := dk_seg dksX2_goes_0 24 rfl rfl
theorem dX2_goes_0 : decode cX2_goes 0 = .ok (.aload_n 0, 1) := dk_42 (dk_at dksX2_goes_0 0 rfl rfl)
theorem dX2_goes_1 : decode cX2_goes 1 = .ok (.aload_n 0, 1) := dk_42 (dk_at dksX2_goes_0 1 rfl rfl)
theorem dX2_goes_2 : decode cX2_goes 2 = .ok (.getfield 31, 3) := dk_180 0 31 (dk_at dksX2_goes_0 2 rfl rfl)
theorem dX2_goes_5 : decode cX2_goes 5 = .ok (.iload_n 1, 1) := dk_27 (dk_at dksX2_goes_0 5 rfl rfl)
theorem dX2_goes_6 : decode cX2_goes 6 = .ok (.iaload, 1) := dk_46 (dk_at dksX2_goes_0 6 rfl rfl)
theorem dX2_goes_7 : decode cX2_goes 7 = .ok (.iload_n 2, 1) := dk_28 (dk_at dksX2_goes_0 7 rfl rfl)
theorem dX2_goes_8 : decode cX2_goes 8 = .ok (.invokevirtual 129, 3) := dk_182 0 129 (dk_at dksX2_goes_0 8 rfl rfl)
theorem dX2_goes_11 : decode cX2_goes 11 = .ok (.istore_n 3, 1) := dk_62 (dk_at dksX2_goes_0 11 rfl rfl)
theorem dX2_goes_12 : decode cX2_goes 12 = .ok (.aload_n 0, 1) := dk_42 (dk_at dksX2_goes_0 12 rfl rfl)
theorem dX2_goes_13 : decode cX2_goes 13 = .ok (.dup, 1) := dk_89 (dk_at dksX2_goes_0 13 rfl rfl)
theorem dX2_goes_14 : decode cX2_goes 14 = .ok (.getfield 73, 3) := dk_180 0 73 (dk_at dksX2_goes_0 14 rfl rfl)
theorem dX2_goes_17 : decode cX2_goes 17 = .ok (.iload_n 3, 1) := dk_29 (dk_at dksX2_goes_0 17 rfl rfl)
theorem dX2_goes_18 : decode cX2_goes 18 = .ok (.iadd, 1) := dk_96 (dk_at dksX2_goes_0 18 rfl rfl)
theorem dX2_goes_19 : decode cX2_goes 19 = .ok (.putfield 73, 3) := dk_181 0 73 (dk_at dksX2_goes_0 19 rfl rfl)
theorem dX2_goes_22 : decode cX2_goes 22 = .ok (.aload_n 0, 1) := dk_42 (dk_at dksX2_goes_0 22 rfl rfl)
theorem dX2_goes_23 : decode cX2_goes 23 = .ok (.iload_n 1, 1) := dk_27 (dk_at dksX2_goes_0 23 rfl rfl)
theorem dX2_goes_24 : decode cX2_goes 24 = .ok (.aload_n 0, 1) := dk_42 (dk_at dksX2_goes_1 0 rfl rfl)
theorem dX2_goes_25 : decode cX2_goes 25 = .ok (.iload_n 1, 1) := dk_27 (dk_at dksX2_goes_1 1 rfl rfl)
theorem dX2_goes_26 : decode cX2_goes 26 = .ok (.iload_n 3, 1) := dk_29 (dk_at dksX2_goes_1 2 rfl rfl)
theorem dX2_goes_27 : decode cX2_goes 27 = .ok (.invokevirtual 132, 3) := dk_182 0 132 (dk_at dksX2_goes_1 3 rfl rfl)
theorem dX2_goes_30 : decode cX2_goes 30 = .ok (.invokevirtual 135, 3) := dk_182 0 135 (dk_at dksX2_goes_1 6 rfl rfl)
theorem dX2_goes_33 : decode cX2_goes 33 = .ok (.aload_n 0, 1) := dk_42 (dk_at dksX2_goes_1 9 rfl rfl)
theorem dX2_goes_34 : decode cX2_goes 34 = .ok (.getfield 31, 3) := dk_180 0 31 (dk_at dksX2_goes_1 10 rfl rfl)
theorem dX2_goes_37 : decode cX2_goes 37 = .ok (.iload_n 1, 1) := dk_27 (dk_at dksX2_goes_1 13 rfl rfl)
theorem dX2_goes_38 : decode cX2_goes 38 = .ok (.iload_n 2, 1) := dk_28 (dk_at dksX2_goes_1 14 rfl rfl)
theorem dX2_goes_39 : decode cX2_goes 39 = .ok (.iastore, 1) := dk_79 (dk_at dksX2_goes_1 15 rfl rfl)
theorem dX2_goes_40 : decode cX2_goes 40 = .ok (.return_, 1) := dk_177 (dk_at dksX2_goes_1 16 rfl rfl)
abbrev cX2_parched : ByteArray := prog_7_method_9_code
def yX2_parched : MethodName := ⟨RX2, "parched", "(II)I"⟩
def dkwX2_parched_0 : List UInt8 := [42, 28, 42, 180, 0, 27, 27, 50, 180, 0, 113, 42, 180, 0, 76, 182, 0, 116, 172]
abbrev dktX2_parched_0 : List UInt8 := dkwX2_parched_0 ++ []
theorem dksX2_parched_0 : cX2_parched.data.toList.drop 0 = dktX2_parched_0 := by decide +kernel
theorem dX2_parched_0 : decode cX2_parched 0 = .ok (.aload_n 0, 1) := dk_42 (dk_at dksX2_parched_0 0 rfl rfl)
theorem dX2_parched_1 : decode cX2_parched 1 = .ok (.iload_n 2, 1) := dk_28 (dk_at dksX2_parched_0 1 rfl rfl)
theorem dX2_parched_2 : decode cX2_parched 2 = .ok (.aload_n 0, 1) := dk_42 (dk_at dksX2_parched_0 2 rfl rfl)
theorem dX2_parched_3 : decode cX2_parched 3 = .ok (.getfield 27, 3) := dk_180 0 27 (dk_at dksX2_parched_0 3 rfl rfl)
theorem dX2_parched_6 : decode cX2_parched 6 = .ok (.iload_n 1, 1) := dk_27 (dk_at dksX2_parched_0 6 rfl rfl)
theorem dX2_parched_7 : decode cX2_parched 7 = .ok (.aaload, 1) := dk_50 (dk_at dksX2_parched_0 7 rfl rfl)
theorem dX2_parched_8 : decode cX2_parched 8 = .ok (.getfield 113, 3) := dk_180 0 113 (dk_at dksX2_parched_0 8 rfl rfl)
theorem dX2_parched_11 : decode cX2_parched 11 = .ok (.aload_n 0, 1) := dk_42 (dk_at dksX2_parched_0 11 rfl rfl)
theorem dX2_parched_12 : decode cX2_parched 12 = .ok (.getfield 76, 3) := dk_180 0 76 (dk_at dksX2_parched_0 12 rfl rfl)
theorem dX2_parched_15 : decode cX2_parched 15 = .ok (.invokevirtual 116, 3) := dk_182 0 116 (dk_at dksX2_parched_0 15 rfl rfl)
theorem dX2_parched_18 : decode cX2_parched 18 = .ok (.ireturn, 1) := dk_172 (dk_at dksX2_parched_0 18 rfl rfl)
abbrev cX2_thirsts : ByteArray := prog_7_method_12_code
def yX2_thirsts : MethodName := ⟨RX2, "thirsts", "(II)V"⟩
def dkwX2_thirsts_1 : List UInt8 := [180, 0, 27, 27, 50, 182, 0, 125, 164, 0, 7, 4, 167, 0, 4, 3, 84, 177]
abbrev dktX2_thirsts_1 : List UInt8 := dkwX2_thirsts_1 ++ []
def dkwX2_thirsts_0 : List UInt8 := [42, 180, 0, 37, 27, 92, 46, 28, 96, 79, 42, 180, 0, 40, 27, 42, 180, 0, 37, 27, 46, 42]
abbrev dktX2_thirsts_0 : List UInt8 := dkwX2_thirsts_0 ++ dktX2_thirsts_1
theorem dksX2_thirsts_0 : cX2_thirsts.data.toList.drop 0 = dktX2_thirsts_0 := by decide +kernel
theorem dksX2_thirsts_1 : cX2_thirsts.data.toList.drop 22 = dktX2_thirsts_1 := dk_seg dksX2_thirsts_0 22 rfl rfl
theorem dX2_thirsts_0 : decode cX2_thirsts 0 = .ok (.aload_n 0, 1) := dk_42 (dk_at dksX2_thirsts_0 0 rfl rfl)
theorem dX2_thirsts_1 : decode cX2_thirsts 1 = .ok (.getfield 37, 3) := dk_180 0 37 (dk_at dksX2_thirsts_0 1 rfl rfl)
theorem dX2_thirsts_4 : decode cX2_thirsts 4 = .ok (.iload_n 1, 1) := dk_27 (dk_at dksX2_thirsts_0 4 rfl rfl)
theorem dX2_thirsts_5 : decode cX2_thirsts 5 = .ok (.dup2, 1) := dk_92 (dk_at dksX2_thirsts_0 5 rfl rfl)
theorem dX2_thirsts_6 : decode cX2_thirsts 6 = .ok (.iaload, 1) := dk_46 (dk_at dksX2_thirsts_0 6 rfl rfl)
theorem dX2_thirsts_7 : decode cX2_thirsts 7 = .ok (.iload_n 2, 1) := dk_28 (dk_at dksX2_thirsts_0 7 rfl rfl)
theorem dX2_thirsts_8 : decode cX2_thirsts 8 = .ok (.iadd, 1) := dk_96 (dk_at dksX2_thirsts_0 8 rfl rfl)
theorem dX2_thirsts_9 : decode cX2_thirsts 9 = .ok (.iastore, 1) := dk_79 (dk_at dksX2_thirsts_0 9 rfl rfl)
theorem dX2_thirsts_10 : decode cX2_thirsts 10 = .ok (.aload_n 0, 1) := dk_42 (dk_at dksX2_thirsts_0 10 rfl rfl)
theorem dX2_thirsts_11 : decode cX2_thirsts 11 = .ok (.getfield 40, 3) := dk_180 0 40 (dk_at dksX2_thirsts_0 11 rfl rfl)
theorem dX2_thirsts_14 : decode cX2_thirsts 14 = .ok (.iload_n 1, 1) := dk_27 (dk_at dksX2_thirsts_0 14 rfl rfl)
theorem dX2_thirsts_15 : decode cX2_thirsts 15 = .ok (.aload_n 0, 1) := dk_42 (dk_at dksX2_thirsts_0 15 rfl rfl)
theorem dX2_thirsts_16 : decode cX2_thirsts 16 = .ok (.getfield 37, 3) := dk_180 0 37 (dk_at dksX2_thirsts_0 16 rfl rfl)
theorem dX2_thirsts_19 : decode cX2_thirsts 19 = .ok (.iload_n 1, 1) := dk_27 (dk_at dksX2_thirsts_0 19 rfl rfl)
theorem dX2_thirsts_20 : decode cX2_thirsts 20 = .ok (.iaload, 1) := dk_46 (dk_at dksX2_thirsts_0 20 rfl rfl)
theorem dX2_thirsts_21 : decode cX2_thirsts 21 = .ok (.aload_n 0, 1) := dk_42 (dk_at dksX2_thirsts_0 21 rfl rfl)
theorem dX2_thirsts_22 : decode cX2_thirsts 22 = .ok (.getfield 27, 3) := dk_180 0 27 (dk_at dksX2_thirsts_1 0 rfl rfl)
theorem dX2_thirsts_25 : decode cX2_thirsts 25 = .ok (.iload_n 1, 1) := dk_27 (dk_at dksX2_thirsts_1 3 rfl rfl)
theorem dX2_thirsts_26 : decode cX2_thirsts 26 = .ok (.aaload, 1) := dk_50 (dk_at dksX2_thirsts_1 4 rfl rfl)
theorem dX2_thirsts_27 : decode cX2_thirsts 27 = .ok (.invokevirtual 125, 3) := dk_182 0 125 (dk_at dksX2_thirsts_1 5 rfl rfl)
theorem dX2_thirsts_30 : decode cX2_thirsts 30 = .ok (.if_icmp .le 7, 3) := dk_164 0 7 (dk_at dksX2_thirsts_1 8 rfl rfl)
theorem dX2_thirsts_33 : decode cX2_thirsts 33 = .ok (.iconst 1, 1) := dk_4 (dk_at dksX2_thirsts_1 11 rfl rfl)
theorem dX2_thirsts_34 : decode cX2_thirsts 34 = .ok (.goto 4, 3) := dk_167 0 4 (dk_at dksX2_thirsts_1 12 rfl rfl)
theorem dX2_thirsts_37 : decode cX2_thirsts 37 = .ok (.iconst 0, 1) := dk_3 (dk_at dksX2_thirsts_1 15 rfl rfl)
theorem dX2_thirsts_38 : decode cX2_thirsts 38 = .ok (.bastore, 1) := dk_84 (dk_at dksX2_thirsts_1 16 rfl rfl)
theorem dX2_thirsts_39 : decode cX2_thirsts 39 = .ok (.return_, 1) := dk_177 (dk_at dksX2_thirsts_1 17 rfl rfl)
abbrev cX2_passes : ByteArray := prog_7_method_14_code
def yX2_passes : MethodName := ⟨RX2, "passes", "()V"⟩
def dkwX2_passes_3 : List UInt8 := [180, 0, 76, 4, 96, 181, 0, 76, 42, 89, 180, 0, 73, 4, 96, 181, 0, 73, 177]
abbrev dktX2_passes_3 : List UInt8 := dkwX2_passes_3 ++ []
def dkwX2_passes_2 : List UInt8 := [42, 180, 0, 40, 27, 51, 154, 0, 9, 42, 27, 4, 182, 0, 135, 132, 1, 1, 167, 255, 230, 42, 89]
abbrev dktX2_passes_2 : List UInt8 := dkwX2_passes_2 ++ dktX2_passes_3
def dkwX2_passes_1 : List UInt8 := [180, 0, 21, 96, 184, 0, 88, 79, 132, 1, 1, 167, 255, 225, 3, 60, 27, 42, 180, 0, 79, 162, 0, 24]
abbrev dktX2_passes_1 : List UInt8 := dkwX2_passes_1 ++ dktX2_passes_2
def dkwX2_passes_0 : List UInt8 := [3, 60, 27, 16, 8, 162, 0, 31, 42, 180, 0, 9, 27, 16, 99, 42, 180, 0, 9, 27, 46, 42]
abbrev dktX2_passes_0 : List UInt8 := dkwX2_passes_0 ++ dktX2_passes_1
theorem dksX2_passes_0 : cX2_passes.data.toList.drop 0 = dktX2_passes_0 := by decide +kernel
theorem dksX2_passes_1 : cX2_passes.data.toList.drop 22 = dktX2_passes_1 := dk_seg dksX2_passes_0 22 rfl rfl
theorem dksX2_passes_2 : cX2_passes.data.toList.drop 46 = dktX2_passes_2 := dk_seg dksX2_passes_1 24 rfl rfl
theorem dksX2_passes_3 : cX2_passes.data.toList.drop 69 = dktX2_passes_3 := dk_seg dksX2_passes_2 23 rfl rfl
theorem dX2_passes_0 : decode cX2_passes 0 = .ok (.iconst 0, 1) := dk_3 (dk_at dksX2_passes_0 0 rfl rfl)
theorem dX2_passes_1 : decode cX2_passes 1 = .ok (.istore_n 1, 1) := dk_60 (dk_at dksX2_passes_0 1 rfl rfl)
theorem dX2_passes_2 : decode cX2_passes 2 = .ok (.iload_n 1, 1) := dk_27 (dk_at dksX2_passes_0 2 rfl rfl)
theorem dX2_passes_3 : decode cX2_passes 3 = .ok (.bipush 8, 2) := dk_16 8 (dk_at dksX2_passes_0 3 rfl rfl)
theorem dX2_passes_5 : decode cX2_passes 5 = .ok (.if_icmp .ge 31, 3) := dk_162 0 31 (dk_at dksX2_passes_0 5 rfl rfl)
theorem dX2_passes_8 : decode cX2_passes 8 = .ok (.aload_n 0, 1) := dk_42 (dk_at dksX2_passes_0 8 rfl rfl)
theorem dX2_passes_9 : decode cX2_passes 9 = .ok (.getfield 9, 3) := dk_180 0 9 (dk_at dksX2_passes_0 9 rfl rfl)
theorem dX2_passes_12 : decode cX2_passes 12 = .ok (.iload_n 1, 1) := dk_27 (dk_at dksX2_passes_0 12 rfl rfl)
theorem dX2_passes_13 : decode cX2_passes 13 = .ok (.bipush 99, 2) := dk_16 99 (dk_at dksX2_passes_0 13 rfl rfl)
theorem dX2_passes_15 : decode cX2_passes 15 = .ok (.aload_n 0, 1) := dk_42 (dk_at dksX2_passes_0 15 rfl rfl)
theorem dX2_passes_16 : decode cX2_passes 16 = .ok (.getfield 9, 3) := dk_180 0 9 (dk_at dksX2_passes_0 16 rfl rfl)
theorem dX2_passes_19 : decode cX2_passes 19 = .ok (.iload_n 1, 1) := dk_27 (dk_at dksX2_passes_0 19 rfl rfl)
theorem dX2_passes_20 : decode cX2_passes 20 = .ok (.iaload, 1) := dk_46 (dk_at dksX2_passes_0 20 rfl rfl)
theorem dX2_passes_21 : decode cX2_passes 21 = .ok (.aload_n 0, 1) := dk_42 (dk_at dksX2_passes_0 21 rfl rfl)
theorem dX2_passes_22 : decode cX2_passes 22 = .ok (.getfield 21, 3) := dk_180 0 21 (dk_at dksX2_passes_1 0 rfl rfl)
theorem dX2_passes_25 : decode cX2_passes 25 = .ok (.iadd, 1) := dk_96 (dk_at dksX2_passes_1 3 rfl rfl)
theorem dX2_passes_26 : decode cX2_passes 26 = .ok (.invokestatic 88, 3) := dk_184 0 88 (dk_at dksX2_passes_1 4 rfl rfl)
theorem dX2_passes_29 : decode cX2_passes 29 = .ok (.iastore, 1) := dk_79 (dk_at dksX2_passes_1 7 rfl rfl)
theorem dX2_passes_30 : decode cX2_passes 30 = .ok (.iinc 1 1, 3) := dk_132 1 1 (dk_at dksX2_passes_1 8 rfl rfl)
theorem dX2_passes_33 : decode cX2_passes 33 = .ok (.goto (-31), 3) := dk_167 255 225 (dk_at dksX2_passes_1 11 rfl rfl)
theorem dX2_passes_36 : decode cX2_passes 36 = .ok (.iconst 0, 1) := dk_3 (dk_at dksX2_passes_1 14 rfl rfl)
theorem dX2_passes_37 : decode cX2_passes 37 = .ok (.istore_n 1, 1) := dk_60 (dk_at dksX2_passes_1 15 rfl rfl)
theorem dX2_passes_38 : decode cX2_passes 38 = .ok (.iload_n 1, 1) := dk_27 (dk_at dksX2_passes_1 16 rfl rfl)
theorem dX2_passes_39 : decode cX2_passes 39 = .ok (.aload_n 0, 1) := dk_42 (dk_at dksX2_passes_1 17 rfl rfl)
theorem dX2_passes_40 : decode cX2_passes 40 = .ok (.getfield 79, 3) := dk_180 0 79 (dk_at dksX2_passes_1 18 rfl rfl)
theorem dX2_passes_43 : decode cX2_passes 43 = .ok (.if_icmp .ge 24, 3) := dk_162 0 24 (dk_at dksX2_passes_1 21 rfl rfl)
theorem dX2_passes_46 : decode cX2_passes 46 = .ok (.aload_n 0, 1) := dk_42 (dk_at dksX2_passes_2 0 rfl rfl)
theorem dX2_passes_47 : decode cX2_passes 47 = .ok (.getfield 40, 3) := dk_180 0 40 (dk_at dksX2_passes_2 1 rfl rfl)
theorem dX2_passes_50 : decode cX2_passes 50 = .ok (.iload_n 1, 1) := dk_27 (dk_at dksX2_passes_2 4 rfl rfl)
theorem dX2_passes_51 : decode cX2_passes 51 = .ok (.baload, 1) := dk_51 (dk_at dksX2_passes_2 5 rfl rfl)
theorem dX2_passes_52 : decode cX2_passes 52 = .ok (.ifCond .ne 9, 3) := dk_154 0 9 (dk_at dksX2_passes_2 6 rfl rfl)
theorem dX2_passes_55 : decode cX2_passes 55 = .ok (.aload_n 0, 1) := dk_42 (dk_at dksX2_passes_2 9 rfl rfl)
theorem dX2_passes_56 : decode cX2_passes 56 = .ok (.iload_n 1, 1) := dk_27 (dk_at dksX2_passes_2 10 rfl rfl)
theorem dX2_passes_57 : decode cX2_passes 57 = .ok (.iconst 1, 1) := dk_4 (dk_at dksX2_passes_2 11 rfl rfl)
theorem dX2_passes_58 : decode cX2_passes 58 = .ok (.invokevirtual 135, 3) := dk_182 0 135 (dk_at dksX2_passes_2 12 rfl rfl)
theorem dX2_passes_61 : decode cX2_passes 61 = .ok (.iinc 1 1, 3) := dk_132 1 1 (dk_at dksX2_passes_2 15 rfl rfl)
theorem dX2_passes_64 : decode cX2_passes 64 = .ok (.goto (-26), 3) := dk_167 255 230 (dk_at dksX2_passes_2 18 rfl rfl)
theorem dX2_passes_67 : decode cX2_passes 67 = .ok (.aload_n 0, 1) := dk_42 (dk_at dksX2_passes_2 21 rfl rfl)
theorem dX2_passes_68 : decode cX2_passes 68 = .ok (.dup, 1) := dk_89 (dk_at dksX2_passes_2 22 rfl rfl)
theorem dX2_passes_69 : decode cX2_passes 69 = .ok (.getfield 76, 3) := dk_180 0 76 (dk_at dksX2_passes_3 0 rfl rfl)
theorem dX2_passes_72 : decode cX2_passes 72 = .ok (.iconst 1, 1) := dk_4 (dk_at dksX2_passes_3 3 rfl rfl)
theorem dX2_passes_73 : decode cX2_passes 73 = .ok (.iadd, 1) := dk_96 (dk_at dksX2_passes_3 4 rfl rfl)
theorem dX2_passes_74 : decode cX2_passes 74 = .ok (.putfield 76, 3) := dk_181 0 76 (dk_at dksX2_passes_3 5 rfl rfl)
theorem dX2_passes_77 : decode cX2_passes 77 = .ok (.aload_n 0, 1) := dk_42 (dk_at dksX2_passes_3 8 rfl rfl)
theorem dX2_passes_78 : decode cX2_passes 78 = .ok (.dup, 1) := dk_89 (dk_at dksX2_passes_3 9 rfl rfl)
theorem dX2_passes_79 : decode cX2_passes 79 = .ok (.getfield 73, 3) := dk_180 0 73 (dk_at dksX2_passes_3 10 rfl rfl)
theorem dX2_passes_82 : decode cX2_passes 82 = .ok (.iconst 1, 1) := dk_4 (dk_at dksX2_passes_3 13 rfl rfl)
theorem dX2_passes_83 : decode cX2_passes 83 = .ok (.iadd, 1) := dk_96 (dk_at dksX2_passes_3 14 rfl rfl)
theorem dX2_passes_84 : decode cX2_passes 84 = .ok (.putfield 73, 3) := dk_181 0 73 (dk_at dksX2_passes_3 15 rfl rfl)
theorem dX2_passes_87 : decode cX2_passes 87 = .ok (.return_, 1) := dk_177 (dk_at dksX2_passes_3 18 rfl rfl)
abbrev cX2_dead : ByteArray := prog_7_method_15_code
def yX2_dead : MethodName := ⟨RX2, "dead", "()I"⟩
def dkwX2_dead_1 : List UInt8 := [167, 0, 4, 3, 96, 60, 132, 2, 1, 167, 255, 228, 27, 172]
abbrev dktX2_dead_1 : List UInt8 := dkwX2_dead_1 ++ []
def dkwX2_dead_0 : List UInt8 := [3, 60, 3, 61, 28, 42, 180, 0, 79, 162, 0, 26, 27, 42, 180, 0, 40, 28, 51, 153, 0, 7, 4]
abbrev dktX2_dead_0 : List UInt8 := dkwX2_dead_0 ++ dktX2_dead_1
theorem dksX2_dead_0 : cX2_dead.data.toList.drop 0 = dktX2_dead_0 := by decide +kernel
theorem dksX2_dead_1 : cX2_dead.data.toList.drop 23 = dktX2_dead_1 := dk_seg dksX2_dead_0 23 rfl rfl
theorem dX2_dead_0 : decode cX2_dead 0 = .ok (.iconst 0, 1) := dk_3 (dk_at dksX2_dead_0 0 rfl rfl)
theorem dX2_dead_1 : decode cX2_dead 1 = .ok (.istore_n 1, 1) := dk_60 (dk_at dksX2_dead_0 1 rfl rfl)
theorem dX2_dead_2 : decode cX2_dead 2 = .ok (.iconst 0, 1) := dk_3 (dk_at dksX2_dead_0 2 rfl rfl)
theorem dX2_dead_3 : decode cX2_dead 3 = .ok (.istore_n 2, 1) := dk_61 (dk_at dksX2_dead_0 3 rfl rfl)
theorem dX2_dead_4 : decode cX2_dead 4 = .ok (.iload_n 2, 1) := dk_28 (dk_at dksX2_dead_0 4 rfl rfl)
theorem dX2_dead_5 : decode cX2_dead 5 = .ok (.aload_n 0, 1) := dk_42 (dk_at dksX2_dead_0 5 rfl rfl)
theorem dX2_dead_6 : decode cX2_dead 6 = .ok (.getfield 79, 3) := dk_180 0 79 (dk_at dksX2_dead_0 6 rfl rfl)
theorem dX2_dead_9 : decode cX2_dead 9 = .ok (.if_icmp .ge 26, 3) := dk_162 0 26 (dk_at dksX2_dead_0 9 rfl rfl)
theorem dX2_dead_12 : decode cX2_dead 12 = .ok (.iload_n 1, 1) := dk_27 (dk_at dksX2_dead_0 12 rfl rfl)
theorem dX2_dead_13 : decode cX2_dead 13 = .ok (.aload_n 0, 1) := dk_42 (dk_at dksX2_dead_0 13 rfl rfl)
theorem dX2_dead_14 : decode cX2_dead 14 = .ok (.getfield 40, 3) := dk_180 0 40 (dk_at dksX2_dead_0 14 rfl rfl)
theorem dX2_dead_17 : decode cX2_dead 17 = .ok (.iload_n 2, 1) := dk_28 (dk_at dksX2_dead_0 17 rfl rfl)
theorem dX2_dead_18 : decode cX2_dead 18 = .ok (.baload, 1) := dk_51 (dk_at dksX2_dead_0 18 rfl rfl)
theorem dX2_dead_19 : decode cX2_dead 19 = .ok (.ifCond .eq 7, 3) := dk_153 0 7 (dk_at dksX2_dead_0 19 rfl rfl)
theorem dX2_dead_22 : decode cX2_dead 22 = .ok (.iconst 1, 1) := dk_4 (dk_at dksX2_dead_0 22 rfl rfl)
theorem dX2_dead_23 : decode cX2_dead 23 = .ok (.goto 4, 3) := dk_167 0 4 (dk_at dksX2_dead_1 0 rfl rfl)
theorem dX2_dead_26 : decode cX2_dead 26 = .ok (.iconst 0, 1) := dk_3 (dk_at dksX2_dead_1 3 rfl rfl)
theorem dX2_dead_27 : decode cX2_dead 27 = .ok (.iadd, 1) := dk_96 (dk_at dksX2_dead_1 4 rfl rfl)
theorem dX2_dead_28 : decode cX2_dead 28 = .ok (.istore_n 1, 1) := dk_60 (dk_at dksX2_dead_1 5 rfl rfl)
theorem dX2_dead_29 : decode cX2_dead 29 = .ok (.iinc 2 1, 3) := dk_132 2 1 (dk_at dksX2_dead_1 6 rfl rfl)
theorem dX2_dead_32 : decode cX2_dead 32 = .ok (.goto (-28), 3) := dk_167 255 228 (dk_at dksX2_dead_1 9 rfl rfl)
theorem dX2_dead_35 : decode cX2_dead 35 = .ok (.iload_n 1, 1) := dk_27 (dk_at dksX2_dead_1 12 rfl rfl)
theorem dX2_dead_36 : decode cX2_dead 36 = .ok (.ireturn, 1) := dk_172 (dk_at dksX2_dead_1 13 rfl rfl)
abbrev cX2_goesLoose : ByteArray := prog_7_method_17_code
def yX2_goesLoose : MethodName := ⟨RX2, "goesLoose", "()V"⟩
def dkwX2_goesLoose_1 : List UInt8 := [182, 0, 143, 177]
abbrev dktX2_goesLoose_1 : List UInt8 := dkwX2_goesLoose_1 ++ []
def dkwX2_goesLoose_0 : List UInt8 := [42, 182, 0, 140, 16, 8, 112, 60, 42, 180, 0, 9, 27, 42, 182, 0, 140, 16, 20, 112, 79, 42]
abbrev dktX2_goesLoose_0 : List UInt8 := dkwX2_goesLoose_0 ++ dktX2_goesLoose_1
theorem dksX2_goesLoose_0 : cX2_goesLoose.data.toList.drop 0 = dktX2_goesLoose_0 := by decide +kernel
theorem dksX2_goesLoose_1 : cX2_goesLoose.data.toList.drop 22 = dktX2_goesLoose_1 := dk_seg dksX2_goesLoose_0 22 rfl rfl
theorem dX2_goesLoose_0 : decode cX2_goesLoose 0 = .ok (.aload_n 0, 1) := dk_42 (dk_at dksX2_goesLoose_0 0 rfl rfl)
theorem dX2_goesLoose_1 : decode cX2_goesLoose 1 = .ok (.invokevirtual 140, 3) := dk_182 0 140 (dk_at dksX2_goesLoose_0 1 rfl rfl)
theorem dX2_goesLoose_4 : decode cX2_goesLoose 4 = .ok (.bipush 8, 2) := dk_16 8 (dk_at dksX2_goesLoose_0 4 rfl rfl)
theorem dX2_goesLoose_6 : decode cX2_goesLoose 6 = .ok (.irem, 1) := dk_112 (dk_at dksX2_goesLoose_0 6 rfl rfl)
theorem dX2_goesLoose_7 : decode cX2_goesLoose 7 = .ok (.istore_n 1, 1) := dk_60 (dk_at dksX2_goesLoose_0 7 rfl rfl)
theorem dX2_goesLoose_8 : decode cX2_goesLoose 8 = .ok (.aload_n 0, 1) := dk_42 (dk_at dksX2_goesLoose_0 8 rfl rfl)
theorem dX2_goesLoose_9 : decode cX2_goesLoose 9 = .ok (.getfield 9, 3) := dk_180 0 9 (dk_at dksX2_goesLoose_0 9 rfl rfl)
theorem dX2_goesLoose_12 : decode cX2_goesLoose 12 = .ok (.iload_n 1, 1) := dk_27 (dk_at dksX2_goesLoose_0 12 rfl rfl)
theorem dX2_goesLoose_13 : decode cX2_goesLoose 13 = .ok (.aload_n 0, 1) := dk_42 (dk_at dksX2_goesLoose_0 13 rfl rfl)
theorem dX2_goesLoose_14 : decode cX2_goesLoose 14 = .ok (.invokevirtual 140, 3) := dk_182 0 140 (dk_at dksX2_goesLoose_0 14 rfl rfl)
theorem dX2_goesLoose_17 : decode cX2_goesLoose 17 = .ok (.bipush 20, 2) := dk_16 20 (dk_at dksX2_goesLoose_0 17 rfl rfl)
theorem dX2_goesLoose_19 : decode cX2_goesLoose 19 = .ok (.irem, 1) := dk_112 (dk_at dksX2_goesLoose_0 19 rfl rfl)
theorem dX2_goesLoose_20 : decode cX2_goesLoose 20 = .ok (.iastore, 1) := dk_79 (dk_at dksX2_goesLoose_0 20 rfl rfl)
theorem dX2_goesLoose_21 : decode cX2_goesLoose 21 = .ok (.aload_n 0, 1) := dk_42 (dk_at dksX2_goesLoose_0 21 rfl rfl)
theorem dX2_goesLoose_22 : decode cX2_goesLoose 22 = .ok (.invokevirtual 143, 3) := dk_182 0 143 (dk_at dksX2_goesLoose_1 0 rfl rfl)
theorem dX2_goesLoose_25 : decode cX2_goesLoose 25 = .ok (.return_, 1) := dk_177 (dk_at dksX2_goesLoose_1 3 rfl rfl)
abbrev cX2_draw : ByteArray := prog_7_method_16_code
def yX2_draw : MethodName := ⟨RX2, "draw", "()I"⟩
def dkwX2_draw_0 : List UInt8 := [42, 42, 180, 0, 50, 18, 139, 104, 17, 48, 57, 96, 181, 0, 50, 42, 180, 0, 50, 16, 8, 124, 172]
abbrev dktX2_draw_0 : List UInt8 := dkwX2_draw_0 ++ []
theorem dksX2_draw_0 : cX2_draw.data.toList.drop 0 = dktX2_draw_0 := by decide +kernel
theorem dX2_draw_0 : decode cX2_draw 0 = .ok (.aload_n 0, 1) := dk_42 (dk_at dksX2_draw_0 0 rfl rfl)
theorem dX2_draw_1 : decode cX2_draw 1 = .ok (.aload_n 0, 1) := dk_42 (dk_at dksX2_draw_0 1 rfl rfl)
theorem dX2_draw_2 : decode cX2_draw 2 = .ok (.getfield 50, 3) := dk_180 0 50 (dk_at dksX2_draw_0 2 rfl rfl)
theorem dX2_draw_5 : decode cX2_draw 5 = .ok (.ldc 139, 2) := dk_18 139 (dk_at dksX2_draw_0 5 rfl rfl)
theorem dX2_draw_7 : decode cX2_draw 7 = .ok (.imul, 1) := dk_104 (dk_at dksX2_draw_0 7 rfl rfl)
theorem dX2_draw_8 : decode cX2_draw 8 = .ok (.sipush 12345, 3) := dk_17 48 57 (dk_at dksX2_draw_0 8 rfl rfl)
theorem dX2_draw_11 : decode cX2_draw 11 = .ok (.iadd, 1) := dk_96 (dk_at dksX2_draw_0 11 rfl rfl)
theorem dX2_draw_12 : decode cX2_draw 12 = .ok (.putfield 50, 3) := dk_181 0 50 (dk_at dksX2_draw_0 12 rfl rfl)
theorem dX2_draw_15 : decode cX2_draw 15 = .ok (.aload_n 0, 1) := dk_42 (dk_at dksX2_draw_0 15 rfl rfl)
theorem dX2_draw_16 : decode cX2_draw 16 = .ok (.getfield 50, 3) := dk_180 0 50 (dk_at dksX2_draw_0 16 rfl rfl)
theorem dX2_draw_19 : decode cX2_draw 19 = .ok (.bipush 8, 2) := dk_16 8 (dk_at dksX2_draw_0 19 rfl rfl)
theorem dX2_draw_21 : decode cX2_draw 21 = .ok (.iushr, 1) := dk_124 (dk_at dksX2_draw_0 21 rfl rfl)
theorem dX2_draw_22 : decode cX2_draw 22 = .ok (.ireturn, 1) := dk_172 (dk_at dksX2_draw_0 22 rfl rfl)
abbrev cX2_become : ByteArray := prog_7_method_2_code
def yX2_become : MethodName := ⟨RX2, "become", "(LWellNames$Desert;)LWellNames$Desert;"⟩
def dkwX2_become_9 : List UInt8 := [184, 0, 67, 42, 43, 180, 0, 85, 181, 0, 85, 42, 176]
abbrev dktX2_become_9 : List UInt8 := dkwX2_become_9 ++ []
def dkwX2_become_8 : List UInt8 := [184, 0, 67, 42, 43, 180, 0, 82, 181, 0, 82, 43, 180, 0, 57, 3, 42, 180, 0, 57, 3, 16, 20]
abbrev dktX2_become_8 : List UInt8 := dkwX2_become_8 ++ dktX2_become_9
def dkwX2_become_7 : List UInt8 := [184, 0, 67, 42, 43, 180, 0, 50, 181, 0, 50, 43, 180, 0, 53, 3, 42, 180, 0, 53, 3, 16, 50]
abbrev dktX2_become_7 : List UInt8 := dkwX2_become_7 ++ dktX2_become_8
def dkwX2_become_6 : List UInt8 := [3, 42, 180, 0, 40, 3, 16, 6, 184, 0, 67, 43, 180, 0, 46, 3, 42, 180, 0, 46, 3, 5]
abbrev dktX2_become_6 : List UInt8 := dkwX2_become_6 ++ dktX2_become_7
def dkwX2_become_5 : List UInt8 := [16, 6, 184, 0, 67, 43, 180, 0, 37, 3, 42, 180, 0, 37, 3, 16, 6, 184, 0, 67, 43, 180, 0, 40]
abbrev dktX2_become_5 : List UInt8 := dkwX2_become_5 ++ dktX2_become_6
def dkwX2_become_4 : List UInt8 := [180, 0, 31, 3, 42, 180, 0, 31, 3, 16, 6, 184, 0, 67, 43, 180, 0, 34, 3, 42, 180, 0, 34, 3]
abbrev dktX2_become_4 : List UInt8 := dkwX2_become_4 ++ dktX2_become_5
def dkwX2_become_3 : List UInt8 := [180, 0, 79, 181, 0, 79, 43, 180, 0, 27, 3, 42, 180, 0, 27, 3, 16, 6, 184, 0, 67, 43]
abbrev dktX2_become_3 : List UInt8 := dkwX2_become_3 ++ dktX2_become_4
def dkwX2_become_2 : List UInt8 := [180, 0, 21, 181, 0, 21, 42, 43, 180, 0, 73, 181, 0, 73, 42, 43, 180, 0, 76, 181, 0, 76, 42, 43]
abbrev dktX2_become_2 : List UInt8 := dkwX2_become_2 ++ dktX2_become_3
def dkwX2_become_1 : List UInt8 := [3, 16, 64, 184, 0, 67, 43, 180, 0, 18, 3, 42, 180, 0, 18, 3, 16, 64, 184, 0, 67, 42, 43]
abbrev dktX2_become_1 : List UInt8 := dkwX2_become_1 ++ dktX2_become_2
def dkwX2_become_0 : List UInt8 := [43, 180, 0, 9, 3, 42, 180, 0, 9, 3, 16, 8, 184, 0, 67, 43, 180, 0, 15, 3, 42, 180, 0, 15]
abbrev dktX2_become_0 : List UInt8 := dkwX2_become_0 ++ dktX2_become_1
theorem dksX2_become_0 : cX2_become.data.toList.drop 0 = dktX2_become_0 := by decide +kernel
theorem dksX2_become_1 : cX2_become.data.toList.drop 24 = dktX2_become_1 := dk_seg dksX2_become_0 24 rfl rfl
theorem dksX2_become_2 : cX2_become.data.toList.drop 47 = dktX2_become_2 := dk_seg dksX2_become_1 23 rfl rfl
theorem dksX2_become_3 : cX2_become.data.toList.drop 71 = dktX2_become_3 := dk_seg dksX2_become_2 24 rfl rfl
theorem dksX2_become_4 : cX2_become.data.toList.drop 93 = dktX2_become_4 := dk_seg dksX2_become_3 22 rfl rfl
theorem dksX2_become_5 : cX2_become.data.toList.drop 117 = dktX2_become_5 := dk_seg dksX2_become_4 24 rfl rfl
theorem dksX2_become_6 : cX2_become.data.toList.drop 141 = dktX2_become_6 := dk_seg dksX2_become_5 24 rfl rfl
theorem dksX2_become_7 : cX2_become.data.toList.drop 163 = dktX2_become_7 := dk_seg dksX2_become_6 22 rfl rfl
theorem dksX2_become_8 : cX2_become.data.toList.drop 186 = dktX2_become_8 := dk_seg dksX2_become_7 23 rfl rfl
theorem dksX2_become_9 : cX2_become.data.toList.drop 209 = dktX2_become_9 := dk_seg dksX2_become_8 23 rfl rfl
theorem dX2_become_0 : decode cX2_become 0 = .ok (.aload_n 1, 1) := dk_43 (dk_at dksX2_become_0 0 rfl rfl)
theorem dX2_become_1 : decode cX2_become 1 = .ok (.getfield 9, 3) := dk_180 0 9 (dk_at dksX2_become_0 1 rfl rfl)
theorem dX2_become_4 : decode cX2_become 4 = .ok (.iconst 0, 1) := dk_3 (dk_at dksX2_become_0 4 rfl rfl)
theorem dX2_become_5 : decode cX2_become 5 = .ok (.aload_n 0, 1) := dk_42 (dk_at dksX2_become_0 5 rfl rfl)
theorem dX2_become_6 : decode cX2_become 6 = .ok (.getfield 9, 3) := dk_180 0 9 (dk_at dksX2_become_0 6 rfl rfl)
theorem dX2_become_9 : decode cX2_become 9 = .ok (.iconst 0, 1) := dk_3 (dk_at dksX2_become_0 9 rfl rfl)
theorem dX2_become_10 : decode cX2_become 10 = .ok (.bipush 8, 2) := dk_16 8 (dk_at dksX2_become_0 10 rfl rfl)
theorem dX2_become_12 : decode cX2_become 12 = .ok (.invokestatic 67, 3) := dk_184 0 67 (dk_at dksX2_become_0 12 rfl rfl)
theorem dX2_become_15 : decode cX2_become 15 = .ok (.aload_n 1, 1) := dk_43 (dk_at dksX2_become_0 15 rfl rfl)
theorem dX2_become_16 : decode cX2_become 16 = .ok (.getfield 15, 3) := dk_180 0 15 (dk_at dksX2_become_0 16 rfl rfl)
theorem dX2_become_19 : decode cX2_become 19 = .ok (.iconst 0, 1) := dk_3 (dk_at dksX2_become_0 19 rfl rfl)
theorem dX2_become_20 : decode cX2_become 20 = .ok (.aload_n 0, 1) := dk_42 (dk_at dksX2_become_0 20 rfl rfl)
theorem dX2_become_21 : decode cX2_become 21 = .ok (.getfield 15, 3) := dk_180 0 15 (dk_at dksX2_become_0 21 rfl rfl)
theorem dX2_become_24 : decode cX2_become 24 = .ok (.iconst 0, 1) := dk_3 (dk_at dksX2_become_1 0 rfl rfl)
theorem dX2_become_25 : decode cX2_become 25 = .ok (.bipush 64, 2) := dk_16 64 (dk_at dksX2_become_1 1 rfl rfl)
theorem dX2_become_27 : decode cX2_become 27 = .ok (.invokestatic 67, 3) := dk_184 0 67 (dk_at dksX2_become_1 3 rfl rfl)
theorem dX2_become_30 : decode cX2_become 30 = .ok (.aload_n 1, 1) := dk_43 (dk_at dksX2_become_1 6 rfl rfl)
theorem dX2_become_31 : decode cX2_become 31 = .ok (.getfield 18, 3) := dk_180 0 18 (dk_at dksX2_become_1 7 rfl rfl)
theorem dX2_become_34 : decode cX2_become 34 = .ok (.iconst 0, 1) := dk_3 (dk_at dksX2_become_1 10 rfl rfl)
theorem dX2_become_35 : decode cX2_become 35 = .ok (.aload_n 0, 1) := dk_42 (dk_at dksX2_become_1 11 rfl rfl)
theorem dX2_become_36 : decode cX2_become 36 = .ok (.getfield 18, 3) := dk_180 0 18 (dk_at dksX2_become_1 12 rfl rfl)
theorem dX2_become_39 : decode cX2_become 39 = .ok (.iconst 0, 1) := dk_3 (dk_at dksX2_become_1 15 rfl rfl)
theorem dX2_become_40 : decode cX2_become 40 = .ok (.bipush 64, 2) := dk_16 64 (dk_at dksX2_become_1 16 rfl rfl)
theorem dX2_become_42 : decode cX2_become 42 = .ok (.invokestatic 67, 3) := dk_184 0 67 (dk_at dksX2_become_1 18 rfl rfl)
theorem dX2_become_45 : decode cX2_become 45 = .ok (.aload_n 0, 1) := dk_42 (dk_at dksX2_become_1 21 rfl rfl)
theorem dX2_become_46 : decode cX2_become 46 = .ok (.aload_n 1, 1) := dk_43 (dk_at dksX2_become_1 22 rfl rfl)
theorem dX2_become_47 : decode cX2_become 47 = .ok (.getfield 21, 3) := dk_180 0 21 (dk_at dksX2_become_2 0 rfl rfl)
theorem dX2_become_50 : decode cX2_become 50 = .ok (.putfield 21, 3) := dk_181 0 21 (dk_at dksX2_become_2 3 rfl rfl)
theorem dX2_become_53 : decode cX2_become 53 = .ok (.aload_n 0, 1) := dk_42 (dk_at dksX2_become_2 6 rfl rfl)
theorem dX2_become_54 : decode cX2_become 54 = .ok (.aload_n 1, 1) := dk_43 (dk_at dksX2_become_2 7 rfl rfl)
theorem dX2_become_55 : decode cX2_become 55 = .ok (.getfield 73, 3) := dk_180 0 73 (dk_at dksX2_become_2 8 rfl rfl)
theorem dX2_become_58 : decode cX2_become 58 = .ok (.putfield 73, 3) := dk_181 0 73 (dk_at dksX2_become_2 11 rfl rfl)
theorem dX2_become_61 : decode cX2_become 61 = .ok (.aload_n 0, 1) := dk_42 (dk_at dksX2_become_2 14 rfl rfl)
theorem dX2_become_62 : decode cX2_become 62 = .ok (.aload_n 1, 1) := dk_43 (dk_at dksX2_become_2 15 rfl rfl)
theorem dX2_become_63 : decode cX2_become 63 = .ok (.getfield 76, 3) := dk_180 0 76 (dk_at dksX2_become_2 16 rfl rfl)
theorem dX2_become_66 : decode cX2_become 66 = .ok (.putfield 76, 3) := dk_181 0 76 (dk_at dksX2_become_2 19 rfl rfl)
theorem dX2_become_69 : decode cX2_become 69 = .ok (.aload_n 0, 1) := dk_42 (dk_at dksX2_become_2 22 rfl rfl)
theorem dX2_become_70 : decode cX2_become 70 = .ok (.aload_n 1, 1) := dk_43 (dk_at dksX2_become_2 23 rfl rfl)
theorem dX2_become_71 : decode cX2_become 71 = .ok (.getfield 79, 3) := dk_180 0 79 (dk_at dksX2_become_3 0 rfl rfl)
theorem dX2_become_74 : decode cX2_become 74 = .ok (.putfield 79, 3) := dk_181 0 79 (dk_at dksX2_become_3 3 rfl rfl)
theorem dX2_become_77 : decode cX2_become 77 = .ok (.aload_n 1, 1) := dk_43 (dk_at dksX2_become_3 6 rfl rfl)
theorem dX2_become_78 : decode cX2_become 78 = .ok (.getfield 27, 3) := dk_180 0 27 (dk_at dksX2_become_3 7 rfl rfl)
theorem dX2_become_81 : decode cX2_become 81 = .ok (.iconst 0, 1) := dk_3 (dk_at dksX2_become_3 10 rfl rfl)
theorem dX2_become_82 : decode cX2_become 82 = .ok (.aload_n 0, 1) := dk_42 (dk_at dksX2_become_3 11 rfl rfl)
theorem dX2_become_83 : decode cX2_become 83 = .ok (.getfield 27, 3) := dk_180 0 27 (dk_at dksX2_become_3 12 rfl rfl)
theorem dX2_become_86 : decode cX2_become 86 = .ok (.iconst 0, 1) := dk_3 (dk_at dksX2_become_3 15 rfl rfl)
theorem dX2_become_87 : decode cX2_become 87 = .ok (.bipush 6, 2) := dk_16 6 (dk_at dksX2_become_3 16 rfl rfl)
theorem dX2_become_89 : decode cX2_become 89 = .ok (.invokestatic 67, 3) := dk_184 0 67 (dk_at dksX2_become_3 18 rfl rfl)
theorem dX2_become_92 : decode cX2_become 92 = .ok (.aload_n 1, 1) := dk_43 (dk_at dksX2_become_3 21 rfl rfl)
theorem dX2_become_93 : decode cX2_become 93 = .ok (.getfield 31, 3) := dk_180 0 31 (dk_at dksX2_become_4 0 rfl rfl)
theorem dX2_become_96 : decode cX2_become 96 = .ok (.iconst 0, 1) := dk_3 (dk_at dksX2_become_4 3 rfl rfl)
theorem dX2_become_97 : decode cX2_become 97 = .ok (.aload_n 0, 1) := dk_42 (dk_at dksX2_become_4 4 rfl rfl)
theorem dX2_become_98 : decode cX2_become 98 = .ok (.getfield 31, 3) := dk_180 0 31 (dk_at dksX2_become_4 5 rfl rfl)
theorem dX2_become_101 : decode cX2_become 101 = .ok (.iconst 0, 1) := dk_3 (dk_at dksX2_become_4 8 rfl rfl)
theorem dX2_become_102 : decode cX2_become 102 = .ok (.bipush 6, 2) := dk_16 6 (dk_at dksX2_become_4 9 rfl rfl)
theorem dX2_become_104 : decode cX2_become 104 = .ok (.invokestatic 67, 3) := dk_184 0 67 (dk_at dksX2_become_4 11 rfl rfl)
theorem dX2_become_107 : decode cX2_become 107 = .ok (.aload_n 1, 1) := dk_43 (dk_at dksX2_become_4 14 rfl rfl)
theorem dX2_become_108 : decode cX2_become 108 = .ok (.getfield 34, 3) := dk_180 0 34 (dk_at dksX2_become_4 15 rfl rfl)
theorem dX2_become_111 : decode cX2_become 111 = .ok (.iconst 0, 1) := dk_3 (dk_at dksX2_become_4 18 rfl rfl)
theorem dX2_become_112 : decode cX2_become 112 = .ok (.aload_n 0, 1) := dk_42 (dk_at dksX2_become_4 19 rfl rfl)
theorem dX2_become_113 : decode cX2_become 113 = .ok (.getfield 34, 3) := dk_180 0 34 (dk_at dksX2_become_4 20 rfl rfl)
theorem dX2_become_116 : decode cX2_become 116 = .ok (.iconst 0, 1) := dk_3 (dk_at dksX2_become_4 23 rfl rfl)
theorem dX2_become_117 : decode cX2_become 117 = .ok (.bipush 6, 2) := dk_16 6 (dk_at dksX2_become_5 0 rfl rfl)
theorem dX2_become_119 : decode cX2_become 119 = .ok (.invokestatic 67, 3) := dk_184 0 67 (dk_at dksX2_become_5 2 rfl rfl)
theorem dX2_become_122 : decode cX2_become 122 = .ok (.aload_n 1, 1) := dk_43 (dk_at dksX2_become_5 5 rfl rfl)
theorem dX2_become_123 : decode cX2_become 123 = .ok (.getfield 37, 3) := dk_180 0 37 (dk_at dksX2_become_5 6 rfl rfl)
theorem dX2_become_126 : decode cX2_become 126 = .ok (.iconst 0, 1) := dk_3 (dk_at dksX2_become_5 9 rfl rfl)
theorem dX2_become_127 : decode cX2_become 127 = .ok (.aload_n 0, 1) := dk_42 (dk_at dksX2_become_5 10 rfl rfl)
theorem dX2_become_128 : decode cX2_become 128 = .ok (.getfield 37, 3) := dk_180 0 37 (dk_at dksX2_become_5 11 rfl rfl)
theorem dX2_become_131 : decode cX2_become 131 = .ok (.iconst 0, 1) := dk_3 (dk_at dksX2_become_5 14 rfl rfl)
theorem dX2_become_132 : decode cX2_become 132 = .ok (.bipush 6, 2) := dk_16 6 (dk_at dksX2_become_5 15 rfl rfl)
theorem dX2_become_134 : decode cX2_become 134 = .ok (.invokestatic 67, 3) := dk_184 0 67 (dk_at dksX2_become_5 17 rfl rfl)
theorem dX2_become_137 : decode cX2_become 137 = .ok (.aload_n 1, 1) := dk_43 (dk_at dksX2_become_5 20 rfl rfl)
theorem dX2_become_138 : decode cX2_become 138 = .ok (.getfield 40, 3) := dk_180 0 40 (dk_at dksX2_become_5 21 rfl rfl)
theorem dX2_become_141 : decode cX2_become 141 = .ok (.iconst 0, 1) := dk_3 (dk_at dksX2_become_6 0 rfl rfl)
theorem dX2_become_142 : decode cX2_become 142 = .ok (.aload_n 0, 1) := dk_42 (dk_at dksX2_become_6 1 rfl rfl)
theorem dX2_become_143 : decode cX2_become 143 = .ok (.getfield 40, 3) := dk_180 0 40 (dk_at dksX2_become_6 2 rfl rfl)
theorem dX2_become_146 : decode cX2_become 146 = .ok (.iconst 0, 1) := dk_3 (dk_at dksX2_become_6 5 rfl rfl)
theorem dX2_become_147 : decode cX2_become 147 = .ok (.bipush 6, 2) := dk_16 6 (dk_at dksX2_become_6 6 rfl rfl)
theorem dX2_become_149 : decode cX2_become 149 = .ok (.invokestatic 67, 3) := dk_184 0 67 (dk_at dksX2_become_6 8 rfl rfl)
theorem dX2_become_152 : decode cX2_become 152 = .ok (.aload_n 1, 1) := dk_43 (dk_at dksX2_become_6 11 rfl rfl)
theorem dX2_become_153 : decode cX2_become 153 = .ok (.getfield 46, 3) := dk_180 0 46 (dk_at dksX2_become_6 12 rfl rfl)
theorem dX2_become_156 : decode cX2_become 156 = .ok (.iconst 0, 1) := dk_3 (dk_at dksX2_become_6 15 rfl rfl)
theorem dX2_become_157 : decode cX2_become 157 = .ok (.aload_n 0, 1) := dk_42 (dk_at dksX2_become_6 16 rfl rfl)
theorem dX2_become_158 : decode cX2_become 158 = .ok (.getfield 46, 3) := dk_180 0 46 (dk_at dksX2_become_6 17 rfl rfl)
theorem dX2_become_161 : decode cX2_become 161 = .ok (.iconst 0, 1) := dk_3 (dk_at dksX2_become_6 20 rfl rfl)
theorem dX2_become_162 : decode cX2_become 162 = .ok (.iconst 2, 1) := dk_5 (dk_at dksX2_become_6 21 rfl rfl)
theorem dX2_become_163 : decode cX2_become 163 = .ok (.invokestatic 67, 3) := dk_184 0 67 (dk_at dksX2_become_7 0 rfl rfl)
theorem dX2_become_166 : decode cX2_become 166 = .ok (.aload_n 0, 1) := dk_42 (dk_at dksX2_become_7 3 rfl rfl)
theorem dX2_become_167 : decode cX2_become 167 = .ok (.aload_n 1, 1) := dk_43 (dk_at dksX2_become_7 4 rfl rfl)
theorem dX2_become_168 : decode cX2_become 168 = .ok (.getfield 50, 3) := dk_180 0 50 (dk_at dksX2_become_7 5 rfl rfl)
theorem dX2_become_171 : decode cX2_become 171 = .ok (.putfield 50, 3) := dk_181 0 50 (dk_at dksX2_become_7 8 rfl rfl)
theorem dX2_become_174 : decode cX2_become 174 = .ok (.aload_n 1, 1) := dk_43 (dk_at dksX2_become_7 11 rfl rfl)
theorem dX2_become_175 : decode cX2_become 175 = .ok (.getfield 53, 3) := dk_180 0 53 (dk_at dksX2_become_7 12 rfl rfl)
theorem dX2_become_178 : decode cX2_become 178 = .ok (.iconst 0, 1) := dk_3 (dk_at dksX2_become_7 15 rfl rfl)
theorem dX2_become_179 : decode cX2_become 179 = .ok (.aload_n 0, 1) := dk_42 (dk_at dksX2_become_7 16 rfl rfl)
theorem dX2_become_180 : decode cX2_become 180 = .ok (.getfield 53, 3) := dk_180 0 53 (dk_at dksX2_become_7 17 rfl rfl)
theorem dX2_become_183 : decode cX2_become 183 = .ok (.iconst 0, 1) := dk_3 (dk_at dksX2_become_7 20 rfl rfl)
theorem dX2_become_184 : decode cX2_become 184 = .ok (.bipush 50, 2) := dk_16 50 (dk_at dksX2_become_7 21 rfl rfl)
theorem dX2_become_186 : decode cX2_become 186 = .ok (.invokestatic 67, 3) := dk_184 0 67 (dk_at dksX2_become_8 0 rfl rfl)
theorem dX2_become_189 : decode cX2_become 189 = .ok (.aload_n 0, 1) := dk_42 (dk_at dksX2_become_8 3 rfl rfl)
theorem dX2_become_190 : decode cX2_become 190 = .ok (.aload_n 1, 1) := dk_43 (dk_at dksX2_become_8 4 rfl rfl)
theorem dX2_become_191 : decode cX2_become 191 = .ok (.getfield 82, 3) := dk_180 0 82 (dk_at dksX2_become_8 5 rfl rfl)
theorem dX2_become_194 : decode cX2_become 194 = .ok (.putfield 82, 3) := dk_181 0 82 (dk_at dksX2_become_8 8 rfl rfl)
theorem dX2_become_197 : decode cX2_become 197 = .ok (.aload_n 1, 1) := dk_43 (dk_at dksX2_become_8 11 rfl rfl)
theorem dX2_become_198 : decode cX2_become 198 = .ok (.getfield 57, 3) := dk_180 0 57 (dk_at dksX2_become_8 12 rfl rfl)
theorem dX2_become_201 : decode cX2_become 201 = .ok (.iconst 0, 1) := dk_3 (dk_at dksX2_become_8 15 rfl rfl)
theorem dX2_become_202 : decode cX2_become 202 = .ok (.aload_n 0, 1) := dk_42 (dk_at dksX2_become_8 16 rfl rfl)
theorem dX2_become_203 : decode cX2_become 203 = .ok (.getfield 57, 3) := dk_180 0 57 (dk_at dksX2_become_8 17 rfl rfl)
theorem dX2_become_206 : decode cX2_become 206 = .ok (.iconst 0, 1) := dk_3 (dk_at dksX2_become_8 20 rfl rfl)
theorem dX2_become_207 : decode cX2_become 207 = .ok (.bipush 20, 2) := dk_16 20 (dk_at dksX2_become_8 21 rfl rfl)
theorem dX2_become_209 : decode cX2_become 209 = .ok (.invokestatic 67, 3) := dk_184 0 67 (dk_at dksX2_become_9 0 rfl rfl)
theorem dX2_become_212 : decode cX2_become 212 = .ok (.aload_n 0, 1) := dk_42 (dk_at dksX2_become_9 3 rfl rfl)
theorem dX2_become_213 : decode cX2_become 213 = .ok (.aload_n 1, 1) := dk_43 (dk_at dksX2_become_9 4 rfl rfl)
theorem dX2_become_214 : decode cX2_become 214 = .ok (.getfield 85, 3) := dk_180 0 85 (dk_at dksX2_become_9 5 rfl rfl)
theorem dX2_become_217 : decode cX2_become 217 = .ok (.putfield 85, 3) := dk_181 0 85 (dk_at dksX2_become_9 8 rfl rfl)
theorem dX2_become_220 : decode cX2_become 220 = .ok (.aload_n 0, 1) := dk_42 (dk_at dksX2_become_9 11 rfl rfl)
theorem dX2_become_221 : decode cX2_become 221 = .ok (.areturn, 1) := dk_176 (dk_at dksX2_become_9 12 rfl rfl)
theorem q85 : (Jvm.Cond.initialized "WellNames$Desert") ∈ lw_all := lw_g (lw_at lw_m1 6 rfl) rfl
theorem q194 : (Jvm.Cond.instantiable "WellNames$Desert" (19 : Nat)) ∈ lw_all := lw_g (lw_at lw_m1 115 rfl) rfl
theorem q196 : (Jvm.Cond.instanceMethod ({ cls := "WellNames$Desert", name := "<init>", desc := "()V" } : Jvm.MethodName)) ∈ lw_all := lw_g (lw_at lw_m1 117 rfl) rfl
theorem q197 : (Jvm.Cond.code ({ cls := "WellNames$Desert", name := "<init>", desc := "()V" } : Jvm.MethodName) prog_7_method_1_code (2 : Nat) (Option.none : Option Jvm.ClassFile.FieldType)) ∈ lw_all := lw_g (lw_at lw_m1 118 rfl) rfl
theorem q198 : (Jvm.Cond.methodLink "WellNames$Desert" (3 : Nat) ({ cls := "java/lang/Object", name := "<init>", desc := "()V" } : Jvm.MethodName)) ∈ lw_all := lw_g (lw_at lw_m1 119 rfl) rfl
theorem q199 : (Jvm.Cond.classLink "WellNames$Desert" (25 : Nat) "WellNames$Drinker") ∈ lw_all := lw_g (lw_at lw_m1 120 rfl) rfl
theorem q201 : (Jvm.Cond.classLink "WellNames$Desert" (44 : Nat) "WellNames$Term") ∈ lw_all := lw_g (lw_at lw_m1 122 rfl) rfl
theorem q203 : (Jvm.Cond.classLink "WellNames$Desert" (60 : Nat) "WellNames$Facts") ∈ lw_all := lw_g (lw_at lw_m1 124 rfl) rfl
theorem q205 : (Jvm.Cond.methodLinkNest "WellNames$Desert" (62 : Nat) ({ cls := "WellNames$Facts", name := "<init>", desc := "()V" } : Jvm.MethodName) "WellNames") ∈ lw_tbl := lw_at lw_m1 126 rfl
theorem q217 : (Jvm.Cond.fieldLink "WellNames$Desert" (9 : Nat) "WellNames$Desert" "water" "[I") ∈ lw_all := lw_g (lw_at lw_m1 138 rfl) rfl
theorem q219 : (Jvm.Cond.fieldLink "WellNames$Desert" (15 : Nat) "WellNames$Desert" "road" "[I") ∈ lw_all := lw_g (lw_at lw_m1 140 rfl) rfl
theorem q221 : (Jvm.Cond.fieldLink "WellNames$Desert" (18 : Nat) "WellNames$Desert" "owed" "[I") ∈ lw_all := lw_g (lw_at lw_m1 142 rfl) rfl
theorem q223 : (Jvm.Cond.fieldLink "WellNames$Desert" (21 : Nat) "WellNames$Desert" "rain" "I") ∈ lw_all := lw_g (lw_at lw_m1 144 rfl) rfl
theorem q225 : (Jvm.Cond.fieldLink "WellNames$Desert" (73 : Nat) "WellNames$Desert" "hour" "I") ∈ lw_all := lw_g (lw_at lw_m1 146 rfl) rfl
theorem q227 : (Jvm.Cond.fieldLink "WellNames$Desert" (76 : Nat) "WellNames$Desert" "day" "I") ∈ lw_all := lw_g (lw_at lw_m1 148 rfl) rfl
theorem q230 : (Jvm.Cond.fieldLink "WellNames$Desert" (79 : Nat) "WellNames$Desert" "people" "I") ∈ lw_all := lw_g (lw_at lw_m1 151 rfl) rfl
theorem q232 : (Jvm.Cond.fieldLink "WellNames$Desert" (27 : Nat) "WellNames$Desert" "person" "[LWellNames$Drinker;") ∈ lw_all := lw_g (lw_at lw_m1 153 rfl) rfl
theorem q234 : (Jvm.Cond.fieldLink "WellNames$Desert" (31 : Nat) "WellNames$Desert" "at" "[I") ∈ lw_all := lw_g (lw_at lw_m1 155 rfl) rfl
theorem q236 : (Jvm.Cond.fieldLink "WellNames$Desert" (34 : Nat) "WellNames$Desert" "name" "[I") ∈ lw_all := lw_g (lw_at lw_m1 157 rfl) rfl
theorem q238 : (Jvm.Cond.fieldLink "WellNames$Desert" (37 : Nat) "WellNames$Desert" "thirst" "[I") ∈ lw_all := lw_g (lw_at lw_m1 159 rfl) rfl
theorem q240 : (Jvm.Cond.fieldLink "WellNames$Desert" (40 : Nat) "WellNames$Desert" "isDead" "[Z") ∈ lw_all := lw_g (lw_at lw_m1 161 rfl) rfl
theorem q242 : (Jvm.Cond.fieldLink "WellNames$Desert" (46 : Nat) "WellNames$Desert" "text" "[LWellNames$Term;") ∈ lw_all := lw_g (lw_at lw_m1 163 rfl) rfl
theorem q244 : (Jvm.Cond.fieldLink "WellNames$Desert" (50 : Nat) "WellNames$Desert" "z" "I") ∈ lw_all := lw_g (lw_at lw_m1 165 rfl) rfl
theorem q246 : (Jvm.Cond.fieldLink "WellNames$Desert" (53 : Nat) "WellNames$Desert" "tape" "[B") ∈ lw_all := lw_g (lw_at lw_m1 167 rfl) rfl
theorem q248 : (Jvm.Cond.fieldLink "WellNames$Desert" (82 : Nat) "WellNames$Desert" "taped" "I") ∈ lw_all := lw_g (lw_at lw_m1 169 rfl) rfl
theorem q250 : (Jvm.Cond.fieldLink "WellNames$Desert" (57 : Nat) "WellNames$Desert" "waiting" "[I") ∈ lw_all := lw_g (lw_at lw_m1 171 rfl) rfl
theorem q252 : (Jvm.Cond.fieldLink "WellNames$Desert" (85 : Nat) "WellNames$Desert" "waits" "I") ∈ lw_all := lw_g (lw_at lw_m1 173 rfl) rfl
theorem q254 : (Jvm.Cond.fieldLink "WellNames$Desert" (63 : Nat) "WellNames$Desert" "facts" "LWellNames$Facts;") ∈ lw_all := lw_g (lw_at lw_m1 175 rfl) rfl
theorem q255 : (Jvm.Cond.laysFinal "WellNames$Desert" "WellNames$Desert" "water" "[I") ∈ lw_all := lw_g (lw_at lw_m1 176 rfl) rfl
theorem q256 : (Jvm.Cond.soleField "WellNames$Desert" "water") ∈ lw_all := lw_g (lw_at lw_m1 177 rfl) rfl
theorem q257 : (Jvm.Cond.laysFinal "WellNames$Desert" "WellNames$Desert" "road" "[I") ∈ lw_all := lw_g (lw_at lw_m1 178 rfl) rfl
theorem q258 : (Jvm.Cond.soleField "WellNames$Desert" "road") ∈ lw_all := lw_g (lw_at lw_m1 179 rfl) rfl
theorem q259 : (Jvm.Cond.laysFinal "WellNames$Desert" "WellNames$Desert" "owed" "[I") ∈ lw_all := lw_g (lw_at lw_m1 180 rfl) rfl
theorem q260 : (Jvm.Cond.soleField "WellNames$Desert" "owed") ∈ lw_all := lw_g (lw_at lw_m1 181 rfl) rfl
theorem q261 : (Jvm.Cond.lays "WellNames$Desert" "WellNames$Desert" "rain" "I") ∈ lw_all := lw_g (lw_at lw_m1 182 rfl) rfl
theorem q262 : (Jvm.Cond.soleField "WellNames$Desert" "rain") ∈ lw_all := lw_g (lw_at lw_m1 183 rfl) rfl
theorem q263 : (Jvm.Cond.lays "WellNames$Desert" "WellNames$Desert" "hour" "I") ∈ lw_all := lw_g (lw_at lw_m1 184 rfl) rfl
theorem q264 : (Jvm.Cond.soleField "WellNames$Desert" "hour") ∈ lw_all := lw_g (lw_at lw_m1 185 rfl) rfl
theorem q265 : (Jvm.Cond.lays "WellNames$Desert" "WellNames$Desert" "day" "I") ∈ lw_all := lw_g (lw_at lw_m1 186 rfl) rfl
theorem q266 : (Jvm.Cond.soleField "WellNames$Desert" "day") ∈ lw_all := lw_g (lw_at lw_m1 187 rfl) rfl
theorem q267 : (Jvm.Cond.lays "WellNames$Desert" "WellNames$Desert" "people" "I") ∈ lw_all := lw_g (lw_at lw_m1 188 rfl) rfl
theorem q268 : (Jvm.Cond.soleField "WellNames$Desert" "people") ∈ lw_all := lw_g (lw_at lw_m1 189 rfl) rfl
theorem q269 : (Jvm.Cond.laysFinal "WellNames$Desert" "WellNames$Desert" "person" "[LWellNames$Drinker;") ∈ lw_all := lw_g (lw_at lw_m1 190 rfl) rfl
theorem q270 : (Jvm.Cond.soleField "WellNames$Desert" "person") ∈ lw_all := lw_g (lw_at lw_m1 191 rfl) rfl
theorem q271 : (Jvm.Cond.laysFinal "WellNames$Desert" "WellNames$Desert" "at" "[I") ∈ lw_all := lw_g (lw_at lw_m1 192 rfl) rfl
theorem q272 : (Jvm.Cond.soleField "WellNames$Desert" "at") ∈ lw_all := lw_g (lw_at lw_m1 193 rfl) rfl
theorem q273 : (Jvm.Cond.laysFinal "WellNames$Desert" "WellNames$Desert" "name" "[I") ∈ lw_all := lw_g (lw_at lw_m1 194 rfl) rfl
theorem q274 : (Jvm.Cond.soleField "WellNames$Desert" "name") ∈ lw_all := lw_g (lw_at lw_m1 195 rfl) rfl
theorem q275 : (Jvm.Cond.laysFinal "WellNames$Desert" "WellNames$Desert" "thirst" "[I") ∈ lw_all := lw_g (lw_at lw_m1 196 rfl) rfl
theorem q276 : (Jvm.Cond.soleField "WellNames$Desert" "thirst") ∈ lw_all := lw_g (lw_at lw_m1 197 rfl) rfl
theorem q277 : (Jvm.Cond.laysFinal "WellNames$Desert" "WellNames$Desert" "isDead" "[Z") ∈ lw_all := lw_g (lw_at lw_m1 198 rfl) rfl
theorem q278 : (Jvm.Cond.soleField "WellNames$Desert" "isDead") ∈ lw_all := lw_g (lw_at lw_m1 199 rfl) rfl
theorem q279 : (Jvm.Cond.laysFinal "WellNames$Desert" "WellNames$Desert" "text" "[LWellNames$Term;") ∈ lw_all := lw_g (lw_at lw_m1 200 rfl) rfl
theorem q280 : (Jvm.Cond.soleField "WellNames$Desert" "text") ∈ lw_all := lw_g (lw_at lw_m1 201 rfl) rfl
theorem q281 : (Jvm.Cond.lays "WellNames$Desert" "WellNames$Desert" "z" "I") ∈ lw_all := lw_g (lw_at lw_m1 202 rfl) rfl
theorem q282 : (Jvm.Cond.soleField "WellNames$Desert" "z") ∈ lw_all := lw_g (lw_at lw_m1 203 rfl) rfl
theorem q283 : (Jvm.Cond.laysFinal "WellNames$Desert" "WellNames$Desert" "tape" "[B") ∈ lw_all := lw_g (lw_at lw_m1 204 rfl) rfl
theorem q284 : (Jvm.Cond.soleField "WellNames$Desert" "tape") ∈ lw_all := lw_g (lw_at lw_m1 205 rfl) rfl
theorem q285 : (Jvm.Cond.lays "WellNames$Desert" "WellNames$Desert" "taped" "I") ∈ lw_all := lw_g (lw_at lw_m1 206 rfl) rfl
theorem q286 : (Jvm.Cond.soleField "WellNames$Desert" "taped") ∈ lw_all := lw_g (lw_at lw_m1 207 rfl) rfl
theorem q287 : (Jvm.Cond.laysFinal "WellNames$Desert" "WellNames$Desert" "waiting" "[I") ∈ lw_all := lw_g (lw_at lw_m1 208 rfl) rfl
theorem q288 : (Jvm.Cond.soleField "WellNames$Desert" "waiting") ∈ lw_all := lw_g (lw_at lw_m1 209 rfl) rfl
theorem q289 : (Jvm.Cond.lays "WellNames$Desert" "WellNames$Desert" "waits" "I") ∈ lw_all := lw_g (lw_at lw_m1 210 rfl) rfl
theorem q290 : (Jvm.Cond.soleField "WellNames$Desert" "waits") ∈ lw_all := lw_g (lw_at lw_m1 211 rfl) rfl
theorem q291 : (Jvm.Cond.laysFinal "WellNames$Desert" "WellNames$Desert" "facts" "LWellNames$Facts;") ∈ lw_all := lw_g (lw_at lw_m1 212 rfl) rfl
theorem q292 : (Jvm.Cond.soleField "WellNames$Desert" "facts") ∈ lw_all := lw_g (lw_at lw_m1 213 rfl) rfl
theorem q293 : (Jvm.Cond.superclass "WellNames$Desert" "java/lang/Object") ∈ lw_all := lw_g (lw_at lw_m1 214 rfl) rfl
theorem q388 : (Jvm.Cond.instanceMethod ({ cls := "WellNames$Desert", name := "roadOf", desc := "(II)I" } : Jvm.MethodName)) ∈ lw_all := lw_g (lw_at lw_m2 69 rfl) rfl
theorem q389 : (Jvm.Cond.selects "WellNames$Desert" ({ cls := "WellNames$Desert", name := "roadOf", desc := "(II)I" } : Jvm.MethodName) ({ cls := "WellNames$Desert", name := "roadOf", desc := "(II)I" } : Jvm.MethodName)) ∈ lw_all := lw_g (lw_at lw_m2 70 rfl) rfl
theorem q390 : (Jvm.Cond.code ({ cls := "WellNames$Desert", name := "roadOf", desc := "(II)I" } : Jvm.MethodName) prog_7_method_6_code (3 : Nat) (Option.some Jvm.ClassFile.FieldType.int)) ∈ lw_all := lw_g (lw_at lw_m2 71 rfl) rfl
theorem q400 : (Jvm.Cond.instanceMethod ({ cls := "WellNames$Desert", name := "owesOf", desc := "(I)I" } : Jvm.MethodName)) ∈ lw_all := lw_g (lw_at lw_m2 81 rfl) rfl
theorem q401 : (Jvm.Cond.selects "WellNames$Desert" ({ cls := "WellNames$Desert", name := "owesOf", desc := "(I)I" } : Jvm.MethodName) ({ cls := "WellNames$Desert", name := "owesOf", desc := "(I)I" } : Jvm.MethodName)) ∈ lw_all := lw_g (lw_at lw_m2 82 rfl) rfl
theorem q402 : (Jvm.Cond.code ({ cls := "WellNames$Desert", name := "owesOf", desc := "(I)I" } : Jvm.MethodName) prog_7_method_7_code (4 : Nat) (Option.some Jvm.ClassFile.FieldType.int)) ∈ lw_all := lw_g (lw_at lw_m2 83 rfl) rfl
theorem q451 : (Jvm.Cond.fieldLink "WellNames$Desert" (113 : Nat) "WellNames$Drinker" "m" "I") ∈ lw_all := lw_g (lw_at lw_m2 132 rfl) rfl
theorem q575 : (Jvm.Cond.instanceMethod ({ cls := "WellNames$Desert", name := "needs", desc := "(I)I" } : Jvm.MethodName)) ∈ lw_all := lw_g (lw_at lw_m3 16 rfl) rfl
theorem q576 : (Jvm.Cond.selects "WellNames$Desert" ({ cls := "WellNames$Desert", name := "needs", desc := "(I)I" } : Jvm.MethodName) ({ cls := "WellNames$Desert", name := "needs", desc := "(I)I" } : Jvm.MethodName)) ∈ lw_all := lw_g (lw_at lw_m3 17 rfl) rfl
theorem q577 : (Jvm.Cond.code ({ cls := "WellNames$Desert", name := "needs", desc := "(I)I" } : Jvm.MethodName) prog_7_method_8_code (2 : Nat) (Option.some Jvm.ClassFile.FieldType.int)) ∈ lw_all := lw_g (lw_at lw_m3 18 rfl) rfl
theorem q578 : (Jvm.Cond.methodLink "WellNames$Desert" (109 : Nat) ({ cls := "WellNames$Drinker", name := "needs", desc := "(LWellNames$Desert;I)I" } : Jvm.MethodName)) ∈ lw_all := lw_g (lw_at lw_m3 19 rfl) rfl
theorem q589 : (Jvm.Cond.instanceMethod ({ cls := "WellNames$Desert", name := "needsBy", desc := "(III)I" } : Jvm.MethodName)) ∈ lw_all := lw_g (lw_at lw_m3 30 rfl) rfl
theorem q590 : (Jvm.Cond.selects "WellNames$Desert" ({ cls := "WellNames$Desert", name := "needsBy", desc := "(III)I" } : Jvm.MethodName) ({ cls := "WellNames$Desert", name := "needsBy", desc := "(III)I" } : Jvm.MethodName)) ∈ lw_all := lw_g (lw_at lw_m3 31 rfl) rfl
theorem q591 : (Jvm.Cond.code ({ cls := "WellNames$Desert", name := "needsBy", desc := "(III)I" } : Jvm.MethodName) prog_7_method_4_code (5 : Nat) (Option.some Jvm.ClassFile.FieldType.int)) ∈ lw_all := lw_g (lw_at lw_m3 32 rfl) rfl
theorem q592 : (Jvm.Cond.methodLink "WellNames$Desert" (97 : Nat) ({ cls := "WellNames$Facts", name := "with", desc := "(CI)LWellNames$Facts;" } : Jvm.MethodName)) ∈ lw_all := lw_g (lw_at lw_m3 33 rfl) rfl
theorem q596 : (Jvm.Cond.methodLink "WellNames$Desert" (101 : Nat) ({ cls := "WellNames$Term", name := "value", desc := "(LWellNames$Facts;)I" } : Jvm.MethodName)) ∈ lw_all := lw_g (lw_at lw_m3 37 rfl) rfl
theorem q616 : (Jvm.Cond.methodLink "WellNames$Desert" (105 : Nat) ({ cls := "WellNames$Desert", name := "held", desc := "(III)I" } : Jvm.MethodName)) ∈ lw_all := lw_g (lw_at lw_m3 57 rfl) rfl
theorem q617 : (Jvm.Cond.static ({ cls := "WellNames$Desert", name := "held", desc := "(III)I" } : Jvm.MethodName)) ∈ lw_all := lw_g (lw_at lw_m3 58 rfl) rfl
theorem q618 : (Jvm.Cond.code ({ cls := "WellNames$Desert", name := "held", desc := "(III)I" } : Jvm.MethodName) prog_7_method_3_code (3 : Nat) (Option.some Jvm.ClassFile.FieldType.int)) ∈ lw_all := lw_g (lw_at lw_m3 59 rfl) rfl
theorem q619 : (Jvm.Cond.methodLink "WellNames$Desert" (88 : Nat) ({ cls := "java/lang/Math", name := "min", desc := "(II)I" } : Jvm.MethodName)) ∈ lw_all := lw_g (lw_at lw_m3 60 rfl) rfl
theorem q622 : (Jvm.Cond.methodLink "WellNames$Desert" (94 : Nat) ({ cls := "java/lang/Math", name := "max", desc := "(II)I" } : Jvm.MethodName)) ∈ lw_all := lw_g (lw_at lw_m3 63 rfl) rfl
theorem q909 : (Jvm.Cond.instanceMethod ({ cls := "WellNames$Desert", name := "parchedBy", desc := "(III)I" } : Jvm.MethodName)) ∈ lw_all := lw_g (lw_at lw_m4 110 rfl) rfl
theorem q910 : (Jvm.Cond.selects "WellNames$Desert" ({ cls := "WellNames$Desert", name := "parchedBy", desc := "(III)I" } : Jvm.MethodName) ({ cls := "WellNames$Desert", name := "parchedBy", desc := "(III)I" } : Jvm.MethodName)) ∈ lw_all := lw_g (lw_at lw_m4 111 rfl) rfl
theorem q911 : (Jvm.Cond.code ({ cls := "WellNames$Desert", name := "parchedBy", desc := "(III)I" } : Jvm.MethodName) prog_7_method_5_code (5 : Nat) (Option.some Jvm.ClassFile.FieldType.int)) ∈ lw_all := lw_g (lw_at lw_m4 112 rfl) rfl
theorem q917 : (Jvm.Cond.instanceMethod ({ cls := "WellNames$Desert", name := "canDrink", desc := "(I)Z" } : Jvm.MethodName)) ∈ lw_all := lw_g (lw_at lw_m4 118 rfl) rfl
theorem q918 : (Jvm.Cond.selects "WellNames$Desert" ({ cls := "WellNames$Desert", name := "canDrink", desc := "(I)Z" } : Jvm.MethodName) ({ cls := "WellNames$Desert", name := "canDrink", desc := "(I)Z" } : Jvm.MethodName)) ∈ lw_all := lw_g (lw_at lw_m4 119 rfl) rfl
theorem q919 : (Jvm.Cond.code ({ cls := "WellNames$Desert", name := "canDrink", desc := "(I)Z" } : Jvm.MethodName) prog_7_method_10_code (2 : Nat) (Option.some Jvm.ClassFile.FieldType.boolean)) ∈ lw_all := lw_g (lw_at lw_m4 120 rfl) rfl
theorem q920 : (Jvm.Cond.methodLink "WellNames$Desert" (119 : Nat) ({ cls := "WellNames$Desert", name := "needs", desc := "(I)I" } : Jvm.MethodName)) ∈ lw_all := lw_g (lw_at lw_m4 121 rfl) rfl
theorem q922 : (Jvm.Cond.instanceMethod ({ cls := "WellNames$Desert", name := "drinks", desc := "(I)V" } : Jvm.MethodName)) ∈ lw_all := lw_g (lw_at lw_m4 123 rfl) rfl
theorem q923 : (Jvm.Cond.selects "WellNames$Desert" ({ cls := "WellNames$Desert", name := "drinks", desc := "(I)V" } : Jvm.MethodName) ({ cls := "WellNames$Desert", name := "drinks", desc := "(I)V" } : Jvm.MethodName)) ∈ lw_all := lw_g (lw_at lw_m4 124 rfl) rfl
theorem q924 : (Jvm.Cond.code ({ cls := "WellNames$Desert", name := "drinks", desc := "(I)V" } : Jvm.MethodName) prog_7_method_11_code (2 : Nat) (Option.none : Option Jvm.ClassFile.FieldType)) ∈ lw_all := lw_g (lw_at lw_m4 125 rfl) rfl
theorem q925 : (Jvm.Cond.methodLink "WellNames$Desert" (122 : Nat) ({ cls := "WellNames$Drinker", name := "called", desc := "(III)I" } : Jvm.MethodName)) ∈ lw_all := lw_g (lw_at lw_m4 126 rfl) rfl
theorem q954 : (Jvm.Cond.instanceMethod ({ cls := "WellNames$Desert", name := "goes", desc := "(II)V" } : Jvm.MethodName)) ∈ lw_all := lw_g (lw_at lw_m4 155 rfl) rfl
theorem q955 : (Jvm.Cond.selects "WellNames$Desert" ({ cls := "WellNames$Desert", name := "goes", desc := "(II)V" } : Jvm.MethodName) ({ cls := "WellNames$Desert", name := "goes", desc := "(II)V" } : Jvm.MethodName)) ∈ lw_all := lw_g (lw_at lw_m4 156 rfl) rfl
theorem q956 : (Jvm.Cond.code ({ cls := "WellNames$Desert", name := "goes", desc := "(II)V" } : Jvm.MethodName) prog_7_method_13_code (4 : Nat) (Option.none : Option Jvm.ClassFile.FieldType)) ∈ lw_all := lw_g (lw_at lw_m4 157 rfl) rfl
theorem q957 : (Jvm.Cond.methodLink "WellNames$Desert" (129 : Nat) ({ cls := "WellNames$Desert", name := "roadOf", desc := "(II)I" } : Jvm.MethodName)) ∈ lw_all := lw_g (lw_at lw_m4 158 rfl) rfl
theorem q958 : (Jvm.Cond.methodLink "WellNames$Desert" (132 : Nat) ({ cls := "WellNames$Desert", name := "parched", desc := "(II)I" } : Jvm.MethodName)) ∈ lw_all := lw_g (lw_at lw_m4 159 rfl) rfl
theorem q959 : (Jvm.Cond.instanceMethod ({ cls := "WellNames$Desert", name := "parched", desc := "(II)I" } : Jvm.MethodName)) ∈ lw_all := lw_g (lw_at lw_m4 160 rfl) rfl
theorem q960 : (Jvm.Cond.selects "WellNames$Desert" ({ cls := "WellNames$Desert", name := "parched", desc := "(II)I" } : Jvm.MethodName) ({ cls := "WellNames$Desert", name := "parched", desc := "(II)I" } : Jvm.MethodName)) ∈ lw_all := lw_g (lw_at lw_m4 161 rfl) rfl
theorem q961 : (Jvm.Cond.code ({ cls := "WellNames$Desert", name := "parched", desc := "(II)I" } : Jvm.MethodName) prog_7_method_9_code (3 : Nat) (Option.some Jvm.ClassFile.FieldType.int)) ∈ lw_all := lw_g (lw_at lw_m4 162 rfl) rfl
theorem q962 : (Jvm.Cond.methodLink "WellNames$Desert" (116 : Nat) ({ cls := "WellNames$Desert", name := "parchedBy", desc := "(III)I" } : Jvm.MethodName)) ∈ lw_all := lw_g (lw_at lw_m4 163 rfl) rfl
theorem q963 : (Jvm.Cond.methodLink "WellNames$Desert" (135 : Nat) ({ cls := "WellNames$Desert", name := "thirsts", desc := "(II)V" } : Jvm.MethodName)) ∈ lw_all := lw_g (lw_at lw_m4 164 rfl) rfl
theorem q964 : (Jvm.Cond.privateMethod ({ cls := "WellNames$Desert", name := "thirsts", desc := "(II)V" } : Jvm.MethodName)) ∈ lw_tbl := lw_at lw_m4 165 rfl
theorem q965 : (Jvm.Cond.instanceMethod ({ cls := "WellNames$Desert", name := "thirsts", desc := "(II)V" } : Jvm.MethodName)) ∈ lw_all := lw_g (lw_at lw_m4 166 rfl) rfl
theorem q966 : (Jvm.Cond.code ({ cls := "WellNames$Desert", name := "thirsts", desc := "(II)V" } : Jvm.MethodName) prog_7_method_12_code (3 : Nat) (Option.none : Option Jvm.ClassFile.FieldType)) ∈ lw_all := lw_g (lw_at lw_m4 167 rfl) rfl
theorem q967 : (Jvm.Cond.methodLink "WellNames$Desert" (125 : Nat) ({ cls := "WellNames$Drinker", name := "limit", desc := "()I" } : Jvm.MethodName)) ∈ lw_all := lw_g (lw_at lw_m4 168 rfl) rfl
theorem q981 : (Jvm.Cond.instanceMethod ({ cls := "WellNames$Desert", name := "passes", desc := "()V" } : Jvm.MethodName)) ∈ lw_all := lw_g (lw_at lw_m4 182 rfl) rfl
theorem q982 : (Jvm.Cond.selects "WellNames$Desert" ({ cls := "WellNames$Desert", name := "passes", desc := "()V" } : Jvm.MethodName) ({ cls := "WellNames$Desert", name := "passes", desc := "()V" } : Jvm.MethodName)) ∈ lw_all := lw_g (lw_at lw_m4 183 rfl) rfl
theorem q983 : (Jvm.Cond.code ({ cls := "WellNames$Desert", name := "passes", desc := "()V" } : Jvm.MethodName) prog_7_method_14_code (2 : Nat) (Option.none : Option Jvm.ClassFile.FieldType)) ∈ lw_all := lw_g (lw_at lw_m4 184 rfl) rfl
theorem q985 : (Jvm.Cond.instanceMethod ({ cls := "WellNames$Desert", name := "dead", desc := "()I" } : Jvm.MethodName)) ∈ lw_all := lw_g (lw_at lw_m4 186 rfl) rfl
theorem q986 : (Jvm.Cond.selects "WellNames$Desert" ({ cls := "WellNames$Desert", name := "dead", desc := "()I" } : Jvm.MethodName) ({ cls := "WellNames$Desert", name := "dead", desc := "()I" } : Jvm.MethodName)) ∈ lw_all := lw_g (lw_at lw_m4 187 rfl) rfl
theorem q987 : (Jvm.Cond.code ({ cls := "WellNames$Desert", name := "dead", desc := "()I" } : Jvm.MethodName) prog_7_method_15_code (3 : Nat) (Option.some Jvm.ClassFile.FieldType.int)) ∈ lw_all := lw_g (lw_at lw_m4 188 rfl) rfl
theorem q993 : (Jvm.Cond.instanceMethod ({ cls := "WellNames$Desert", name := "goesLoose", desc := "()V" } : Jvm.MethodName)) ∈ lw_all := lw_g (lw_at lw_m4 194 rfl) rfl
theorem q994 : (Jvm.Cond.selects "WellNames$Desert" ({ cls := "WellNames$Desert", name := "goesLoose", desc := "()V" } : Jvm.MethodName) ({ cls := "WellNames$Desert", name := "goesLoose", desc := "()V" } : Jvm.MethodName)) ∈ lw_all := lw_g (lw_at lw_m4 195 rfl) rfl
theorem q995 : (Jvm.Cond.code ({ cls := "WellNames$Desert", name := "goesLoose", desc := "()V" } : Jvm.MethodName) prog_7_method_17_code (2 : Nat) (Option.none : Option Jvm.ClassFile.FieldType)) ∈ lw_all := lw_g (lw_at lw_m4 196 rfl) rfl
theorem q996 : (Jvm.Cond.methodLink "WellNames$Desert" (140 : Nat) ({ cls := "WellNames$Desert", name := "draw", desc := "()I" } : Jvm.MethodName)) ∈ lw_all := lw_g (lw_at lw_m4 197 rfl) rfl
theorem q997 : (Jvm.Cond.instanceMethod ({ cls := "WellNames$Desert", name := "draw", desc := "()I" } : Jvm.MethodName)) ∈ lw_all := lw_g (lw_at lw_m4 198 rfl) rfl
theorem q998 : (Jvm.Cond.selects "WellNames$Desert" ({ cls := "WellNames$Desert", name := "draw", desc := "()I" } : Jvm.MethodName) ({ cls := "WellNames$Desert", name := "draw", desc := "()I" } : Jvm.MethodName)) ∈ lw_all := lw_g (lw_at lw_m4 199 rfl) rfl
theorem q999 : (Jvm.Cond.code ({ cls := "WellNames$Desert", name := "draw", desc := "()I" } : Jvm.MethodName) prog_7_method_16_code (1 : Nat) (Option.some Jvm.ClassFile.FieldType.int)) ∈ lw_all := lw_g (lw_at lw_m4 200 rfl) rfl
theorem q1000 : (Jvm.Cond.constant "WellNames$Desert" (139 : Nat) (1103515245 : Int32)) ∈ lw_all := lw_g (lw_at lw_m4 201 rfl) rfl
theorem q1001 : (Jvm.Cond.methodLink "WellNames$Desert" (143 : Nat) ({ cls := "WellNames$Desert", name := "passes", desc := "()V" } : Jvm.MethodName)) ∈ lw_all := lw_g (lw_at lw_m4 202 rfl) rfl
theorem q1398 : (Jvm.Cond.instanceMethod ({ cls := "WellNames$Desert", name := "become", desc := "(LWellNames$Desert;)LWellNames$Desert;" } : Jvm.MethodName)) ∈ lw_all := lw_g (lw_at lw_m6 119 rfl) rfl
theorem q1399 : (Jvm.Cond.selects "WellNames$Desert" ({ cls := "WellNames$Desert", name := "become", desc := "(LWellNames$Desert;)LWellNames$Desert;" } : Jvm.MethodName) ({ cls := "WellNames$Desert", name := "become", desc := "(LWellNames$Desert;)LWellNames$Desert;" } : Jvm.MethodName)) ∈ lw_all := lw_g (lw_at lw_m6 120 rfl) rfl
theorem q1400 : (Jvm.Cond.code ({ cls := "WellNames$Desert", name := "become", desc := "(LWellNames$Desert;)LWellNames$Desert;" } : Jvm.MethodName) prog_7_method_2_code (2 : Nat) (Option.some (Jvm.ClassFile.FieldType.object "WellNames$Desert"))) ∈ lw_all := lw_g (lw_at lw_m6 121 rfl) rfl
theorem q1401 : (Jvm.Cond.methodLink "WellNames$Desert" (67 : Nat) ({ cls := "java/lang/System", name := "arraycopy", desc := "(Ljava/lang/Object;ILjava/lang/Object;II)V" } : Jvm.MethodName)) ∈ lw_all := lw_g (lw_at lw_m6 122 rfl) rfl
theorem in_X2 : ∀ w ∈ wsX20, w ∈ lw_all := lw_in wsX20 [255, 257, 259, 261, 263, 265, 267, 269, 271, 273, 275, 277, 279, 281, 283, 285, 287, 289, 291] (by decide +kernel) (by decide +kernel)

/-! WellNames$Facts -/
set_option maxRecDepth 100000
def RX3 : String := "WellNames$Facts"
def TX3 : u_T := fun k => match k with
  | _ => ("WellNames$Facts", "named", "[I", true)
def tyX3 : Nat → FieldType := fun k => match k with
  | _ => .array .int
abbrev wsX30 : List Cond := u_ws RX3 TX3 1
theorem nmX3 : ∀ a, a < 1 → ∀ b, b < 1 → a ≠ b → (TX3 a).2.1 ≠ (TX3 b).2.1 := by decide +kernel
theorem tyX3_ok : ∀ k, k < 1 → parseFieldDescriptor (TX3 k).2.2.1 = some (tyX3 k) := by decide +kernel
abbrev cX3_init : ByteArray := prog_10_method_1_code
def yX3_init : MethodName := ⟨RX3, "<init>", "()V"⟩
def dkwX3_init_0 : List UInt8 := [42, 183, 0, 1, 42, 17, 0, 128, 188, 10, 181, 0, 7, 177]
abbrev dktX3_init_0 : List UInt8 := dkwX3_init_0 ++ []
theorem dksX3_init_0 : cX3_init.data.toList.drop 0 = dktX3_init_0 := by decide +kernel
theorem dX3_init_0 : decode cX3_init 0 = .ok (.aload_n 0, 1) := dk_42 (dk_at dksX3_init_0 0 rfl rfl)
theorem dX3_init_1 : decode cX3_init 1 = .ok (.invokespecial 1, 3) := dk_183 0 1 (dk_at dksX3_init_0 1 rfl rfl)
theorem dX3_init_4 : decode cX3_init 4 = .ok (.aload_n 0, 1) := dk_42 (dk_at dksX3_init_0 4 rfl rfl)
theorem dX3_init_5 : decode cX3_init 5 = .ok (.sipush 128, 3) := dk_17 0 128 (dk_at dksX3_init_0 5 rfl rfl)
theorem dX3_init_8 : decode cX3_init 8 = .ok (.newarray .int, 2) := dk_188_10 (dk_at dksX3_init_0 8 rfl rfl)
theorem dX3_init_10 : decode cX3_init 10 = .ok (.putfield 7, 3) := dk_181 0 7 (dk_at dksX3_init_0 10 rfl rfl)
theorem dX3_init_13 : decode cX3_init 13 = .ok (.return_, 1) := dk_177 (dk_at dksX3_init_0 13 rfl rfl)
abbrev cX3_with : ByteArray := prog_10_method_2_code
def yX3_with : MethodName := ⟨RX3, "with", "(CI)LWellNames$Facts;"⟩
def dkwX3_with_0 : List UInt8 := [42, 180, 0, 7, 27, 28, 79, 42, 176]
abbrev dktX3_with_0 : List UInt8 := dkwX3_with_0 ++ []
theorem dksX3_with_0 : cX3_with.data.toList.drop 0 = dktX3_with_0 := by decide +kernel
theorem dX3_with_0 : decode cX3_with 0 = .ok (.aload_n 0, 1) := dk_42 (dk_at dksX3_with_0 0 rfl rfl)
theorem dX3_with_1 : decode cX3_with 1 = .ok (.getfield 7, 3) := dk_180 0 7 (dk_at dksX3_with_0 1 rfl rfl)
theorem dX3_with_4 : decode cX3_with 4 = .ok (.iload_n 1, 1) := dk_27 (dk_at dksX3_with_0 4 rfl rfl)
theorem dX3_with_5 : decode cX3_with 5 = .ok (.iload_n 2, 1) := dk_28 (dk_at dksX3_with_0 5 rfl rfl)
theorem dX3_with_6 : decode cX3_with 6 = .ok (.iastore, 1) := dk_79 (dk_at dksX3_with_0 6 rfl rfl)
theorem dX3_with_7 : decode cX3_with 7 = .ok (.aload_n 0, 1) := dk_42 (dk_at dksX3_with_0 7 rfl rfl)
theorem dX3_with_8 : decode cX3_with 8 = .ok (.areturn, 1) := dk_176 (dk_at dksX3_with_0 8 rfl rfl)
theorem q86 : (Jvm.Cond.initialized "WellNames$Facts") ∈ lw_all := lw_g (lw_at lw_m1 7 rfl) rfl
theorem q204 : (Jvm.Cond.instantiable "WellNames$Facts" (1 : Nat)) ∈ lw_all := lw_g (lw_at lw_m1 125 rfl) rfl
theorem q206 : (Jvm.Cond.instanceMethod ({ cls := "WellNames$Facts", name := "<init>", desc := "()V" } : Jvm.MethodName)) ∈ lw_all := lw_g (lw_at lw_m1 127 rfl) rfl
theorem q207 : (Jvm.Cond.code ({ cls := "WellNames$Facts", name := "<init>", desc := "()V" } : Jvm.MethodName) prog_10_method_1_code (1 : Nat) (Option.none : Option Jvm.ClassFile.FieldType)) ∈ lw_all := lw_g (lw_at lw_m1 128 rfl) rfl
theorem q208 : (Jvm.Cond.methodLink "WellNames$Facts" (1 : Nat) ({ cls := "java/lang/Object", name := "<init>", desc := "()V" } : Jvm.MethodName)) ∈ lw_all := lw_g (lw_at lw_m1 129 rfl) rfl
theorem q209 : (Jvm.Cond.fieldLink "WellNames$Facts" (7 : Nat) "WellNames$Facts" "named" "[I") ∈ lw_all := lw_g (lw_at lw_m1 130 rfl) rfl
theorem q211 : (Jvm.Cond.laysFinal "WellNames$Facts" "WellNames$Facts" "named" "[I") ∈ lw_all := lw_g (lw_at lw_m1 132 rfl) rfl
theorem q212 : (Jvm.Cond.soleField "WellNames$Facts" "named") ∈ lw_all := lw_g (lw_at lw_m1 133 rfl) rfl
theorem q213 : (Jvm.Cond.superclass "WellNames$Facts" "java/lang/Object") ∈ lw_all := lw_g (lw_at lw_m1 134 rfl) rfl
theorem q593 : (Jvm.Cond.instanceMethod ({ cls := "WellNames$Facts", name := "with", desc := "(CI)LWellNames$Facts;" } : Jvm.MethodName)) ∈ lw_all := lw_g (lw_at lw_m3 34 rfl) rfl
theorem q594 : (Jvm.Cond.selects "WellNames$Facts" ({ cls := "WellNames$Facts", name := "with", desc := "(CI)LWellNames$Facts;" } : Jvm.MethodName) ({ cls := "WellNames$Facts", name := "with", desc := "(CI)LWellNames$Facts;" } : Jvm.MethodName)) ∈ lw_all := lw_g (lw_at lw_m3 35 rfl) rfl
theorem q595 : (Jvm.Cond.code ({ cls := "WellNames$Facts", name := "with", desc := "(CI)LWellNames$Facts;" } : Jvm.MethodName) prog_10_method_2_code (3 : Nat) (Option.some (Jvm.ClassFile.FieldType.object "WellNames$Facts"))) ∈ lw_all := lw_g (lw_at lw_m3 36 rfl) rfl
theorem in_X3 : ∀ w ∈ wsX30, w ∈ lw_all := lw_in wsX30 [211] (by decide +kernel) (by decide +kernel)

/-! WellNames$Trace -/
set_option maxRecDepth 100000
def RX4 : String := "WellNames$Trace"
def TX4 : u_T := fun k => match k with
  | 0 => ("WellNames$Trace", "ran", "[I", true)
  | _ => ("WellNames$Trace", "many", "I", false)
def tyX4 : Nat → FieldType := fun k => match k with
  | 0 => .array .int
  | _ => .int
abbrev wsX40 : List Cond := u_ws RX4 TX4 2
theorem nmX4 : ∀ a, a < 2 → ∀ b, b < 2 → a ≠ b → (TX4 a).2.1 ≠ (TX4 b).2.1 := by decide +kernel
theorem tyX4_ok : ∀ k, k < 2 → parseFieldDescriptor (TX4 k).2.2.1 = some (tyX4 k) := by decide +kernel
abbrev cX4_init : ByteArray := prog_26_method_1_code
def yX4_init : MethodName := ⟨RX4, "<init>", "()V"⟩
def dkwX4_init_0 : List UInt8 := [42, 183, 0, 3, 42, 16, 40, 188, 10, 181, 0, 9, 177]
abbrev dktX4_init_0 : List UInt8 := dkwX4_init_0 ++ []
theorem dksX4_init_0 : cX4_init.data.toList.drop 0 = dktX4_init_0 := by decide +kernel
theorem dX4_init_0 : decode cX4_init 0 = .ok (.aload_n 0, 1) := dk_42 (dk_at dksX4_init_0 0 rfl rfl)
theorem dX4_init_1 : decode cX4_init 1 = .ok (.invokespecial 3, 3) := dk_183 0 3 (dk_at dksX4_init_0 1 rfl rfl)
theorem dX4_init_4 : decode cX4_init 4 = .ok (.aload_n 0, 1) := dk_42 (dk_at dksX4_init_0 4 rfl rfl)
theorem dX4_init_5 : decode cX4_init 5 = .ok (.bipush 40, 2) := dk_16 40 (dk_at dksX4_init_0 5 rfl rfl)
theorem dX4_init_7 : decode cX4_init 7 = .ok (.newarray .int, 2) := dk_188_10 (dk_at dksX4_init_0 7 rfl rfl)
theorem dX4_init_9 : decode cX4_init 9 = .ok (.putfield 9, 3) := dk_181 0 9 (dk_at dksX4_init_0 9 rfl rfl)
theorem dX4_init_12 : decode cX4_init 12 = .ok (.return_, 1) := dk_177 (dk_at dksX4_init_0 12 rfl rfl)
abbrev cX4_begins : ByteArray := prog_26_method_2_code
def yX4_begins : MethodName := ⟨RX4, "begins", "(I)V"⟩
def dkwX4_begins_1 : List UInt8 := [4, 96, 181, 0, 15, 177]
abbrev dktX4_begins_1 : List UInt8 := dkwX4_begins_1 ++ []
def dkwX4_begins_0 : List UInt8 := [42, 180, 0, 15, 16, 40, 162, 0, 23, 42, 180, 0, 9, 42, 180, 0, 15, 27, 79, 42, 89, 180, 0, 15]
abbrev dktX4_begins_0 : List UInt8 := dkwX4_begins_0 ++ dktX4_begins_1
theorem dksX4_begins_0 : cX4_begins.data.toList.drop 0 = dktX4_begins_0 := by decide +kernel
theorem dksX4_begins_1 : cX4_begins.data.toList.drop 24 = dktX4_begins_1 := dk_seg dksX4_begins_0 24 rfl rfl
theorem dX4_begins_0 : decode cX4_begins 0 = .ok (.aload_n 0, 1) := dk_42 (dk_at dksX4_begins_0 0 rfl rfl)
theorem dX4_begins_1 : decode cX4_begins 1 = .ok (.getfield 15, 3) := dk_180 0 15 (dk_at dksX4_begins_0 1 rfl rfl)
theorem dX4_begins_4 : decode cX4_begins 4 = .ok (.bipush 40, 2) := dk_16 40 (dk_at dksX4_begins_0 4 rfl rfl)
theorem dX4_begins_6 : decode cX4_begins 6 = .ok (.if_icmp .ge 23, 3) := dk_162 0 23 (dk_at dksX4_begins_0 6 rfl rfl)
theorem dX4_begins_9 : decode cX4_begins 9 = .ok (.aload_n 0, 1) := dk_42 (dk_at dksX4_begins_0 9 rfl rfl)
theorem dX4_begins_10 : decode cX4_begins 10 = .ok (.getfield 9, 3) := dk_180 0 9 (dk_at dksX4_begins_0 10 rfl rfl)
theorem dX4_begins_13 : decode cX4_begins 13 = .ok (.aload_n 0, 1) := dk_42 (dk_at dksX4_begins_0 13 rfl rfl)
theorem dX4_begins_14 : decode cX4_begins 14 = .ok (.getfield 15, 3) := dk_180 0 15 (dk_at dksX4_begins_0 14 rfl rfl)
theorem dX4_begins_17 : decode cX4_begins 17 = .ok (.iload_n 1, 1) := dk_27 (dk_at dksX4_begins_0 17 rfl rfl)
theorem dX4_begins_18 : decode cX4_begins 18 = .ok (.iastore, 1) := dk_79 (dk_at dksX4_begins_0 18 rfl rfl)
theorem dX4_begins_19 : decode cX4_begins 19 = .ok (.aload_n 0, 1) := dk_42 (dk_at dksX4_begins_0 19 rfl rfl)
theorem dX4_begins_20 : decode cX4_begins 20 = .ok (.dup, 1) := dk_89 (dk_at dksX4_begins_0 20 rfl rfl)
theorem dX4_begins_21 : decode cX4_begins 21 = .ok (.getfield 15, 3) := dk_180 0 15 (dk_at dksX4_begins_0 21 rfl rfl)
theorem dX4_begins_24 : decode cX4_begins 24 = .ok (.iconst 1, 1) := dk_4 (dk_at dksX4_begins_1 0 rfl rfl)
theorem dX4_begins_25 : decode cX4_begins 25 = .ok (.iadd, 1) := dk_96 (dk_at dksX4_begins_1 1 rfl rfl)
theorem dX4_begins_26 : decode cX4_begins 26 = .ok (.putfield 15, 3) := dk_181 0 15 (dk_at dksX4_begins_1 2 rfl rfl)
theorem dX4_begins_29 : decode cX4_begins 29 = .ok (.return_, 1) := dk_177 (dk_at dksX4_begins_1 5 rfl rfl)
theorem q87 : (Jvm.Cond.initialized "WellNames$Trace") ∈ lw_all := lw_g (lw_at lw_m1 8 rfl) rfl
theorem q295 : (Jvm.Cond.instantiable "WellNames$Trace" (2 : Nat)) ∈ lw_all := lw_g (lw_at lw_m1 216 rfl) rfl
theorem q297 : (Jvm.Cond.instanceMethod ({ cls := "WellNames$Trace", name := "<init>", desc := "()V" } : Jvm.MethodName)) ∈ lw_all := lw_g (lw_at lw_m1 218 rfl) rfl
theorem q298 : (Jvm.Cond.code ({ cls := "WellNames$Trace", name := "<init>", desc := "()V" } : Jvm.MethodName) prog_26_method_1_code (1 : Nat) (Option.none : Option Jvm.ClassFile.FieldType)) ∈ lw_all := lw_g (lw_at lw_m1 219 rfl) rfl
theorem q299 : (Jvm.Cond.methodLink "WellNames$Trace" (3 : Nat) ({ cls := "java/lang/Object", name := "<init>", desc := "()V" } : Jvm.MethodName)) ∈ lw_all := lw_g (lw_at lw_m1 220 rfl) rfl
theorem q300 : (Jvm.Cond.fieldLink "WellNames$Trace" (9 : Nat) "WellNames$Trace" "ran" "[I") ∈ lw_all := lw_g (lw_at lw_m1 221 rfl) rfl
theorem q302 : (Jvm.Cond.fieldLink "WellNames$Trace" (15 : Nat) "WellNames$Trace" "many" "I") ∈ lw_all := lw_g (lw_at lw_m1 223 rfl) rfl
theorem q304 : (Jvm.Cond.laysFinal "WellNames$Trace" "WellNames$Trace" "ran" "[I") ∈ lw_all := lw_g (lw_at lw_m1 225 rfl) rfl
theorem q305 : (Jvm.Cond.soleField "WellNames$Trace" "ran") ∈ lw_all := lw_g (lw_at lw_m1 226 rfl) rfl
theorem q306 : (Jvm.Cond.lays "WellNames$Trace" "WellNames$Trace" "many" "I") ∈ lw_all := lw_g (lw_at lw_m1 227 rfl) rfl
theorem q307 : (Jvm.Cond.soleField "WellNames$Trace" "many") ∈ lw_all := lw_g (lw_at lw_m1 228 rfl) rfl
theorem q308 : (Jvm.Cond.superclass "WellNames$Trace" "java/lang/Object") ∈ lw_all := lw_g (lw_at lw_m1 229 rfl) rfl
theorem q1141 : (Jvm.Cond.instanceMethod ({ cls := "WellNames$Trace", name := "begins", desc := "(I)V" } : Jvm.MethodName)) ∈ lw_all := lw_g (lw_at lw_m5 102 rfl) rfl
theorem q1142 : (Jvm.Cond.selects "WellNames$Trace" ({ cls := "WellNames$Trace", name := "begins", desc := "(I)V" } : Jvm.MethodName) ({ cls := "WellNames$Trace", name := "begins", desc := "(I)V" } : Jvm.MethodName)) ∈ lw_all := lw_g (lw_at lw_m5 103 rfl) rfl
theorem q1143 : (Jvm.Cond.code ({ cls := "WellNames$Trace", name := "begins", desc := "(I)V" } : Jvm.MethodName) prog_26_method_2_code (2 : Nat) (Option.none : Option Jvm.ClassFile.FieldType)) ∈ lw_all := lw_g (lw_at lw_m5 104 rfl) rfl
theorem in_X4 : ∀ w ∈ wsX40, w ∈ lw_all := lw_in wsX40 [304, 306] (by decide +kernel) (by decide +kernel)

/-! WellNames$Shelf -/
set_option maxRecDepth 100000
def RX5 : String := "WellNames$Shelf"
def TX5 : u_T := fun k => match k with
  | _ => ("WellNames$Shelf", "held", "Ljava/lang/Object;", false)
def tyX5 : Nat → FieldType := fun k => match k with
  | _ => .object "java/lang/Object"
abbrev wsX50 : List Cond := u_ws RX5 TX5 1
theorem nmX5 : ∀ a, a < 1 → ∀ b, b < 1 → a ≠ b → (TX5 a).2.1 ≠ (TX5 b).2.1 := by decide +kernel
theorem tyX5_ok : ∀ k, k < 1 → parseFieldDescriptor (TX5 k).2.2.1 = some (tyX5 k) := by decide +kernel
abbrev cX5_init : ByteArray := prog_22_method_1_code
def yX5_init : MethodName := ⟨RX5, "<init>", "()V"⟩
theorem dX5_init_0 : decode cX5_init 0 = .ok (.aload_n 0, 1) := by decide +kernel
theorem dX5_init_1 : decode cX5_init 1 = .ok (.invokespecial 1, 3) := by decide +kernel
theorem dX5_init_4 : decode cX5_init 4 = .ok (.return_, 1) := by decide +kernel
theorem q88 : (Jvm.Cond.initialized "WellNames$Shelf") ∈ lw_all := lw_g (lw_at lw_m1 9 rfl) rfl
theorem q311 : (Jvm.Cond.instantiable "WellNames$Shelf" (1 : Nat)) ∈ lw_all := lw_g (lw_at lw_m1 232 rfl) rfl
theorem q313 : (Jvm.Cond.instanceMethod ({ cls := "WellNames$Shelf", name := "<init>", desc := "()V" } : Jvm.MethodName)) ∈ lw_all := lw_g (lw_at lw_m1 234 rfl) rfl
theorem q314 : (Jvm.Cond.code ({ cls := "WellNames$Shelf", name := "<init>", desc := "()V" } : Jvm.MethodName) prog_22_method_1_code (1 : Nat) (Option.none : Option Jvm.ClassFile.FieldType)) ∈ lw_all := lw_g (lw_at lw_m1 235 rfl) rfl
theorem q315 : (Jvm.Cond.methodLink "WellNames$Shelf" (1 : Nat) ({ cls := "java/lang/Object", name := "<init>", desc := "()V" } : Jvm.MethodName)) ∈ lw_all := lw_g (lw_at lw_m1 236 rfl) rfl
theorem q317 : (Jvm.Cond.lays "WellNames$Shelf" "WellNames$Shelf" "held" "Ljava/lang/Object;") ∈ lw_all := lw_g (lw_at lw_m1 238 rfl) rfl
theorem q318 : (Jvm.Cond.soleField "WellNames$Shelf" "held") ∈ lw_all := lw_g (lw_at lw_m1 239 rfl) rfl
theorem q319 : (Jvm.Cond.superclass "WellNames$Shelf" "java/lang/Object") ∈ lw_all := lw_g (lw_at lw_m2 0 rfl) rfl
theorem in_X5 : ∀ w ∈ wsX50, w ∈ lw_all := lw_in wsX50 [317] (by decide +kernel) (by decide +kernel)

/-! WellNames$Drinker -/
set_option maxRecDepth 100000
def RX7 : String := "WellNames$Drinker"
def TX7 : u_T := fun k => match k with
  | 0 => ("WellNames$Drinker", "trace", "LWellNames$Trace;", true)
  | 1 => ("WellNames$Drinker", "number", "I", true)
  | _ => ("WellNames$Drinker", "m", "I", true)
def tyX7 : Nat → FieldType := fun k => match k with
  | 0 => .object "WellNames$Trace"
  | 1 => .int
  | _ => .int
abbrev wsX70 : List Cond := u_ws RX7 TX7 3
theorem nmX7 : ∀ a, a < 3 → ∀ b, b < 3 → a ≠ b → (TX7 a).2.1 ≠ (TX7 b).2.1 := by decide +kernel
theorem tyX7_ok : ∀ k, k < 3 → parseFieldDescriptor (TX7 k).2.2.1 = some (tyX7 k) := by decide +kernel
abbrev cX7_init : ByteArray := prog_8_method_1_code
def yX7_init : MethodName := ⟨RX7, "<init>", "(LWellNames$Trace;II)V"⟩
def dkwX7_init_0 : List UInt8 := [42, 183, 0, 3, 42, 43, 181, 0, 9, 42, 28, 181, 0, 15, 42, 29, 181, 0, 19, 177]
abbrev dktX7_init_0 : List UInt8 := dkwX7_init_0 ++ []
theorem dksX7_init_0 : cX7_init.data.toList.drop 0 = dktX7_init_0 := by decide +kernel
theorem dX7_init_0 : decode cX7_init 0 = .ok (.aload_n 0, 1) := dk_42 (dk_at dksX7_init_0 0 rfl rfl)
theorem dX7_init_1 : decode cX7_init 1 = .ok (.invokespecial 3, 3) := dk_183 0 3 (dk_at dksX7_init_0 1 rfl rfl)
theorem dX7_init_4 : decode cX7_init 4 = .ok (.aload_n 0, 1) := dk_42 (dk_at dksX7_init_0 4 rfl rfl)
theorem dX7_init_5 : decode cX7_init 5 = .ok (.aload_n 1, 1) := dk_43 (dk_at dksX7_init_0 5 rfl rfl)
theorem dX7_init_6 : decode cX7_init 6 = .ok (.putfield 9, 3) := dk_181 0 9 (dk_at dksX7_init_0 6 rfl rfl)
theorem dX7_init_9 : decode cX7_init 9 = .ok (.aload_n 0, 1) := dk_42 (dk_at dksX7_init_0 9 rfl rfl)
theorem dX7_init_10 : decode cX7_init 10 = .ok (.iload_n 2, 1) := dk_28 (dk_at dksX7_init_0 10 rfl rfl)
theorem dX7_init_11 : decode cX7_init 11 = .ok (.putfield 15, 3) := dk_181 0 15 (dk_at dksX7_init_0 11 rfl rfl)
theorem dX7_init_14 : decode cX7_init 14 = .ok (.aload_n 0, 1) := dk_42 (dk_at dksX7_init_0 14 rfl rfl)
theorem dX7_init_15 : decode cX7_init 15 = .ok (.iload_n 3, 1) := dk_29 (dk_at dksX7_init_0 15 rfl rfl)
theorem dX7_init_16 : decode cX7_init 16 = .ok (.putfield 19, 3) := dk_181 0 19 (dk_at dksX7_init_0 16 rfl rfl)
theorem dX7_init_19 : decode cX7_init 19 = .ok (.return_, 1) := dk_177 (dk_at dksX7_init_0 19 rfl rfl)
abbrev cX7_kind : ByteArray := prog_8_method_2_code
def yX7_kind : MethodName := ⟨RX7, "kind", "()I"⟩
theorem dX7_kind_0 : decode cX7_kind 0 = .ok (.iconst 0, 1) := by decide +kernel
theorem dX7_kind_1 : decode cX7_kind 1 = .ok (.ireturn, 1) := by decide +kernel
abbrev cX7_limit : ByteArray := prog_8_method_4_code
def yX7_limit : MethodName := ⟨RX7, "limit", "()I"⟩
theorem dX7_limit_0 : decode cX7_limit 0 = .ok (.bipush 12, 2) := by decide +kernel
theorem dX7_limit_2 : decode cX7_limit 2 = .ok (.ireturn, 1) := by decide +kernel
abbrev cX7_needs : ByteArray := prog_8_method_5_code
def yX7_needs : MethodName := ⟨RX7, "needs", "(LWellNames$Desert;I)I"⟩
theorem dX7_needs_0 : decode cX7_needs 0 = .ok (.iconst 1, 1) := by decide +kernel
theorem dX7_needs_1 : decode cX7_needs 1 = .ok (.ireturn, 1) := by decide +kernel
abbrev cX7_isOf : ByteArray := prog_8_method_3_code
def yX7_isOf : MethodName := ⟨RX7, "isOf", "(I)Z"⟩
def dkwX7_isOf_0 : List UInt8 := [27, 154, 0, 7, 4, 167, 0, 4, 3, 172]
abbrev dktX7_isOf_0 : List UInt8 := dkwX7_isOf_0 ++ []
theorem dksX7_isOf_0 : cX7_isOf.data.toList.drop 0 = dktX7_isOf_0 := by decide +kernel
theorem dX7_isOf_0 : decode cX7_isOf 0 = .ok (.iload_n 1, 1) := dk_27 (dk_at dksX7_isOf_0 0 rfl rfl)
theorem dX7_isOf_1 : decode cX7_isOf 1 = .ok (.ifCond .ne 7, 3) := dk_154 0 7 (dk_at dksX7_isOf_0 1 rfl rfl)
theorem dX7_isOf_4 : decode cX7_isOf 4 = .ok (.iconst 1, 1) := dk_4 (dk_at dksX7_isOf_0 4 rfl rfl)
theorem dX7_isOf_5 : decode cX7_isOf 5 = .ok (.goto 4, 3) := dk_167 0 4 (dk_at dksX7_isOf_0 5 rfl rfl)
theorem dX7_isOf_8 : decode cX7_isOf 8 = .ok (.iconst 0, 1) := dk_3 (dk_at dksX7_isOf_0 8 rfl rfl)
theorem dX7_isOf_9 : decode cX7_isOf 9 = .ok (.ireturn, 1) := dk_172 (dk_at dksX7_isOf_0 9 rfl rfl)
abbrev cX7_called : ByteArray := prog_8_method_6_code
def yX7_called : MethodName := ⟨RX7, "called", "(III)I"⟩
theorem dX7_called_0 : decode cX7_called 0 = .ok (.iload_n 1, 1) := by decide +kernel
theorem dX7_called_1 : decode cX7_called 1 = .ok (.ireturn, 1) := by decide +kernel
abbrev cX7_drinks : ByteArray := prog_8_method_7_code
def yX7_drinks : MethodName := ⟨RX7, "drinks", "(I)I"⟩
def dkwX7_drinks_0 : List UInt8 := [42, 180, 0, 9, 16, 10, 182, 0, 22, 27, 42, 180, 0, 15, 96, 172]
abbrev dktX7_drinks_0 : List UInt8 := dkwX7_drinks_0 ++ []
theorem dksX7_drinks_0 : cX7_drinks.data.toList.drop 0 = dktX7_drinks_0 := by decide +kernel
theorem dX7_drinks_0 : decode cX7_drinks 0 = .ok (.aload_n 0, 1) := dk_42 (dk_at dksX7_drinks_0 0 rfl rfl)
theorem dX7_drinks_1 : decode cX7_drinks 1 = .ok (.getfield 9, 3) := dk_180 0 9 (dk_at dksX7_drinks_0 1 rfl rfl)
theorem dX7_drinks_4 : decode cX7_drinks 4 = .ok (.bipush 10, 2) := dk_16 10 (dk_at dksX7_drinks_0 4 rfl rfl)
theorem dX7_drinks_6 : decode cX7_drinks 6 = .ok (.invokevirtual 22, 3) := dk_182 0 22 (dk_at dksX7_drinks_0 6 rfl rfl)
theorem dX7_drinks_9 : decode cX7_drinks 9 = .ok (.iload_n 1, 1) := dk_27 (dk_at dksX7_drinks_0 9 rfl rfl)
theorem dX7_drinks_10 : decode cX7_drinks 10 = .ok (.aload_n 0, 1) := dk_42 (dk_at dksX7_drinks_0 10 rfl rfl)
theorem dX7_drinks_11 : decode cX7_drinks 11 = .ok (.getfield 15, 3) := dk_180 0 15 (dk_at dksX7_drinks_0 11 rfl rfl)
theorem dX7_drinks_14 : decode cX7_drinks 14 = .ok (.iadd, 1) := dk_96 (dk_at dksX7_drinks_0 14 rfl rfl)
theorem dX7_drinks_15 : decode cX7_drinks 15 = .ok (.ireturn, 1) := dk_172 (dk_at dksX7_drinks_0 15 rfl rfl)
abbrev cX7_calls : ByteArray := prog_8_method_8_code
def yX7_calls : MethodName := ⟨RX7, "calls", "(I)I"⟩
def dkwX7_calls_0 : List UInt8 := [42, 180, 0, 9, 16, 11, 182, 0, 22, 42, 27, 182, 0, 28, 5, 104, 172]
abbrev dktX7_calls_0 : List UInt8 := dkwX7_calls_0 ++ []
theorem dksX7_calls_0 : cX7_calls.data.toList.drop 0 = dktX7_calls_0 := by decide +kernel
theorem dX7_calls_0 : decode cX7_calls 0 = .ok (.aload_n 0, 1) := dk_42 (dk_at dksX7_calls_0 0 rfl rfl)
theorem dX7_calls_1 : decode cX7_calls 1 = .ok (.getfield 9, 3) := dk_180 0 9 (dk_at dksX7_calls_0 1 rfl rfl)
theorem dX7_calls_4 : decode cX7_calls 4 = .ok (.bipush 11, 2) := dk_16 11 (dk_at dksX7_calls_0 4 rfl rfl)
theorem dX7_calls_6 : decode cX7_calls 6 = .ok (.invokevirtual 22, 3) := dk_182 0 22 (dk_at dksX7_calls_0 6 rfl rfl)
theorem dX7_calls_9 : decode cX7_calls 9 = .ok (.aload_n 0, 1) := dk_42 (dk_at dksX7_calls_0 9 rfl rfl)
theorem dX7_calls_10 : decode cX7_calls 10 = .ok (.iload_n 1, 1) := dk_27 (dk_at dksX7_calls_0 10 rfl rfl)
theorem dX7_calls_11 : decode cX7_calls 11 = .ok (.invokevirtual 28, 3) := dk_182 0 28 (dk_at dksX7_calls_0 11 rfl rfl)
theorem dX7_calls_14 : decode cX7_calls 14 = .ok (.iconst 2, 1) := dk_5 (dk_at dksX7_calls_0 14 rfl rfl)
theorem dX7_calls_15 : decode cX7_calls 15 = .ok (.imul, 1) := dk_104 (dk_at dksX7_calls_0 15 rfl rfl)
theorem dX7_calls_16 : decode cX7_calls 16 = .ok (.ireturn, 1) := dk_172 (dk_at dksX7_calls_0 16 rfl rfl)
abbrev cX7_owes : ByteArray := prog_8_method_9_code
def yX7_owes : MethodName := ⟨RX7, "owes", "(I)I"⟩
def dkwX7_owes_0 : List UInt8 := [42, 180, 0, 9, 16, 12, 182, 0, 22, 27, 42, 180, 0, 19, 100, 172]
abbrev dktX7_owes_0 : List UInt8 := dkwX7_owes_0 ++ []
theorem dksX7_owes_0 : cX7_owes.data.toList.drop 0 = dktX7_owes_0 := by decide +kernel
theorem dX7_owes_0 : decode cX7_owes 0 = .ok (.aload_n 0, 1) := dk_42 (dk_at dksX7_owes_0 0 rfl rfl)
theorem dX7_owes_1 : decode cX7_owes 1 = .ok (.getfield 9, 3) := dk_180 0 9 (dk_at dksX7_owes_0 1 rfl rfl)
theorem dX7_owes_4 : decode cX7_owes 4 = .ok (.bipush 12, 2) := dk_16 12 (dk_at dksX7_owes_0 4 rfl rfl)
theorem dX7_owes_6 : decode cX7_owes 6 = .ok (.invokevirtual 22, 3) := dk_182 0 22 (dk_at dksX7_owes_0 6 rfl rfl)
theorem dX7_owes_9 : decode cX7_owes 9 = .ok (.iload_n 1, 1) := dk_27 (dk_at dksX7_owes_0 9 rfl rfl)
theorem dX7_owes_10 : decode cX7_owes 10 = .ok (.aload_n 0, 1) := dk_42 (dk_at dksX7_owes_0 10 rfl rfl)
theorem dX7_owes_11 : decode cX7_owes 11 = .ok (.getfield 19, 3) := dk_180 0 19 (dk_at dksX7_owes_0 11 rfl rfl)
theorem dX7_owes_14 : decode cX7_owes 14 = .ok (.isub, 1) := dk_100 (dk_at dksX7_owes_0 14 rfl rfl)
theorem dX7_owes_15 : decode cX7_owes 15 = .ok (.ireturn, 1) := dk_172 (dk_at dksX7_owes_0 15 rfl rfl)
abbrev cX7_tells : ByteArray := prog_8_method_10_code
def yX7_tells : MethodName := ⟨RX7, "tells", "(I)I"⟩
def dkwX7_tells_0 : List UInt8 := [42, 180, 0, 9, 16, 13, 182, 0, 22, 42, 27, 182, 0, 32, 61, 28, 42, 27, 182, 0, 35, 130, 172]
abbrev dktX7_tells_0 : List UInt8 := dkwX7_tells_0 ++ []
theorem dksX7_tells_0 : cX7_tells.data.toList.drop 0 = dktX7_tells_0 := by decide +kernel
theorem dX7_tells_0 : decode cX7_tells 0 = .ok (.aload_n 0, 1) := dk_42 (dk_at dksX7_tells_0 0 rfl rfl)
theorem dX7_tells_1 : decode cX7_tells 1 = .ok (.getfield 9, 3) := dk_180 0 9 (dk_at dksX7_tells_0 1 rfl rfl)
theorem dX7_tells_4 : decode cX7_tells 4 = .ok (.bipush 13, 2) := dk_16 13 (dk_at dksX7_tells_0 4 rfl rfl)
theorem dX7_tells_6 : decode cX7_tells 6 = .ok (.invokevirtual 22, 3) := dk_182 0 22 (dk_at dksX7_tells_0 6 rfl rfl)
theorem dX7_tells_9 : decode cX7_tells 9 = .ok (.aload_n 0, 1) := dk_42 (dk_at dksX7_tells_0 9 rfl rfl)
theorem dX7_tells_10 : decode cX7_tells 10 = .ok (.iload_n 1, 1) := dk_27 (dk_at dksX7_tells_0 10 rfl rfl)
theorem dX7_tells_11 : decode cX7_tells 11 = .ok (.invokevirtual 32, 3) := dk_182 0 32 (dk_at dksX7_tells_0 11 rfl rfl)
theorem dX7_tells_14 : decode cX7_tells 14 = .ok (.istore_n 2, 1) := dk_61 (dk_at dksX7_tells_0 14 rfl rfl)
theorem dX7_tells_15 : decode cX7_tells 15 = .ok (.iload_n 2, 1) := dk_28 (dk_at dksX7_tells_0 15 rfl rfl)
theorem dX7_tells_16 : decode cX7_tells 16 = .ok (.aload_n 0, 1) := dk_42 (dk_at dksX7_tells_0 16 rfl rfl)
theorem dX7_tells_17 : decode cX7_tells 17 = .ok (.iload_n 1, 1) := dk_27 (dk_at dksX7_tells_0 17 rfl rfl)
theorem dX7_tells_18 : decode cX7_tells 18 = .ok (.invokevirtual 35, 3) := dk_182 0 35 (dk_at dksX7_tells_0 18 rfl rfl)
theorem dX7_tells_21 : decode cX7_tells 21 = .ok (.ixor, 1) := dk_130 (dk_at dksX7_tells_0 21 rfl rfl)
theorem dX7_tells_22 : decode cX7_tells 22 = .ok (.ireturn, 1) := dk_172 (dk_at dksX7_tells_0 22 rfl rfl)
theorem q90 : (Jvm.Cond.initialized "WellNames$Drinker") ∈ lw_all := lw_g (lw_at lw_m1 11 rfl) rfl
theorem q423 : (Jvm.Cond.instanceMethod ({ cls := "WellNames$Drinker", name := "<init>", desc := "(LWellNames$Trace;II)V" } : Jvm.MethodName)) ∈ lw_all := lw_g (lw_at lw_m2 104 rfl) rfl
theorem q424 : (Jvm.Cond.code ({ cls := "WellNames$Drinker", name := "<init>", desc := "(LWellNames$Trace;II)V" } : Jvm.MethodName) prog_8_method_1_code (4 : Nat) (Option.none : Option Jvm.ClassFile.FieldType)) ∈ lw_all := lw_g (lw_at lw_m2 105 rfl) rfl
theorem q425 : (Jvm.Cond.methodLink "WellNames$Drinker" (3 : Nat) ({ cls := "java/lang/Object", name := "<init>", desc := "()V" } : Jvm.MethodName)) ∈ lw_all := lw_g (lw_at lw_m2 106 rfl) rfl
theorem q426 : (Jvm.Cond.fieldLink "WellNames$Drinker" (9 : Nat) "WellNames$Drinker" "trace" "LWellNames$Trace;") ∈ lw_all := lw_g (lw_at lw_m2 107 rfl) rfl
theorem q439 : (Jvm.Cond.fieldLink "WellNames$Drinker" (15 : Nat) "WellNames$Drinker" "number" "I") ∈ lw_all := lw_g (lw_at lw_m2 120 rfl) rfl
theorem q442 : (Jvm.Cond.fieldLink "WellNames$Drinker" (19 : Nat) "WellNames$Drinker" "m" "I") ∈ lw_all := lw_g (lw_at lw_m2 123 rfl) rfl
theorem q454 : (Jvm.Cond.soleField "WellNames$Drinker" "trace") ∈ lw_all := lw_g (lw_at lw_m2 135 rfl) rfl
theorem q456 : (Jvm.Cond.soleField "WellNames$Drinker" "number") ∈ lw_all := lw_g (lw_at lw_m2 137 rfl) rfl
theorem q458 : (Jvm.Cond.soleField "WellNames$Drinker" "m") ∈ lw_all := lw_g (lw_at lw_m2 139 rfl) rfl
theorem q511 : (Jvm.Cond.instantiable "WellNames$Drinker" (3 : Nat)) ∈ lw_all := lw_g (lw_at lw_m2 192 rfl) rfl
theorem q513 : (Jvm.Cond.laysFinal "WellNames$Drinker" "WellNames$Drinker" "trace" "LWellNames$Trace;") ∈ lw_all := lw_g (lw_at lw_m2 194 rfl) rfl
theorem q514 : (Jvm.Cond.laysFinal "WellNames$Drinker" "WellNames$Drinker" "number" "I") ∈ lw_all := lw_g (lw_at lw_m2 195 rfl) rfl
theorem q515 : (Jvm.Cond.laysFinal "WellNames$Drinker" "WellNames$Drinker" "m" "I") ∈ lw_all := lw_g (lw_at lw_m2 196 rfl) rfl
theorem q516 : (Jvm.Cond.superclass "WellNames$Drinker" "java/lang/Object") ∈ lw_all := lw_g (lw_at lw_m2 197 rfl) rfl
theorem q530 : (Jvm.Cond.instanceMethod ({ cls := "WellNames$Drinker", name := "kind", desc := "()I" } : Jvm.MethodName)) ∈ lw_all := lw_g (lw_at lw_m2 211 rfl) rfl
theorem q531 : (Jvm.Cond.selects "WellNames$Drinker" ({ cls := "WellNames$Drinker", name := "kind", desc := "()I" } : Jvm.MethodName) ({ cls := "WellNames$Drinker", name := "kind", desc := "()I" } : Jvm.MethodName)) ∈ lw_all := lw_g (lw_at lw_m2 212 rfl) rfl
theorem q532 : (Jvm.Cond.sameMethod "WellNames$Drinker" "WellNames$Drinker" "kind" "()I") ∈ lw_all := lw_g (lw_at lw_m2 213 rfl) rfl
theorem q551 : (Jvm.Cond.code ({ cls := "WellNames$Drinker", name := "kind", desc := "()I" } : Jvm.MethodName) prog_8_method_2_code (1 : Nat) (Option.some Jvm.ClassFile.FieldType.int)) ∈ lw_all := lw_g (lw_at lw_m2 232 rfl) rfl
theorem q553 : (Jvm.Cond.instanceMethod ({ cls := "WellNames$Drinker", name := "limit", desc := "()I" } : Jvm.MethodName)) ∈ lw_all := lw_g (lw_at lw_m2 234 rfl) rfl
theorem q554 : (Jvm.Cond.selects "WellNames$Drinker" ({ cls := "WellNames$Drinker", name := "limit", desc := "()I" } : Jvm.MethodName) ({ cls := "WellNames$Drinker", name := "limit", desc := "()I" } : Jvm.MethodName)) ∈ lw_all := lw_g (lw_at lw_m2 235 rfl) rfl
theorem q555 : (Jvm.Cond.sameMethod "WellNames$Drinker" "WellNames$Drinker" "limit" "()I") ∈ lw_all := lw_g (lw_at lw_m2 236 rfl) rfl
theorem q573 : (Jvm.Cond.code ({ cls := "WellNames$Drinker", name := "limit", desc := "()I" } : Jvm.MethodName) prog_8_method_4_code (1 : Nat) (Option.some Jvm.ClassFile.FieldType.int)) ∈ lw_all := lw_g (lw_at lw_m3 14 rfl) rfl
theorem q579 : (Jvm.Cond.instanceMethod ({ cls := "WellNames$Drinker", name := "needs", desc := "(LWellNames$Desert;I)I" } : Jvm.MethodName)) ∈ lw_all := lw_g (lw_at lw_m3 20 rfl) rfl
theorem q580 : (Jvm.Cond.selects "WellNames$Drinker" ({ cls := "WellNames$Drinker", name := "needs", desc := "(LWellNames$Desert;I)I" } : Jvm.MethodName) ({ cls := "WellNames$Drinker", name := "needs", desc := "(LWellNames$Desert;I)I" } : Jvm.MethodName)) ∈ lw_all := lw_g (lw_at lw_m3 21 rfl) rfl
theorem q581 : (Jvm.Cond.sameMethod "WellNames$Drinker" "WellNames$Drinker" "needs" "(LWellNames$Desert;I)I") ∈ lw_all := lw_g (lw_at lw_m3 22 rfl) rfl
theorem q630 : (Jvm.Cond.code ({ cls := "WellNames$Drinker", name := "needs", desc := "(LWellNames$Desert;I)I" } : Jvm.MethodName) prog_8_method_5_code (3 : Nat) (Option.some Jvm.ClassFile.FieldType.int)) ∈ lw_all := lw_g (lw_at lw_m3 71 rfl) rfl
theorem q640 : (Jvm.Cond.instanceMethod ({ cls := "WellNames$Drinker", name := "isOf", desc := "(I)Z" } : Jvm.MethodName)) ∈ lw_all := lw_g (lw_at lw_m3 81 rfl) rfl
theorem q641 : (Jvm.Cond.selects "WellNames$Drinker" ({ cls := "WellNames$Drinker", name := "isOf", desc := "(I)Z" } : Jvm.MethodName) ({ cls := "WellNames$Drinker", name := "isOf", desc := "(I)Z" } : Jvm.MethodName)) ∈ lw_all := lw_g (lw_at lw_m3 82 rfl) rfl
theorem q642 : (Jvm.Cond.sameMethod "WellNames$Drinker" "WellNames$Drinker" "isOf" "(I)Z") ∈ lw_all := lw_g (lw_at lw_m3 83 rfl) rfl
theorem q667 : (Jvm.Cond.code ({ cls := "WellNames$Drinker", name := "isOf", desc := "(I)Z" } : Jvm.MethodName) prog_8_method_3_code (2 : Nat) (Option.some Jvm.ClassFile.FieldType.boolean)) ∈ lw_all := lw_g (lw_at lw_m3 108 rfl) rfl
theorem q926 : (Jvm.Cond.instanceMethod ({ cls := "WellNames$Drinker", name := "called", desc := "(III)I" } : Jvm.MethodName)) ∈ lw_all := lw_g (lw_at lw_m4 127 rfl) rfl
theorem q927 : (Jvm.Cond.selects "WellNames$Drinker" ({ cls := "WellNames$Drinker", name := "called", desc := "(III)I" } : Jvm.MethodName) ({ cls := "WellNames$Drinker", name := "called", desc := "(III)I" } : Jvm.MethodName)) ∈ lw_all := lw_g (lw_at lw_m4 128 rfl) rfl
theorem q928 : (Jvm.Cond.sameMethod "WellNames$Drinker" "WellNames$Drinker" "called" "(III)I") ∈ lw_all := lw_g (lw_at lw_m4 129 rfl) rfl
theorem q941 : (Jvm.Cond.declares ({ cls := "WellNames$Drinker", name := "called", desc := "(III)I" } : Jvm.MethodName)) ∈ lw_tbl := lw_at lw_m4 142 rfl
theorem q947 : (Jvm.Cond.code ({ cls := "WellNames$Drinker", name := "called", desc := "(III)I" } : Jvm.MethodName) prog_8_method_6_code (4 : Nat) (Option.some Jvm.ClassFile.FieldType.int)) ∈ lw_all := lw_g (lw_at lw_m4 148 rfl) rfl
theorem q1137 : (Jvm.Cond.instanceMethod ({ cls := "WellNames$Drinker", name := "drinks", desc := "(I)I" } : Jvm.MethodName)) ∈ lw_all := lw_g (lw_at lw_m5 98 rfl) rfl
theorem q1138 : (Jvm.Cond.publicMethod ({ cls := "WellNames$Drinker", name := "drinks", desc := "(I)I" } : Jvm.MethodName)) ∈ lw_tbl := lw_at lw_m5 99 rfl
theorem q1139 : (Jvm.Cond.code ({ cls := "WellNames$Drinker", name := "drinks", desc := "(I)I" } : Jvm.MethodName) prog_8_method_7_code (2 : Nat) (Option.some Jvm.ClassFile.FieldType.int)) ∈ lw_all := lw_g (lw_at lw_m5 100 rfl) rfl
theorem q1140 : (Jvm.Cond.methodLink "WellNames$Drinker" (22 : Nat) ({ cls := "WellNames$Trace", name := "begins", desc := "(I)V" } : Jvm.MethodName)) ∈ lw_all := lw_g (lw_at lw_m5 101 rfl) rfl
theorem q1150 : (Jvm.Cond.castable "WellNames$Drinker" "WellNames$Drinks") ∈ lw_tbl := lw_at lw_m5 111 rfl
theorem q1151 : (Jvm.Cond.selects "WellNames$Drinker" ({ cls := "WellNames$Drinks", name := "drinks", desc := "(I)I" } : Jvm.MethodName) ({ cls := "WellNames$Drinker", name := "drinks", desc := "(I)I" } : Jvm.MethodName)) ∈ lw_all := lw_g (lw_at lw_m5 112 rfl) rfl
theorem q1152 : (Jvm.Cond.unhidden "WellNames$Drinker" "drinks" "(I)I") ∈ lw_tbl := lw_at lw_m5 113 rfl
theorem q1174 : (Jvm.Cond.instanceMethod ({ cls := "WellNames$Drinker", name := "calls", desc := "(I)I" } : Jvm.MethodName)) ∈ lw_all := lw_g (lw_at lw_m5 135 rfl) rfl
theorem q1175 : (Jvm.Cond.publicMethod ({ cls := "WellNames$Drinker", name := "calls", desc := "(I)I" } : Jvm.MethodName)) ∈ lw_tbl := lw_at lw_m5 136 rfl
theorem q1176 : (Jvm.Cond.code ({ cls := "WellNames$Drinker", name := "calls", desc := "(I)I" } : Jvm.MethodName) prog_8_method_8_code (2 : Nat) (Option.some Jvm.ClassFile.FieldType.int)) ∈ lw_all := lw_g (lw_at lw_m5 137 rfl) rfl
theorem q1177 : (Jvm.Cond.methodLink "WellNames$Drinker" (28 : Nat) ({ cls := "WellNames$Drinker", name := "drinks", desc := "(I)I" } : Jvm.MethodName)) ∈ lw_all := lw_g (lw_at lw_m5 138 rfl) rfl
theorem q1191 : (Jvm.Cond.declares ({ cls := "WellNames$Drinker", name := "owes", desc := "(I)I" } : Jvm.MethodName)) ∈ lw_tbl := lw_at lw_m5 152 rfl
theorem q1194 : (Jvm.Cond.instanceMethod ({ cls := "WellNames$Drinker", name := "owes", desc := "(I)I" } : Jvm.MethodName)) ∈ lw_all := lw_g (lw_at lw_m5 155 rfl) rfl
theorem q1195 : (Jvm.Cond.code ({ cls := "WellNames$Drinker", name := "owes", desc := "(I)I" } : Jvm.MethodName) prog_8_method_9_code (2 : Nat) (Option.some Jvm.ClassFile.FieldType.int)) ∈ lw_all := lw_g (lw_at lw_m5 156 rfl) rfl
theorem q1196 : (Jvm.Cond.castable "WellNames$Drinker" "WellNames$Calls") ∈ lw_tbl := lw_at lw_m5 157 rfl
theorem q1197 : (Jvm.Cond.selects "WellNames$Drinker" ({ cls := "WellNames$Calls", name := "calls", desc := "(I)I" } : Jvm.MethodName) ({ cls := "WellNames$Drinker", name := "calls", desc := "(I)I" } : Jvm.MethodName)) ∈ lw_all := lw_g (lw_at lw_m5 158 rfl) rfl
theorem q1198 : (Jvm.Cond.unhidden "WellNames$Drinker" "calls" "(I)I") ∈ lw_tbl := lw_at lw_m5 159 rfl
theorem q1236 : (Jvm.Cond.publicMethod ({ cls := "WellNames$Drinker", name := "owes", desc := "(I)I" } : Jvm.MethodName)) ∈ lw_tbl := lw_at lw_m5 197 rfl
theorem q1237 : (Jvm.Cond.castable "WellNames$Drinker" "WellNames$Owes") ∈ lw_tbl := lw_at lw_m5 198 rfl
theorem q1238 : (Jvm.Cond.selects "WellNames$Drinker" ({ cls := "WellNames$Owes", name := "owes", desc := "(I)I" } : Jvm.MethodName) ({ cls := "WellNames$Drinker", name := "owes", desc := "(I)I" } : Jvm.MethodName)) ∈ lw_all := lw_g (lw_at lw_m5 199 rfl) rfl
theorem q1239 : (Jvm.Cond.unhidden "WellNames$Drinker" "owes" "(I)I") ∈ lw_tbl := lw_at lw_m5 200 rfl
theorem q1261 : (Jvm.Cond.declares ({ cls := "WellNames$Drinker", name := "calls", desc := "(I)I" } : Jvm.MethodName)) ∈ lw_tbl := lw_at lw_m5 222 rfl
theorem q1265 : (Jvm.Cond.declares ({ cls := "WellNames$Drinker", name := "tells", desc := "(I)I" } : Jvm.MethodName)) ∈ lw_tbl := lw_at lw_m5 226 rfl
theorem q1266 : (Jvm.Cond.instanceMethod ({ cls := "WellNames$Drinker", name := "tells", desc := "(I)I" } : Jvm.MethodName)) ∈ lw_all := lw_g (lw_at lw_m5 227 rfl) rfl
theorem q1267 : (Jvm.Cond.code ({ cls := "WellNames$Drinker", name := "tells", desc := "(I)I" } : Jvm.MethodName) prog_8_method_10_code (3 : Nat) (Option.some Jvm.ClassFile.FieldType.int)) ∈ lw_all := lw_g (lw_at lw_m5 228 rfl) rfl
theorem q1268 : (Jvm.Cond.methodLink "WellNames$Drinker" (32 : Nat) ({ cls := "WellNames$Drinker", name := "calls", desc := "(I)I" } : Jvm.MethodName)) ∈ lw_all := lw_g (lw_at lw_m5 229 rfl) rfl
theorem q1269 : (Jvm.Cond.methodLink "WellNames$Drinker" (35 : Nat) ({ cls := "WellNames$Drinker", name := "owes", desc := "(I)I" } : Jvm.MethodName)) ∈ lw_all := lw_g (lw_at lw_m5 230 rfl) rfl
theorem q1273 : (Jvm.Cond.publicMethod ({ cls := "WellNames$Drinker", name := "tells", desc := "(I)I" } : Jvm.MethodName)) ∈ lw_tbl := lw_at lw_m5 234 rfl
theorem q1277 : (Jvm.Cond.castable "WellNames$Drinker" "WellNames$Tells") ∈ lw_tbl := lw_at lw_m5 238 rfl
theorem q1278 : (Jvm.Cond.selects "WellNames$Drinker" ({ cls := "WellNames$Tells", name := "tells", desc := "(I)I" } : Jvm.MethodName) ({ cls := "WellNames$Drinker", name := "tells", desc := "(I)I" } : Jvm.MethodName)) ∈ lw_all := lw_g (lw_at lw_m5 239 rfl) rfl
theorem q1279 : (Jvm.Cond.unhidden "WellNames$Drinker" "tells" "(I)I") ∈ lw_tbl := lw_at lw_m6 0 rfl
theorem q1943 : (Jvm.Cond.sameMethod "WellNames$Drinker" "WellNames$Drinker" "drinks" "(I)I") ∈ lw_all := lw_g (lw_at lw_m8 184 rfl) rfl
theorem q1947 : (Jvm.Cond.selects "WellNames$Drinker" ({ cls := "WellNames$Drinker", name := "drinks", desc := "(I)I" } : Jvm.MethodName) ({ cls := "WellNames$Drinker", name := "drinks", desc := "(I)I" } : Jvm.MethodName)) ∈ lw_all := lw_g (lw_at lw_m8 188 rfl) rfl
theorem q1951 : (Jvm.Cond.sameMethod "WellNames$Drinker" "WellNames$Drinker" "calls" "(I)I") ∈ lw_all := lw_g (lw_at lw_m8 192 rfl) rfl
theorem q1954 : (Jvm.Cond.sameMethod "WellNames$Drinker" "WellNames$Drinker" "owes" "(I)I") ∈ lw_all := lw_g (lw_at lw_m8 195 rfl) rfl
theorem q1958 : (Jvm.Cond.selects "WellNames$Drinker" ({ cls := "WellNames$Drinker", name := "calls", desc := "(I)I" } : Jvm.MethodName) ({ cls := "WellNames$Drinker", name := "calls", desc := "(I)I" } : Jvm.MethodName)) ∈ lw_all := lw_g (lw_at lw_m8 199 rfl) rfl
theorem q1965 : (Jvm.Cond.selects "WellNames$Drinker" ({ cls := "WellNames$Drinker", name := "owes", desc := "(I)I" } : Jvm.MethodName) ({ cls := "WellNames$Drinker", name := "owes", desc := "(I)I" } : Jvm.MethodName)) ∈ lw_all := lw_g (lw_at lw_m8 206 rfl) rfl
theorem in_X7 : ∀ w ∈ wsX70, w ∈ lw_all := lw_in wsX70 [513, 514, 515] (by decide +kernel) (by decide +kernel)

/-! WellNames$Flask -/
set_option maxRecDepth 100000
def RX8 : String := "WellNames$Flask"
def TX8 : u_T := fun k => match k with
  | 0 => ("WellNames$Drinker", "trace", "LWellNames$Trace;", true)
  | 1 => ("WellNames$Drinker", "number", "I", true)
  | _ => ("WellNames$Drinker", "m", "I", true)
def tyX8 : Nat → FieldType := fun k => match k with
  | 0 => .object "WellNames$Trace"
  | 1 => .int
  | _ => .int
abbrev wsX80 : List Cond := u_ws RX8 TX8 3
theorem nmX8 : ∀ a, a < 3 → ∀ b, b < 3 → a ≠ b → (TX8 a).2.1 ≠ (TX8 b).2.1 := by decide +kernel
theorem tyX8_ok : ∀ k, k < 3 → parseFieldDescriptor (TX8 k).2.2.1 = some (tyX8 k) := by decide +kernel
abbrev cX8_init : ByteArray := prog_14_method_1_code
def yX8_init : MethodName := ⟨RX8, "<init>", "(LWellNames$Trace;II)V"⟩
def dkwX8_init_0 : List UInt8 := [42, 43, 28, 29, 183, 0, 3, 177]
abbrev dktX8_init_0 : List UInt8 := dkwX8_init_0 ++ []
theorem dksX8_init_0 : cX8_init.data.toList.drop 0 = dktX8_init_0 := by decide +kernel
theorem dX8_init_0 : decode cX8_init 0 = .ok (.aload_n 0, 1) := dk_42 (dk_at dksX8_init_0 0 rfl rfl)
theorem dX8_init_1 : decode cX8_init 1 = .ok (.aload_n 1, 1) := dk_43 (dk_at dksX8_init_0 1 rfl rfl)
theorem dX8_init_2 : decode cX8_init 2 = .ok (.iload_n 2, 1) := dk_28 (dk_at dksX8_init_0 2 rfl rfl)
theorem dX8_init_3 : decode cX8_init 3 = .ok (.iload_n 3, 1) := dk_29 (dk_at dksX8_init_0 3 rfl rfl)
theorem dX8_init_4 : decode cX8_init 4 = .ok (.invokespecial 3, 3) := dk_183 0 3 (dk_at dksX8_init_0 4 rfl rfl)
theorem dX8_init_7 : decode cX8_init 7 = .ok (.return_, 1) := dk_177 (dk_at dksX8_init_0 7 rfl rfl)
abbrev cX8_kind : ByteArray := prog_14_method_2_code
def yX8_kind : MethodName := ⟨RX8, "kind", "()I"⟩
theorem dX8_kind_0 : decode cX8_kind 0 = .ok (.iconst 1, 1) := by decide +kernel
theorem dX8_kind_1 : decode cX8_kind 1 = .ok (.ireturn, 1) := by decide +kernel
abbrev cX8_limit : ByteArray := prog_14_method_4_code
def yX8_limit : MethodName := ⟨RX8, "limit", "()I"⟩
def dkwX8_limit_0 : List UInt8 := [42, 183, 0, 13, 42, 180, 0, 17, 96, 172]
abbrev dktX8_limit_0 : List UInt8 := dkwX8_limit_0 ++ []
theorem dksX8_limit_0 : cX8_limit.data.toList.drop 0 = dktX8_limit_0 := by decide +kernel
theorem dX8_limit_0 : decode cX8_limit 0 = .ok (.aload_n 0, 1) := dk_42 (dk_at dksX8_limit_0 0 rfl rfl)
theorem dX8_limit_1 : decode cX8_limit 1 = .ok (.invokespecial 13, 3) := dk_183 0 13 (dk_at dksX8_limit_0 1 rfl rfl)
theorem dX8_limit_4 : decode cX8_limit 4 = .ok (.aload_n 0, 1) := dk_42 (dk_at dksX8_limit_0 4 rfl rfl)
theorem dX8_limit_5 : decode cX8_limit 5 = .ok (.getfield 17, 3) := dk_180 0 17 (dk_at dksX8_limit_0 5 rfl rfl)
theorem dX8_limit_8 : decode cX8_limit 8 = .ok (.iadd, 1) := dk_96 (dk_at dksX8_limit_0 8 rfl rfl)
theorem dX8_limit_9 : decode cX8_limit 9 = .ok (.ireturn, 1) := dk_172 (dk_at dksX8_limit_0 9 rfl rfl)
abbrev cX8_isOf : ByteArray := prog_14_method_3_code
def yX8_isOf : MethodName := ⟨RX8, "isOf", "(I)Z"⟩
def dkwX8_isOf_0 : List UInt8 := [27, 4, 159, 0, 11, 42, 27, 183, 0, 9, 153, 0, 7, 4, 167, 0, 4, 3, 172]
abbrev dktX8_isOf_0 : List UInt8 := dkwX8_isOf_0 ++ []
theorem dksX8_isOf_0 : cX8_isOf.data.toList.drop 0 = dktX8_isOf_0 := by decide +kernel
theorem dX8_isOf_0 : decode cX8_isOf 0 = .ok (.iload_n 1, 1) := dk_27 (dk_at dksX8_isOf_0 0 rfl rfl)
theorem dX8_isOf_1 : decode cX8_isOf 1 = .ok (.iconst 1, 1) := dk_4 (dk_at dksX8_isOf_0 1 rfl rfl)
theorem dX8_isOf_2 : decode cX8_isOf 2 = .ok (.if_icmp .eq 11, 3) := dk_159 0 11 (dk_at dksX8_isOf_0 2 rfl rfl)
theorem dX8_isOf_5 : decode cX8_isOf 5 = .ok (.aload_n 0, 1) := dk_42 (dk_at dksX8_isOf_0 5 rfl rfl)
theorem dX8_isOf_6 : decode cX8_isOf 6 = .ok (.iload_n 1, 1) := dk_27 (dk_at dksX8_isOf_0 6 rfl rfl)
theorem dX8_isOf_7 : decode cX8_isOf 7 = .ok (.invokespecial 9, 3) := dk_183 0 9 (dk_at dksX8_isOf_0 7 rfl rfl)
theorem dX8_isOf_10 : decode cX8_isOf 10 = .ok (.ifCond .eq 7, 3) := dk_153 0 7 (dk_at dksX8_isOf_0 10 rfl rfl)
theorem dX8_isOf_13 : decode cX8_isOf 13 = .ok (.iconst 1, 1) := dk_4 (dk_at dksX8_isOf_0 13 rfl rfl)
theorem dX8_isOf_14 : decode cX8_isOf 14 = .ok (.goto 4, 3) := dk_167 0 4 (dk_at dksX8_isOf_0 14 rfl rfl)
theorem dX8_isOf_17 : decode cX8_isOf 17 = .ok (.iconst 0, 1) := dk_3 (dk_at dksX8_isOf_0 17 rfl rfl)
theorem dX8_isOf_18 : decode cX8_isOf 18 = .ok (.ireturn, 1) := dk_172 (dk_at dksX8_isOf_0 18 rfl rfl)
abbrev cX8_drinks : ByteArray := prog_14_method_5_code
def yX8_drinks : MethodName := ⟨RX8, "drinks", "(I)I"⟩
def dkwX8_drinks_0 : List UInt8 := [42, 180, 0, 23, 16, 20, 182, 0, 27, 42, 27, 183, 0, 33, 6, 104, 172]
abbrev dktX8_drinks_0 : List UInt8 := dkwX8_drinks_0 ++ []
theorem dksX8_drinks_0 : cX8_drinks.data.toList.drop 0 = dktX8_drinks_0 := by decide +kernel
theorem dX8_drinks_0 : decode cX8_drinks 0 = .ok (.aload_n 0, 1) := dk_42 (dk_at dksX8_drinks_0 0 rfl rfl)
theorem dX8_drinks_1 : decode cX8_drinks 1 = .ok (.getfield 23, 3) := dk_180 0 23 (dk_at dksX8_drinks_0 1 rfl rfl)
theorem dX8_drinks_4 : decode cX8_drinks 4 = .ok (.bipush 20, 2) := dk_16 20 (dk_at dksX8_drinks_0 4 rfl rfl)
theorem dX8_drinks_6 : decode cX8_drinks 6 = .ok (.invokevirtual 27, 3) := dk_182 0 27 (dk_at dksX8_drinks_0 6 rfl rfl)
theorem dX8_drinks_9 : decode cX8_drinks 9 = .ok (.aload_n 0, 1) := dk_42 (dk_at dksX8_drinks_0 9 rfl rfl)
theorem dX8_drinks_10 : decode cX8_drinks 10 = .ok (.iload_n 1, 1) := dk_27 (dk_at dksX8_drinks_0 10 rfl rfl)
theorem dX8_drinks_11 : decode cX8_drinks 11 = .ok (.invokespecial 33, 3) := dk_183 0 33 (dk_at dksX8_drinks_0 11 rfl rfl)
theorem dX8_drinks_14 : decode cX8_drinks 14 = .ok (.iconst 3, 1) := dk_6 (dk_at dksX8_drinks_0 14 rfl rfl)
theorem dX8_drinks_15 : decode cX8_drinks 15 = .ok (.imul, 1) := dk_104 (dk_at dksX8_drinks_0 15 rfl rfl)
theorem dX8_drinks_16 : decode cX8_drinks 16 = .ok (.ireturn, 1) := dk_172 (dk_at dksX8_drinks_0 16 rfl rfl)
theorem q91 : (Jvm.Cond.initialized "WellNames$Flask") ∈ lw_all := lw_g (lw_at lw_m1 12 rfl) rfl
theorem q418 : (Jvm.Cond.instantiable "WellNames$Flask" (3 : Nat)) ∈ lw_all := lw_g (lw_at lw_m2 99 rfl) rfl
theorem q420 : (Jvm.Cond.instanceMethod ({ cls := "WellNames$Flask", name := "<init>", desc := "(LWellNames$Trace;II)V" } : Jvm.MethodName)) ∈ lw_all := lw_g (lw_at lw_m2 101 rfl) rfl
theorem q421 : (Jvm.Cond.code ({ cls := "WellNames$Flask", name := "<init>", desc := "(LWellNames$Trace;II)V" } : Jvm.MethodName) prog_14_method_1_code (4 : Nat) (Option.none : Option Jvm.ClassFile.FieldType)) ∈ lw_all := lw_g (lw_at lw_m2 102 rfl) rfl
theorem q422 : (Jvm.Cond.methodLink "WellNames$Flask" (3 : Nat) ({ cls := "WellNames$Drinker", name := "<init>", desc := "(LWellNames$Trace;II)V" } : Jvm.MethodName)) ∈ lw_all := lw_g (lw_at lw_m2 103 rfl) rfl
theorem q427 : (Jvm.Cond.fieldLink "WellNames$Flask" (23 : Nat) "WellNames$Flask" "trace" "LWellNames$Trace;") ∈ lw_all := lw_g (lw_at lw_m2 108 rfl) rfl
theorem q428 : (Jvm.Cond.sameField "WellNames$Flask" "WellNames$Drinker" "trace" "LWellNames$Trace;") ∈ lw_all := lw_g (lw_at lw_m2 109 rfl) rfl
theorem q443 : (Jvm.Cond.fieldLink "WellNames$Flask" (17 : Nat) "WellNames$Flask" "m" "I") ∈ lw_all := lw_g (lw_at lw_m2 124 rfl) rfl
theorem q444 : (Jvm.Cond.sameField "WellNames$Flask" "WellNames$Drinker" "m" "I") ∈ lw_all := lw_g (lw_at lw_m2 125 rfl) rfl
theorem q453 : (Jvm.Cond.laysFinal "WellNames$Flask" "WellNames$Drinker" "trace" "LWellNames$Trace;") ∈ lw_all := lw_g (lw_at lw_m2 134 rfl) rfl
theorem q455 : (Jvm.Cond.laysFinal "WellNames$Flask" "WellNames$Drinker" "number" "I") ∈ lw_all := lw_g (lw_at lw_m2 136 rfl) rfl
theorem q457 : (Jvm.Cond.laysFinal "WellNames$Flask" "WellNames$Drinker" "m" "I") ∈ lw_all := lw_g (lw_at lw_m2 138 rfl) rfl
theorem q459 : (Jvm.Cond.superclass "WellNames$Flask" "WellNames$Drinker") ∈ lw_all := lw_g (lw_at lw_m2 140 rfl) rfl
theorem q542 : (Jvm.Cond.selects "WellNames$Flask" ({ cls := "WellNames$Drinker", name := "kind", desc := "()I" } : Jvm.MethodName) ({ cls := "WellNames$Flask", name := "kind", desc := "()I" } : Jvm.MethodName)) ∈ lw_all := lw_g (lw_at lw_m2 223 rfl) rfl
theorem q543 : (Jvm.Cond.instanceMethod ({ cls := "WellNames$Flask", name := "kind", desc := "()I" } : Jvm.MethodName)) ∈ lw_all := lw_g (lw_at lw_m2 224 rfl) rfl
theorem q544 : (Jvm.Cond.code ({ cls := "WellNames$Flask", name := "kind", desc := "()I" } : Jvm.MethodName) prog_14_method_2_code (1 : Nat) (Option.some Jvm.ClassFile.FieldType.int)) ∈ lw_all := lw_g (lw_at lw_m2 225 rfl) rfl
theorem q564 : (Jvm.Cond.selects "WellNames$Flask" ({ cls := "WellNames$Drinker", name := "limit", desc := "()I" } : Jvm.MethodName) ({ cls := "WellNames$Flask", name := "limit", desc := "()I" } : Jvm.MethodName)) ∈ lw_all := lw_g (lw_at lw_m3 5 rfl) rfl
theorem q565 : (Jvm.Cond.instanceMethod ({ cls := "WellNames$Flask", name := "limit", desc := "()I" } : Jvm.MethodName)) ∈ lw_all := lw_g (lw_at lw_m3 6 rfl) rfl
theorem q566 : (Jvm.Cond.code ({ cls := "WellNames$Flask", name := "limit", desc := "()I" } : Jvm.MethodName) prog_14_method_4_code (1 : Nat) (Option.some Jvm.ClassFile.FieldType.int)) ∈ lw_all := lw_g (lw_at lw_m3 7 rfl) rfl
theorem q567 : (Jvm.Cond.methodLink "WellNames$Flask" (13 : Nat) ({ cls := "WellNames$Drinker", name := "limit", desc := "()I" } : Jvm.MethodName)) ∈ lw_all := lw_g (lw_at lw_m3 8 rfl) rfl
theorem q627 : (Jvm.Cond.selects "WellNames$Flask" ({ cls := "WellNames$Drinker", name := "needs", desc := "(LWellNames$Desert;I)I" } : Jvm.MethodName) ({ cls := "WellNames$Drinker", name := "needs", desc := "(LWellNames$Desert;I)I" } : Jvm.MethodName)) ∈ lw_all := lw_g (lw_at lw_m3 68 rfl) rfl
theorem q655 : (Jvm.Cond.selects "WellNames$Flask" ({ cls := "WellNames$Drinker", name := "isOf", desc := "(I)Z" } : Jvm.MethodName) ({ cls := "WellNames$Flask", name := "isOf", desc := "(I)Z" } : Jvm.MethodName)) ∈ lw_all := lw_g (lw_at lw_m3 96 rfl) rfl
theorem q656 : (Jvm.Cond.instanceMethod ({ cls := "WellNames$Flask", name := "isOf", desc := "(I)Z" } : Jvm.MethodName)) ∈ lw_all := lw_g (lw_at lw_m3 97 rfl) rfl
theorem q657 : (Jvm.Cond.code ({ cls := "WellNames$Flask", name := "isOf", desc := "(I)Z" } : Jvm.MethodName) prog_14_method_3_code (2 : Nat) (Option.some Jvm.ClassFile.FieldType.boolean)) ∈ lw_all := lw_g (lw_at lw_m3 98 rfl) rfl
theorem q658 : (Jvm.Cond.methodLink "WellNames$Flask" (9 : Nat) ({ cls := "WellNames$Drinker", name := "isOf", desc := "(I)Z" } : Jvm.MethodName)) ∈ lw_all := lw_g (lw_at lw_m3 99 rfl) rfl
theorem q935 : (Jvm.Cond.selects "WellNames$Flask" ({ cls := "WellNames$Drinker", name := "called", desc := "(III)I" } : Jvm.MethodName) ({ cls := "WellNames$Drinker", name := "called", desc := "(III)I" } : Jvm.MethodName)) ∈ lw_all := lw_g (lw_at lw_m4 136 rfl) rfl
theorem q946 : (Jvm.Cond.sameMethod "WellNames$Flask" "WellNames$Drinker" "called" "(III)I") ∈ lw_all := lw_g (lw_at lw_m4 147 rfl) rfl
theorem q1153 : (Jvm.Cond.castable "WellNames$Flask" "WellNames$Drinks") ∈ lw_tbl := lw_at lw_m5 114 rfl
theorem q1154 : (Jvm.Cond.selects "WellNames$Flask" ({ cls := "WellNames$Drinks", name := "drinks", desc := "(I)I" } : Jvm.MethodName) ({ cls := "WellNames$Flask", name := "drinks", desc := "(I)I" } : Jvm.MethodName)) ∈ lw_all := lw_g (lw_at lw_m5 115 rfl) rfl
theorem q1155 : (Jvm.Cond.unhidden "WellNames$Flask" "drinks" "(I)I") ∈ lw_tbl := lw_at lw_m5 116 rfl
theorem q1156 : (Jvm.Cond.instanceMethod ({ cls := "WellNames$Flask", name := "drinks", desc := "(I)I" } : Jvm.MethodName)) ∈ lw_all := lw_g (lw_at lw_m5 117 rfl) rfl
theorem q1157 : (Jvm.Cond.publicMethod ({ cls := "WellNames$Flask", name := "drinks", desc := "(I)I" } : Jvm.MethodName)) ∈ lw_tbl := lw_at lw_m5 118 rfl
theorem q1158 : (Jvm.Cond.code ({ cls := "WellNames$Flask", name := "drinks", desc := "(I)I" } : Jvm.MethodName) prog_14_method_5_code (2 : Nat) (Option.some Jvm.ClassFile.FieldType.int)) ∈ lw_all := lw_g (lw_at lw_m5 119 rfl) rfl
theorem q1159 : (Jvm.Cond.methodLink "WellNames$Flask" (27 : Nat) ({ cls := "WellNames$Trace", name := "begins", desc := "(I)V" } : Jvm.MethodName)) ∈ lw_all := lw_g (lw_at lw_m5 120 rfl) rfl
theorem q1160 : (Jvm.Cond.methodLink "WellNames$Flask" (33 : Nat) ({ cls := "WellNames$Drinker", name := "drinks", desc := "(I)I" } : Jvm.MethodName)) ∈ lw_all := lw_g (lw_at lw_m5 121 rfl) rfl
theorem q1199 : (Jvm.Cond.castable "WellNames$Flask" "WellNames$Calls") ∈ lw_tbl := lw_at lw_m5 160 rfl
theorem q1200 : (Jvm.Cond.selects "WellNames$Flask" ({ cls := "WellNames$Calls", name := "calls", desc := "(I)I" } : Jvm.MethodName) ({ cls := "WellNames$Drinker", name := "calls", desc := "(I)I" } : Jvm.MethodName)) ∈ lw_all := lw_g (lw_at lw_m5 161 rfl) rfl
theorem q1201 : (Jvm.Cond.unhidden "WellNames$Flask" "calls" "(I)I") ∈ lw_tbl := lw_at lw_m5 162 rfl
theorem q1240 : (Jvm.Cond.castable "WellNames$Flask" "WellNames$Owes") ∈ lw_tbl := lw_at lw_m5 201 rfl
theorem q1241 : (Jvm.Cond.selects "WellNames$Flask" ({ cls := "WellNames$Owes", name := "owes", desc := "(I)I" } : Jvm.MethodName) ({ cls := "WellNames$Drinker", name := "owes", desc := "(I)I" } : Jvm.MethodName)) ∈ lw_all := lw_g (lw_at lw_m5 202 rfl) rfl
theorem q1242 : (Jvm.Cond.unhidden "WellNames$Flask" "owes" "(I)I") ∈ lw_tbl := lw_at lw_m5 203 rfl
theorem q1280 : (Jvm.Cond.castable "WellNames$Flask" "WellNames$Tells") ∈ lw_tbl := lw_at lw_m6 1 rfl
theorem q1281 : (Jvm.Cond.selects "WellNames$Flask" ({ cls := "WellNames$Tells", name := "tells", desc := "(I)I" } : Jvm.MethodName) ({ cls := "WellNames$Drinker", name := "tells", desc := "(I)I" } : Jvm.MethodName)) ∈ lw_all := lw_g (lw_at lw_m6 2 rfl) rfl
theorem q1282 : (Jvm.Cond.unhidden "WellNames$Flask" "tells" "(I)I") ∈ lw_tbl := lw_at lw_m6 3 rfl
theorem q1294 : (Jvm.Cond.sameMethod "WellNames$Flask" "WellNames$Drinker" "tells" "(I)I") ∈ lw_all := lw_g (lw_at lw_m6 15 rfl) rfl
theorem q1297 : (Jvm.Cond.declares ({ cls := "WellNames$Flask", name := "drinks", desc := "(I)I" } : Jvm.MethodName)) ∈ lw_tbl := lw_at lw_m6 18 rfl
theorem q1942 : (Jvm.Cond.sameMethod "WellNames$Flask" "WellNames$Flask" "isOf" "(I)Z") ∈ lw_all := lw_g (lw_at lw_m8 183 rfl) rfl
theorem q1948 : (Jvm.Cond.selects "WellNames$Flask" ({ cls := "WellNames$Drinker", name := "drinks", desc := "(I)I" } : Jvm.MethodName) ({ cls := "WellNames$Flask", name := "drinks", desc := "(I)I" } : Jvm.MethodName)) ∈ lw_all := lw_g (lw_at lw_m8 189 rfl) rfl
theorem q1959 : (Jvm.Cond.selects "WellNames$Flask" ({ cls := "WellNames$Drinker", name := "calls", desc := "(I)I" } : Jvm.MethodName) ({ cls := "WellNames$Drinker", name := "calls", desc := "(I)I" } : Jvm.MethodName)) ∈ lw_all := lw_g (lw_at lw_m8 200 rfl) rfl
theorem q1966 : (Jvm.Cond.selects "WellNames$Flask" ({ cls := "WellNames$Drinker", name := "owes", desc := "(I)I" } : Jvm.MethodName) ({ cls := "WellNames$Drinker", name := "owes", desc := "(I)I" } : Jvm.MethodName)) ∈ lw_all := lw_g (lw_at lw_m8 207 rfl) rfl
theorem q1972 : (Jvm.Cond.castable "WellNames$Flask" "WellNames$Drinker") ∈ lw_tbl := lw_at lw_m8 213 rfl
theorem in_X8 : ∀ w ∈ wsX80, w ∈ lw_all := lw_in wsX80 [453, 455, 457] (by decide +kernel) (by decide +kernel)

/-! WellNames$Child -/
set_option maxRecDepth 100000
def RX9 : String := "WellNames$Child"
def TX9 : u_T := fun k => match k with
  | 0 => ("WellNames$Drinker", "trace", "LWellNames$Trace;", true)
  | 1 => ("WellNames$Drinker", "number", "I", true)
  | _ => ("WellNames$Drinker", "m", "I", true)
def tyX9 : Nat → FieldType := fun k => match k with
  | 0 => .object "WellNames$Trace"
  | 1 => .int
  | _ => .int
abbrev wsX90 : List Cond := u_ws RX9 TX9 3
theorem nmX9 : ∀ a, a < 3 → ∀ b, b < 3 → a ≠ b → (TX9 a).2.1 ≠ (TX9 b).2.1 := by decide +kernel
theorem tyX9_ok : ∀ k, k < 3 → parseFieldDescriptor (TX9 k).2.2.1 = some (tyX9 k) := by decide +kernel
abbrev cX9_init : ByteArray := prog_6_method_1_code
def yX9_init : MethodName := ⟨RX9, "<init>", "(LWellNames$Trace;II)V"⟩
def dkwX9_init_0 : List UInt8 := [42, 43, 28, 29, 183, 0, 3, 177]
abbrev dktX9_init_0 : List UInt8 := dkwX9_init_0 ++ []
theorem dksX9_init_0 : cX9_init.data.toList.drop 0 = dktX9_init_0 := by decide +kernel
theorem dX9_init_0 : decode cX9_init 0 = .ok (.aload_n 0, 1) := dk_42 (dk_at dksX9_init_0 0 rfl rfl)
theorem dX9_init_1 : decode cX9_init 1 = .ok (.aload_n 1, 1) := dk_43 (dk_at dksX9_init_0 1 rfl rfl)
theorem dX9_init_2 : decode cX9_init 2 = .ok (.iload_n 2, 1) := dk_28 (dk_at dksX9_init_0 2 rfl rfl)
theorem dX9_init_3 : decode cX9_init 3 = .ok (.iload_n 3, 1) := dk_29 (dk_at dksX9_init_0 3 rfl rfl)
theorem dX9_init_4 : decode cX9_init 4 = .ok (.invokespecial 3, 3) := dk_183 0 3 (dk_at dksX9_init_0 4 rfl rfl)
theorem dX9_init_7 : decode cX9_init 7 = .ok (.return_, 1) := dk_177 (dk_at dksX9_init_0 7 rfl rfl)
abbrev cX9_kind : ByteArray := prog_6_method_2_code
def yX9_kind : MethodName := ⟨RX9, "kind", "()I"⟩
theorem dX9_kind_0 : decode cX9_kind 0 = .ok (.iconst 2, 1) := by decide +kernel
theorem dX9_kind_1 : decode cX9_kind 1 = .ok (.ireturn, 1) := by decide +kernel
abbrev cX9_limit : ByteArray := prog_6_method_4_code
def yX9_limit : MethodName := ⟨RX9, "limit", "()I"⟩
theorem dX9_limit_0 : decode cX9_limit 0 = .ok (.bipush 8, 2) := by decide +kernel
theorem dX9_limit_2 : decode cX9_limit 2 = .ok (.ireturn, 1) := by decide +kernel
abbrev cX9_isOf : ByteArray := prog_6_method_3_code
def yX9_isOf : MethodName := ⟨RX9, "isOf", "(I)Z"⟩
def dkwX9_isOf_0 : List UInt8 := [27, 5, 159, 0, 11, 42, 27, 183, 0, 9, 153, 0, 7, 4, 167, 0, 4, 3, 172]
abbrev dktX9_isOf_0 : List UInt8 := dkwX9_isOf_0 ++ []
theorem dksX9_isOf_0 : cX9_isOf.data.toList.drop 0 = dktX9_isOf_0 := by decide +kernel
theorem dX9_isOf_0 : decode cX9_isOf 0 = .ok (.iload_n 1, 1) := dk_27 (dk_at dksX9_isOf_0 0 rfl rfl)
theorem dX9_isOf_1 : decode cX9_isOf 1 = .ok (.iconst 2, 1) := dk_5 (dk_at dksX9_isOf_0 1 rfl rfl)
theorem dX9_isOf_2 : decode cX9_isOf 2 = .ok (.if_icmp .eq 11, 3) := dk_159 0 11 (dk_at dksX9_isOf_0 2 rfl rfl)
theorem dX9_isOf_5 : decode cX9_isOf 5 = .ok (.aload_n 0, 1) := dk_42 (dk_at dksX9_isOf_0 5 rfl rfl)
theorem dX9_isOf_6 : decode cX9_isOf 6 = .ok (.iload_n 1, 1) := dk_27 (dk_at dksX9_isOf_0 6 rfl rfl)
theorem dX9_isOf_7 : decode cX9_isOf 7 = .ok (.invokespecial 9, 3) := dk_183 0 9 (dk_at dksX9_isOf_0 7 rfl rfl)
theorem dX9_isOf_10 : decode cX9_isOf 10 = .ok (.ifCond .eq 7, 3) := dk_153 0 7 (dk_at dksX9_isOf_0 10 rfl rfl)
theorem dX9_isOf_13 : decode cX9_isOf 13 = .ok (.iconst 1, 1) := dk_4 (dk_at dksX9_isOf_0 13 rfl rfl)
theorem dX9_isOf_14 : decode cX9_isOf 14 = .ok (.goto 4, 3) := dk_167 0 4 (dk_at dksX9_isOf_0 14 rfl rfl)
theorem dX9_isOf_17 : decode cX9_isOf 17 = .ok (.iconst 0, 1) := dk_3 (dk_at dksX9_isOf_0 17 rfl rfl)
theorem dX9_isOf_18 : decode cX9_isOf 18 = .ok (.ireturn, 1) := dk_172 (dk_at dksX9_isOf_0 18 rfl rfl)
abbrev cX9_calls : ByteArray := prog_6_method_5_code
def yX9_calls : MethodName := ⟨RX9, "calls", "(I)I"⟩
def dkwX9_calls_0 : List UInt8 := [42, 180, 0, 13, 16, 30, 182, 0, 19, 42, 27, 183, 0, 25, 61, 28, 42, 4, 182, 0, 29, 100, 172]
abbrev dktX9_calls_0 : List UInt8 := dkwX9_calls_0 ++ []
theorem dksX9_calls_0 : cX9_calls.data.toList.drop 0 = dktX9_calls_0 := by decide +kernel
theorem dX9_calls_0 : decode cX9_calls 0 = .ok (.aload_n 0, 1) := dk_42 (dk_at dksX9_calls_0 0 rfl rfl)
theorem dX9_calls_1 : decode cX9_calls 1 = .ok (.getfield 13, 3) := dk_180 0 13 (dk_at dksX9_calls_0 1 rfl rfl)
theorem dX9_calls_4 : decode cX9_calls 4 = .ok (.bipush 30, 2) := dk_16 30 (dk_at dksX9_calls_0 4 rfl rfl)
theorem dX9_calls_6 : decode cX9_calls 6 = .ok (.invokevirtual 19, 3) := dk_182 0 19 (dk_at dksX9_calls_0 6 rfl rfl)
theorem dX9_calls_9 : decode cX9_calls 9 = .ok (.aload_n 0, 1) := dk_42 (dk_at dksX9_calls_0 9 rfl rfl)
theorem dX9_calls_10 : decode cX9_calls 10 = .ok (.iload_n 1, 1) := dk_27 (dk_at dksX9_calls_0 10 rfl rfl)
theorem dX9_calls_11 : decode cX9_calls 11 = .ok (.invokespecial 25, 3) := dk_183 0 25 (dk_at dksX9_calls_0 11 rfl rfl)
theorem dX9_calls_14 : decode cX9_calls 14 = .ok (.istore_n 2, 1) := dk_61 (dk_at dksX9_calls_0 14 rfl rfl)
theorem dX9_calls_15 : decode cX9_calls 15 = .ok (.iload_n 2, 1) := dk_28 (dk_at dksX9_calls_0 15 rfl rfl)
theorem dX9_calls_16 : decode cX9_calls 16 = .ok (.aload_n 0, 1) := dk_42 (dk_at dksX9_calls_0 16 rfl rfl)
theorem dX9_calls_17 : decode cX9_calls 17 = .ok (.iconst 1, 1) := dk_4 (dk_at dksX9_calls_0 17 rfl rfl)
theorem dX9_calls_18 : decode cX9_calls 18 = .ok (.invokevirtual 29, 3) := dk_182 0 29 (dk_at dksX9_calls_0 18 rfl rfl)
theorem dX9_calls_21 : decode cX9_calls 21 = .ok (.isub, 1) := dk_100 (dk_at dksX9_calls_0 21 rfl rfl)
theorem dX9_calls_22 : decode cX9_calls 22 = .ok (.ireturn, 1) := dk_172 (dk_at dksX9_calls_0 22 rfl rfl)
theorem q92 : (Jvm.Cond.initialized "WellNames$Child") ∈ lw_all := lw_g (lw_at lw_m1 13 rfl) rfl
theorem q429 : (Jvm.Cond.fieldLink "WellNames$Child" (13 : Nat) "WellNames$Child" "trace" "LWellNames$Trace;") ∈ lw_all := lw_g (lw_at lw_m2 110 rfl) rfl
theorem q430 : (Jvm.Cond.sameField "WellNames$Child" "WellNames$Drinker" "trace" "LWellNames$Trace;") ∈ lw_all := lw_g (lw_at lw_m2 111 rfl) rfl
theorem q461 : (Jvm.Cond.instantiable "WellNames$Child" (3 : Nat)) ∈ lw_all := lw_g (lw_at lw_m2 142 rfl) rfl
theorem q463 : (Jvm.Cond.instanceMethod ({ cls := "WellNames$Child", name := "<init>", desc := "(LWellNames$Trace;II)V" } : Jvm.MethodName)) ∈ lw_all := lw_g (lw_at lw_m2 144 rfl) rfl
theorem q464 : (Jvm.Cond.code ({ cls := "WellNames$Child", name := "<init>", desc := "(LWellNames$Trace;II)V" } : Jvm.MethodName) prog_6_method_1_code (4 : Nat) (Option.none : Option Jvm.ClassFile.FieldType)) ∈ lw_all := lw_g (lw_at lw_m2 145 rfl) rfl
theorem q465 : (Jvm.Cond.methodLink "WellNames$Child" (3 : Nat) ({ cls := "WellNames$Drinker", name := "<init>", desc := "(LWellNames$Trace;II)V" } : Jvm.MethodName)) ∈ lw_all := lw_g (lw_at lw_m2 146 rfl) rfl
theorem q466 : (Jvm.Cond.laysFinal "WellNames$Child" "WellNames$Drinker" "trace" "LWellNames$Trace;") ∈ lw_all := lw_g (lw_at lw_m2 147 rfl) rfl
theorem q467 : (Jvm.Cond.laysFinal "WellNames$Child" "WellNames$Drinker" "number" "I") ∈ lw_all := lw_g (lw_at lw_m2 148 rfl) rfl
theorem q468 : (Jvm.Cond.laysFinal "WellNames$Child" "WellNames$Drinker" "m" "I") ∈ lw_all := lw_g (lw_at lw_m2 149 rfl) rfl
theorem q469 : (Jvm.Cond.superclass "WellNames$Child" "WellNames$Drinker") ∈ lw_all := lw_g (lw_at lw_m2 150 rfl) rfl
theorem q539 : (Jvm.Cond.selects "WellNames$Child" ({ cls := "WellNames$Drinker", name := "kind", desc := "()I" } : Jvm.MethodName) ({ cls := "WellNames$Child", name := "kind", desc := "()I" } : Jvm.MethodName)) ∈ lw_all := lw_g (lw_at lw_m2 220 rfl) rfl
theorem q540 : (Jvm.Cond.instanceMethod ({ cls := "WellNames$Child", name := "kind", desc := "()I" } : Jvm.MethodName)) ∈ lw_all := lw_g (lw_at lw_m2 221 rfl) rfl
theorem q541 : (Jvm.Cond.code ({ cls := "WellNames$Child", name := "kind", desc := "()I" } : Jvm.MethodName) prog_6_method_2_code (1 : Nat) (Option.some Jvm.ClassFile.FieldType.int)) ∈ lw_all := lw_g (lw_at lw_m2 222 rfl) rfl
theorem q561 : (Jvm.Cond.selects "WellNames$Child" ({ cls := "WellNames$Drinker", name := "limit", desc := "()I" } : Jvm.MethodName) ({ cls := "WellNames$Child", name := "limit", desc := "()I" } : Jvm.MethodName)) ∈ lw_all := lw_g (lw_at lw_m3 2 rfl) rfl
theorem q562 : (Jvm.Cond.instanceMethod ({ cls := "WellNames$Child", name := "limit", desc := "()I" } : Jvm.MethodName)) ∈ lw_all := lw_g (lw_at lw_m3 3 rfl) rfl
theorem q563 : (Jvm.Cond.code ({ cls := "WellNames$Child", name := "limit", desc := "()I" } : Jvm.MethodName) prog_6_method_4_code (1 : Nat) (Option.some Jvm.ClassFile.FieldType.int)) ∈ lw_all := lw_g (lw_at lw_m3 4 rfl) rfl
theorem q626 : (Jvm.Cond.selects "WellNames$Child" ({ cls := "WellNames$Drinker", name := "needs", desc := "(LWellNames$Desert;I)I" } : Jvm.MethodName) ({ cls := "WellNames$Drinker", name := "needs", desc := "(LWellNames$Desert;I)I" } : Jvm.MethodName)) ∈ lw_all := lw_g (lw_at lw_m3 67 rfl) rfl
theorem q651 : (Jvm.Cond.selects "WellNames$Child" ({ cls := "WellNames$Drinker", name := "isOf", desc := "(I)Z" } : Jvm.MethodName) ({ cls := "WellNames$Child", name := "isOf", desc := "(I)Z" } : Jvm.MethodName)) ∈ lw_all := lw_g (lw_at lw_m3 92 rfl) rfl
theorem q652 : (Jvm.Cond.instanceMethod ({ cls := "WellNames$Child", name := "isOf", desc := "(I)Z" } : Jvm.MethodName)) ∈ lw_all := lw_g (lw_at lw_m3 93 rfl) rfl
theorem q653 : (Jvm.Cond.code ({ cls := "WellNames$Child", name := "isOf", desc := "(I)Z" } : Jvm.MethodName) prog_6_method_3_code (2 : Nat) (Option.some Jvm.ClassFile.FieldType.boolean)) ∈ lw_all := lw_g (lw_at lw_m3 94 rfl) rfl
theorem q654 : (Jvm.Cond.methodLink "WellNames$Child" (9 : Nat) ({ cls := "WellNames$Drinker", name := "isOf", desc := "(I)Z" } : Jvm.MethodName)) ∈ lw_all := lw_g (lw_at lw_m3 95 rfl) rfl
theorem q934 : (Jvm.Cond.selects "WellNames$Child" ({ cls := "WellNames$Drinker", name := "called", desc := "(III)I" } : Jvm.MethodName) ({ cls := "WellNames$Drinker", name := "called", desc := "(III)I" } : Jvm.MethodName)) ∈ lw_all := lw_g (lw_at lw_m4 135 rfl) rfl
theorem q940 : (Jvm.Cond.sameMethod "WellNames$Child" "WellNames$Drinker" "called" "(III)I") ∈ lw_all := lw_g (lw_at lw_m4 141 rfl) rfl
theorem q1147 : (Jvm.Cond.castable "WellNames$Child" "WellNames$Drinks") ∈ lw_tbl := lw_at lw_m5 108 rfl
theorem q1148 : (Jvm.Cond.selects "WellNames$Child" ({ cls := "WellNames$Drinks", name := "drinks", desc := "(I)I" } : Jvm.MethodName) ({ cls := "WellNames$Drinker", name := "drinks", desc := "(I)I" } : Jvm.MethodName)) ∈ lw_all := lw_g (lw_at lw_m5 109 rfl) rfl
theorem q1149 : (Jvm.Cond.unhidden "WellNames$Child" "drinks" "(I)I") ∈ lw_tbl := lw_at lw_m5 110 rfl
theorem q1181 : (Jvm.Cond.castable "WellNames$Child" "WellNames$Calls") ∈ lw_tbl := lw_at lw_m5 142 rfl
theorem q1182 : (Jvm.Cond.selects "WellNames$Child" ({ cls := "WellNames$Calls", name := "calls", desc := "(I)I" } : Jvm.MethodName) ({ cls := "WellNames$Child", name := "calls", desc := "(I)I" } : Jvm.MethodName)) ∈ lw_all := lw_g (lw_at lw_m5 143 rfl) rfl
theorem q1183 : (Jvm.Cond.unhidden "WellNames$Child" "calls" "(I)I") ∈ lw_tbl := lw_at lw_m5 144 rfl
theorem q1184 : (Jvm.Cond.instanceMethod ({ cls := "WellNames$Child", name := "calls", desc := "(I)I" } : Jvm.MethodName)) ∈ lw_all := lw_g (lw_at lw_m5 145 rfl) rfl
theorem q1185 : (Jvm.Cond.publicMethod ({ cls := "WellNames$Child", name := "calls", desc := "(I)I" } : Jvm.MethodName)) ∈ lw_tbl := lw_at lw_m5 146 rfl
theorem q1186 : (Jvm.Cond.code ({ cls := "WellNames$Child", name := "calls", desc := "(I)I" } : Jvm.MethodName) prog_6_method_5_code (3 : Nat) (Option.some Jvm.ClassFile.FieldType.int)) ∈ lw_all := lw_g (lw_at lw_m5 147 rfl) rfl
theorem q1187 : (Jvm.Cond.methodLink "WellNames$Child" (19 : Nat) ({ cls := "WellNames$Trace", name := "begins", desc := "(I)V" } : Jvm.MethodName)) ∈ lw_all := lw_g (lw_at lw_m5 148 rfl) rfl
theorem q1188 : (Jvm.Cond.methodLink "WellNames$Child" (25 : Nat) ({ cls := "WellNames$Drinker", name := "calls", desc := "(I)I" } : Jvm.MethodName)) ∈ lw_all := lw_g (lw_at lw_m5 149 rfl) rfl
theorem q1189 : (Jvm.Cond.methodLink "WellNames$Child" (29 : Nat) ({ cls := "WellNames$Child", name := "owes", desc := "(I)I" } : Jvm.MethodName)) ∈ lw_all := lw_g (lw_at lw_m5 150 rfl) rfl
theorem q1190 : (Jvm.Cond.sameMethod "WellNames$Child" "WellNames$Drinker" "owes" "(I)I") ∈ lw_all := lw_g (lw_at lw_m5 151 rfl) rfl
theorem q1192 : (Jvm.Cond.selects "WellNames$Child" ({ cls := "WellNames$Child", name := "owes", desc := "(I)I" } : Jvm.MethodName) ({ cls := "WellNames$Drinker", name := "owes", desc := "(I)I" } : Jvm.MethodName)) ∈ lw_all := lw_g (lw_at lw_m5 153 rfl) rfl
theorem q1233 : (Jvm.Cond.castable "WellNames$Child" "WellNames$Owes") ∈ lw_tbl := lw_at lw_m5 194 rfl
theorem q1234 : (Jvm.Cond.selects "WellNames$Child" ({ cls := "WellNames$Owes", name := "owes", desc := "(I)I" } : Jvm.MethodName) ({ cls := "WellNames$Drinker", name := "owes", desc := "(I)I" } : Jvm.MethodName)) ∈ lw_all := lw_g (lw_at lw_m5 195 rfl) rfl
theorem q1235 : (Jvm.Cond.unhidden "WellNames$Child" "owes" "(I)I") ∈ lw_tbl := lw_at lw_m5 196 rfl
theorem q1274 : (Jvm.Cond.castable "WellNames$Child" "WellNames$Tells") ∈ lw_tbl := lw_at lw_m5 235 rfl
theorem q1275 : (Jvm.Cond.selects "WellNames$Child" ({ cls := "WellNames$Tells", name := "tells", desc := "(I)I" } : Jvm.MethodName) ({ cls := "WellNames$Drinker", name := "tells", desc := "(I)I" } : Jvm.MethodName)) ∈ lw_all := lw_g (lw_at lw_m5 236 rfl) rfl
theorem q1276 : (Jvm.Cond.unhidden "WellNames$Child" "tells" "(I)I") ∈ lw_tbl := lw_at lw_m5 237 rfl
theorem q1938 : (Jvm.Cond.sameMethod "WellNames$Child" "WellNames$Child" "limit" "()I") ∈ lw_all := lw_g (lw_at lw_m8 179 rfl) rfl
theorem q1941 : (Jvm.Cond.sameMethod "WellNames$Child" "WellNames$Child" "isOf" "(I)Z") ∈ lw_all := lw_g (lw_at lw_m8 182 rfl) rfl
theorem q1946 : (Jvm.Cond.selects "WellNames$Child" ({ cls := "WellNames$Drinker", name := "drinks", desc := "(I)I" } : Jvm.MethodName) ({ cls := "WellNames$Drinker", name := "drinks", desc := "(I)I" } : Jvm.MethodName)) ∈ lw_all := lw_g (lw_at lw_m8 187 rfl) rfl
theorem q1952 : (Jvm.Cond.sameMethod "WellNames$Child" "WellNames$Child" "calls" "(I)I") ∈ lw_all := lw_g (lw_at lw_m8 193 rfl) rfl
theorem q1957 : (Jvm.Cond.selects "WellNames$Child" ({ cls := "WellNames$Drinker", name := "calls", desc := "(I)I" } : Jvm.MethodName) ({ cls := "WellNames$Child", name := "calls", desc := "(I)I" } : Jvm.MethodName)) ∈ lw_all := lw_g (lw_at lw_m8 198 rfl) rfl
theorem q1964 : (Jvm.Cond.selects "WellNames$Child" ({ cls := "WellNames$Drinker", name := "owes", desc := "(I)I" } : Jvm.MethodName) ({ cls := "WellNames$Drinker", name := "owes", desc := "(I)I" } : Jvm.MethodName)) ∈ lw_all := lw_g (lw_at lw_m8 205 rfl) rfl
theorem q1973 : (Jvm.Cond.castable "WellNames$Child" "WellNames$Drinker") ∈ lw_tbl := lw_at lw_m8 214 rfl
theorem in_X9 : ∀ w ∈ wsX90, w ∈ lw_all := lw_in wsX90 [466, 467, 468] (by decide +kernel) (by decide +kernel)

/-! WellNames$Camel -/
set_option maxRecDepth 100000
def RX10 : String := "WellNames$Camel"
def TX10 : u_T := fun k => match k with
  | 0 => ("WellNames$Drinker", "trace", "LWellNames$Trace;", true)
  | 1 => ("WellNames$Drinker", "number", "I", true)
  | _ => ("WellNames$Drinker", "m", "I", true)
def tyX10 : Nat → FieldType := fun k => match k with
  | 0 => .object "WellNames$Trace"
  | 1 => .int
  | _ => .int
abbrev wsX100 : List Cond := u_ws RX10 TX10 3
theorem nmX10 : ∀ a, a < 3 → ∀ b, b < 3 → a ≠ b → (TX10 a).2.1 ≠ (TX10 b).2.1 := by decide +kernel
theorem tyX10_ok : ∀ k, k < 3 → parseFieldDescriptor (TX10 k).2.2.1 = some (tyX10 k) := by decide +kernel
abbrev cX10_init : ByteArray := prog_5_method_1_code
def yX10_init : MethodName := ⟨RX10, "<init>", "(LWellNames$Trace;II)V"⟩
def dkwX10_init_0 : List UInt8 := [42, 43, 28, 29, 183, 0, 3, 177]
abbrev dktX10_init_0 : List UInt8 := dkwX10_init_0 ++ []
theorem dksX10_init_0 : cX10_init.data.toList.drop 0 = dktX10_init_0 := by decide +kernel
theorem dX10_init_0 : decode cX10_init 0 = .ok (.aload_n 0, 1) := dk_42 (dk_at dksX10_init_0 0 rfl rfl)
theorem dX10_init_1 : decode cX10_init 1 = .ok (.aload_n 1, 1) := dk_43 (dk_at dksX10_init_0 1 rfl rfl)
theorem dX10_init_2 : decode cX10_init 2 = .ok (.iload_n 2, 1) := dk_28 (dk_at dksX10_init_0 2 rfl rfl)
theorem dX10_init_3 : decode cX10_init 3 = .ok (.iload_n 3, 1) := dk_29 (dk_at dksX10_init_0 3 rfl rfl)
theorem dX10_init_4 : decode cX10_init 4 = .ok (.invokespecial 3, 3) := dk_183 0 3 (dk_at dksX10_init_0 4 rfl rfl)
theorem dX10_init_7 : decode cX10_init 7 = .ok (.return_, 1) := dk_177 (dk_at dksX10_init_0 7 rfl rfl)
abbrev cX10_kind : ByteArray := prog_5_method_2_code
def yX10_kind : MethodName := ⟨RX10, "kind", "()I"⟩
theorem dX10_kind_0 : decode cX10_kind 0 = .ok (.iconst 3, 1) := by decide +kernel
theorem dX10_kind_1 : decode cX10_kind 1 = .ok (.ireturn, 1) := by decide +kernel
abbrev cX10_limit : ByteArray := prog_5_method_4_code
def yX10_limit : MethodName := ⟨RX10, "limit", "()I"⟩
def dkwX10_limit_0 : List UInt8 := [6, 42, 183, 0, 13, 104, 172]
abbrev dktX10_limit_0 : List UInt8 := dkwX10_limit_0 ++ []
theorem dksX10_limit_0 : cX10_limit.data.toList.drop 0 = dktX10_limit_0 := by decide +kernel
theorem dX10_limit_0 : decode cX10_limit 0 = .ok (.iconst 3, 1) := dk_6 (dk_at dksX10_limit_0 0 rfl rfl)
theorem dX10_limit_1 : decode cX10_limit 1 = .ok (.aload_n 0, 1) := dk_42 (dk_at dksX10_limit_0 1 rfl rfl)
theorem dX10_limit_2 : decode cX10_limit 2 = .ok (.invokespecial 13, 3) := dk_183 0 13 (dk_at dksX10_limit_0 2 rfl rfl)
theorem dX10_limit_5 : decode cX10_limit 5 = .ok (.imul, 1) := dk_104 (dk_at dksX10_limit_0 5 rfl rfl)
theorem dX10_limit_6 : decode cX10_limit 6 = .ok (.ireturn, 1) := dk_172 (dk_at dksX10_limit_0 6 rfl rfl)
abbrev cX10_needs : ByteArray := prog_5_method_5_code
def yX10_needs : MethodName := ⟨RX10, "needs", "(LWellNames$Desert;I)I"⟩
def dkwX10_needs_0 : List UInt8 := [43, 42, 180, 0, 17, 28, 43, 180, 0, 23, 182, 0, 28, 172]
abbrev dktX10_needs_0 : List UInt8 := dkwX10_needs_0 ++ []
theorem dksX10_needs_0 : cX10_needs.data.toList.drop 0 = dktX10_needs_0 := by decide +kernel
theorem dX10_needs_0 : decode cX10_needs 0 = .ok (.aload_n 1, 1) := dk_43 (dk_at dksX10_needs_0 0 rfl rfl)
theorem dX10_needs_1 : decode cX10_needs 1 = .ok (.aload_n 0, 1) := dk_42 (dk_at dksX10_needs_0 1 rfl rfl)
theorem dX10_needs_2 : decode cX10_needs 2 = .ok (.getfield 17, 3) := dk_180 0 17 (dk_at dksX10_needs_0 2 rfl rfl)
theorem dX10_needs_5 : decode cX10_needs 5 = .ok (.iload_n 2, 1) := dk_28 (dk_at dksX10_needs_0 5 rfl rfl)
theorem dX10_needs_6 : decode cX10_needs 6 = .ok (.aload_n 1, 1) := dk_43 (dk_at dksX10_needs_0 6 rfl rfl)
theorem dX10_needs_7 : decode cX10_needs 7 = .ok (.getfield 23, 3) := dk_180 0 23 (dk_at dksX10_needs_0 7 rfl rfl)
theorem dX10_needs_10 : decode cX10_needs 10 = .ok (.invokevirtual 28, 3) := dk_182 0 28 (dk_at dksX10_needs_0 10 rfl rfl)
theorem dX10_needs_13 : decode cX10_needs 13 = .ok (.ireturn, 1) := dk_172 (dk_at dksX10_needs_0 13 rfl rfl)
abbrev cX10_isOf : ByteArray := prog_5_method_3_code
def yX10_isOf : MethodName := ⟨RX10, "isOf", "(I)Z"⟩
def dkwX10_isOf_0 : List UInt8 := [27, 6, 159, 0, 11, 42, 27, 183, 0, 9, 153, 0, 7, 4, 167, 0, 4, 3, 172]
abbrev dktX10_isOf_0 : List UInt8 := dkwX10_isOf_0 ++ []
theorem dksX10_isOf_0 : cX10_isOf.data.toList.drop 0 = dktX10_isOf_0 := by decide +kernel
theorem dX10_isOf_0 : decode cX10_isOf 0 = .ok (.iload_n 1, 1) := dk_27 (dk_at dksX10_isOf_0 0 rfl rfl)
theorem dX10_isOf_1 : decode cX10_isOf 1 = .ok (.iconst 3, 1) := dk_6 (dk_at dksX10_isOf_0 1 rfl rfl)
theorem dX10_isOf_2 : decode cX10_isOf 2 = .ok (.if_icmp .eq 11, 3) := dk_159 0 11 (dk_at dksX10_isOf_0 2 rfl rfl)
theorem dX10_isOf_5 : decode cX10_isOf 5 = .ok (.aload_n 0, 1) := dk_42 (dk_at dksX10_isOf_0 5 rfl rfl)
theorem dX10_isOf_6 : decode cX10_isOf 6 = .ok (.iload_n 1, 1) := dk_27 (dk_at dksX10_isOf_0 6 rfl rfl)
theorem dX10_isOf_7 : decode cX10_isOf 7 = .ok (.invokespecial 9, 3) := dk_183 0 9 (dk_at dksX10_isOf_0 7 rfl rfl)
theorem dX10_isOf_10 : decode cX10_isOf 10 = .ok (.ifCond .eq 7, 3) := dk_153 0 7 (dk_at dksX10_isOf_0 10 rfl rfl)
theorem dX10_isOf_13 : decode cX10_isOf 13 = .ok (.iconst 1, 1) := dk_4 (dk_at dksX10_isOf_0 13 rfl rfl)
theorem dX10_isOf_14 : decode cX10_isOf 14 = .ok (.goto 4, 3) := dk_167 0 4 (dk_at dksX10_isOf_0 14 rfl rfl)
theorem dX10_isOf_17 : decode cX10_isOf 17 = .ok (.iconst 0, 1) := dk_3 (dk_at dksX10_isOf_0 17 rfl rfl)
theorem dX10_isOf_18 : decode cX10_isOf 18 = .ok (.ireturn, 1) := dk_172 (dk_at dksX10_isOf_0 18 rfl rfl)
abbrev cX10_called : ByteArray := prog_5_method_6_code
def yX10_called : MethodName := ⟨RX10, "called", "(III)I"⟩
def dkwX10_called_0 : List UInt8 := [29, 5, 112, 154, 0, 13, 42, 27, 28, 29, 183, 0, 32, 167, 0, 4, 28, 172]
abbrev dktX10_called_0 : List UInt8 := dkwX10_called_0 ++ []
theorem dksX10_called_0 : cX10_called.data.toList.drop 0 = dktX10_called_0 := by decide +kernel
theorem dX10_called_0 : decode cX10_called 0 = .ok (.iload_n 3, 1) := dk_29 (dk_at dksX10_called_0 0 rfl rfl)
theorem dX10_called_1 : decode cX10_called 1 = .ok (.iconst 2, 1) := dk_5 (dk_at dksX10_called_0 1 rfl rfl)
theorem dX10_called_2 : decode cX10_called 2 = .ok (.irem, 1) := dk_112 (dk_at dksX10_called_0 2 rfl rfl)
theorem dX10_called_3 : decode cX10_called 3 = .ok (.ifCond .ne 13, 3) := dk_154 0 13 (dk_at dksX10_called_0 3 rfl rfl)
theorem dX10_called_6 : decode cX10_called 6 = .ok (.aload_n 0, 1) := dk_42 (dk_at dksX10_called_0 6 rfl rfl)
theorem dX10_called_7 : decode cX10_called 7 = .ok (.iload_n 1, 1) := dk_27 (dk_at dksX10_called_0 7 rfl rfl)
theorem dX10_called_8 : decode cX10_called 8 = .ok (.iload_n 2, 1) := dk_28 (dk_at dksX10_called_0 8 rfl rfl)
theorem dX10_called_9 : decode cX10_called 9 = .ok (.iload_n 3, 1) := dk_29 (dk_at dksX10_called_0 9 rfl rfl)
theorem dX10_called_10 : decode cX10_called 10 = .ok (.invokespecial 32, 3) := dk_183 0 32 (dk_at dksX10_called_0 10 rfl rfl)
theorem dX10_called_13 : decode cX10_called 13 = .ok (.goto 4, 3) := dk_167 0 4 (dk_at dksX10_called_0 13 rfl rfl)
theorem dX10_called_16 : decode cX10_called 16 = .ok (.iload_n 2, 1) := dk_28 (dk_at dksX10_called_0 16 rfl rfl)
theorem dX10_called_17 : decode cX10_called 17 = .ok (.ireturn, 1) := dk_172 (dk_at dksX10_called_0 17 rfl rfl)
abbrev cX10_owes : ByteArray := prog_5_method_7_code
def yX10_owes : MethodName := ⟨RX10, "owes", "(I)I"⟩
def dkwX10_owes_0 : List UInt8 := [42, 180, 0, 35, 16, 40, 182, 0, 39, 42, 27, 183, 0, 45, 116, 172]
abbrev dktX10_owes_0 : List UInt8 := dkwX10_owes_0 ++ []
theorem dksX10_owes_0 : cX10_owes.data.toList.drop 0 = dktX10_owes_0 := by decide +kernel
theorem dX10_owes_0 : decode cX10_owes 0 = .ok (.aload_n 0, 1) := dk_42 (dk_at dksX10_owes_0 0 rfl rfl)
theorem dX10_owes_1 : decode cX10_owes 1 = .ok (.getfield 35, 3) := dk_180 0 35 (dk_at dksX10_owes_0 1 rfl rfl)
theorem dX10_owes_4 : decode cX10_owes 4 = .ok (.bipush 40, 2) := dk_16 40 (dk_at dksX10_owes_0 4 rfl rfl)
theorem dX10_owes_6 : decode cX10_owes 6 = .ok (.invokevirtual 39, 3) := dk_182 0 39 (dk_at dksX10_owes_0 6 rfl rfl)
theorem dX10_owes_9 : decode cX10_owes 9 = .ok (.aload_n 0, 1) := dk_42 (dk_at dksX10_owes_0 9 rfl rfl)
theorem dX10_owes_10 : decode cX10_owes 10 = .ok (.iload_n 1, 1) := dk_27 (dk_at dksX10_owes_0 10 rfl rfl)
theorem dX10_owes_11 : decode cX10_owes 11 = .ok (.invokespecial 45, 3) := dk_183 0 45 (dk_at dksX10_owes_0 11 rfl rfl)
theorem dX10_owes_14 : decode cX10_owes 14 = .ok (.ineg, 1) := dk_116 (dk_at dksX10_owes_0 14 rfl rfl)
theorem dX10_owes_15 : decode cX10_owes 15 = .ok (.ireturn, 1) := dk_172 (dk_at dksX10_owes_0 15 rfl rfl)
theorem q93 : (Jvm.Cond.initialized "WellNames$Camel") ∈ lw_all := lw_g (lw_at lw_m1 14 rfl) rfl
theorem q228 : (Jvm.Cond.fieldLinkNest "WellNames$Camel" (23 : Nat) "WellNames$Desert" "day" "I" "WellNames") ∈ lw_tbl := lw_at lw_m1 149 rfl
theorem q437 : (Jvm.Cond.fieldLink "WellNames$Camel" (35 : Nat) "WellNames$Camel" "trace" "LWellNames$Trace;") ∈ lw_all := lw_g (lw_at lw_m2 118 rfl) rfl
theorem q438 : (Jvm.Cond.sameField "WellNames$Camel" "WellNames$Drinker" "trace" "LWellNames$Trace;") ∈ lw_all := lw_g (lw_at lw_m2 119 rfl) rfl
theorem q449 : (Jvm.Cond.fieldLink "WellNames$Camel" (17 : Nat) "WellNames$Camel" "m" "I") ∈ lw_all := lw_g (lw_at lw_m2 130 rfl) rfl
theorem q450 : (Jvm.Cond.sameField "WellNames$Camel" "WellNames$Drinker" "m" "I") ∈ lw_all := lw_g (lw_at lw_m2 131 rfl) rfl
theorem q471 : (Jvm.Cond.instantiable "WellNames$Camel" (3 : Nat)) ∈ lw_all := lw_g (lw_at lw_m2 152 rfl) rfl
theorem q473 : (Jvm.Cond.instanceMethod ({ cls := "WellNames$Camel", name := "<init>", desc := "(LWellNames$Trace;II)V" } : Jvm.MethodName)) ∈ lw_all := lw_g (lw_at lw_m2 154 rfl) rfl
theorem q474 : (Jvm.Cond.code ({ cls := "WellNames$Camel", name := "<init>", desc := "(LWellNames$Trace;II)V" } : Jvm.MethodName) prog_5_method_1_code (4 : Nat) (Option.none : Option Jvm.ClassFile.FieldType)) ∈ lw_all := lw_g (lw_at lw_m2 155 rfl) rfl
theorem q475 : (Jvm.Cond.methodLink "WellNames$Camel" (3 : Nat) ({ cls := "WellNames$Drinker", name := "<init>", desc := "(LWellNames$Trace;II)V" } : Jvm.MethodName)) ∈ lw_all := lw_g (lw_at lw_m2 156 rfl) rfl
theorem q476 : (Jvm.Cond.laysFinal "WellNames$Camel" "WellNames$Drinker" "trace" "LWellNames$Trace;") ∈ lw_all := lw_g (lw_at lw_m2 157 rfl) rfl
theorem q477 : (Jvm.Cond.laysFinal "WellNames$Camel" "WellNames$Drinker" "number" "I") ∈ lw_all := lw_g (lw_at lw_m2 158 rfl) rfl
theorem q478 : (Jvm.Cond.laysFinal "WellNames$Camel" "WellNames$Drinker" "m" "I") ∈ lw_all := lw_g (lw_at lw_m2 159 rfl) rfl
theorem q479 : (Jvm.Cond.superclass "WellNames$Camel" "WellNames$Drinker") ∈ lw_all := lw_g (lw_at lw_m2 160 rfl) rfl
theorem q536 : (Jvm.Cond.selects "WellNames$Camel" ({ cls := "WellNames$Drinker", name := "kind", desc := "()I" } : Jvm.MethodName) ({ cls := "WellNames$Camel", name := "kind", desc := "()I" } : Jvm.MethodName)) ∈ lw_all := lw_g (lw_at lw_m2 217 rfl) rfl
theorem q537 : (Jvm.Cond.instanceMethod ({ cls := "WellNames$Camel", name := "kind", desc := "()I" } : Jvm.MethodName)) ∈ lw_all := lw_g (lw_at lw_m2 218 rfl) rfl
theorem q538 : (Jvm.Cond.code ({ cls := "WellNames$Camel", name := "kind", desc := "()I" } : Jvm.MethodName) prog_5_method_2_code (1 : Nat) (Option.some Jvm.ClassFile.FieldType.int)) ∈ lw_all := lw_g (lw_at lw_m2 219 rfl) rfl
theorem q557 : (Jvm.Cond.instanceMethod ({ cls := "WellNames$Camel", name := "limit", desc := "()I" } : Jvm.MethodName)) ∈ lw_all := lw_g (lw_at lw_m2 238 rfl) rfl
theorem q558 : (Jvm.Cond.code ({ cls := "WellNames$Camel", name := "limit", desc := "()I" } : Jvm.MethodName) prog_5_method_4_code (1 : Nat) (Option.some Jvm.ClassFile.FieldType.int)) ∈ lw_all := lw_g (lw_at lw_m2 239 rfl) rfl
theorem q559 : (Jvm.Cond.methodLink "WellNames$Camel" (13 : Nat) ({ cls := "WellNames$Drinker", name := "limit", desc := "()I" } : Jvm.MethodName)) ∈ lw_all := lw_g (lw_at lw_m3 0 rfl) rfl
theorem q560 : (Jvm.Cond.selects "WellNames$Camel" ({ cls := "WellNames$Drinker", name := "limit", desc := "()I" } : Jvm.MethodName) ({ cls := "WellNames$Camel", name := "limit", desc := "()I" } : Jvm.MethodName)) ∈ lw_all := lw_g (lw_at lw_m3 1 rfl) rfl
theorem q586 : (Jvm.Cond.instanceMethod ({ cls := "WellNames$Camel", name := "needs", desc := "(LWellNames$Desert;I)I" } : Jvm.MethodName)) ∈ lw_all := lw_g (lw_at lw_m3 27 rfl) rfl
theorem q587 : (Jvm.Cond.code ({ cls := "WellNames$Camel", name := "needs", desc := "(LWellNames$Desert;I)I" } : Jvm.MethodName) prog_5_method_5_code (3 : Nat) (Option.some Jvm.ClassFile.FieldType.int)) ∈ lw_all := lw_g (lw_at lw_m3 28 rfl) rfl
theorem q588 : (Jvm.Cond.methodLink "WellNames$Camel" (28 : Nat) ({ cls := "WellNames$Desert", name := "needsBy", desc := "(III)I" } : Jvm.MethodName)) ∈ lw_all := lw_g (lw_at lw_m3 29 rfl) rfl
theorem q625 : (Jvm.Cond.selects "WellNames$Camel" ({ cls := "WellNames$Drinker", name := "needs", desc := "(LWellNames$Desert;I)I" } : Jvm.MethodName) ({ cls := "WellNames$Camel", name := "needs", desc := "(LWellNames$Desert;I)I" } : Jvm.MethodName)) ∈ lw_all := lw_g (lw_at lw_m3 66 rfl) rfl
theorem q647 : (Jvm.Cond.instanceMethod ({ cls := "WellNames$Camel", name := "isOf", desc := "(I)Z" } : Jvm.MethodName)) ∈ lw_all := lw_g (lw_at lw_m3 88 rfl) rfl
theorem q648 : (Jvm.Cond.code ({ cls := "WellNames$Camel", name := "isOf", desc := "(I)Z" } : Jvm.MethodName) prog_5_method_3_code (2 : Nat) (Option.some Jvm.ClassFile.FieldType.boolean)) ∈ lw_all := lw_g (lw_at lw_m3 89 rfl) rfl
theorem q649 : (Jvm.Cond.methodLink "WellNames$Camel" (9 : Nat) ({ cls := "WellNames$Drinker", name := "isOf", desc := "(I)Z" } : Jvm.MethodName)) ∈ lw_all := lw_g (lw_at lw_m3 90 rfl) rfl
theorem q650 : (Jvm.Cond.selects "WellNames$Camel" ({ cls := "WellNames$Drinker", name := "isOf", desc := "(I)Z" } : Jvm.MethodName) ({ cls := "WellNames$Camel", name := "isOf", desc := "(I)Z" } : Jvm.MethodName)) ∈ lw_all := lw_g (lw_at lw_m3 91 rfl) rfl
theorem q930 : (Jvm.Cond.instanceMethod ({ cls := "WellNames$Camel", name := "called", desc := "(III)I" } : Jvm.MethodName)) ∈ lw_all := lw_g (lw_at lw_m4 131 rfl) rfl
theorem q931 : (Jvm.Cond.code ({ cls := "WellNames$Camel", name := "called", desc := "(III)I" } : Jvm.MethodName) prog_5_method_6_code (4 : Nat) (Option.some Jvm.ClassFile.FieldType.int)) ∈ lw_all := lw_g (lw_at lw_m4 132 rfl) rfl
theorem q932 : (Jvm.Cond.methodLink "WellNames$Camel" (32 : Nat) ({ cls := "WellNames$Drinker", name := "called", desc := "(III)I" } : Jvm.MethodName)) ∈ lw_all := lw_g (lw_at lw_m4 133 rfl) rfl
theorem q933 : (Jvm.Cond.selects "WellNames$Camel" ({ cls := "WellNames$Drinker", name := "called", desc := "(III)I" } : Jvm.MethodName) ({ cls := "WellNames$Camel", name := "called", desc := "(III)I" } : Jvm.MethodName)) ∈ lw_all := lw_g (lw_at lw_m4 134 rfl) rfl
theorem q1144 : (Jvm.Cond.castable "WellNames$Camel" "WellNames$Drinks") ∈ lw_tbl := lw_at lw_m5 105 rfl
theorem q1145 : (Jvm.Cond.selects "WellNames$Camel" ({ cls := "WellNames$Drinks", name := "drinks", desc := "(I)I" } : Jvm.MethodName) ({ cls := "WellNames$Drinker", name := "drinks", desc := "(I)I" } : Jvm.MethodName)) ∈ lw_all := lw_g (lw_at lw_m5 106 rfl) rfl
theorem q1146 : (Jvm.Cond.unhidden "WellNames$Camel" "drinks" "(I)I") ∈ lw_tbl := lw_at lw_m5 107 rfl
theorem q1178 : (Jvm.Cond.castable "WellNames$Camel" "WellNames$Calls") ∈ lw_tbl := lw_at lw_m5 139 rfl
theorem q1179 : (Jvm.Cond.selects "WellNames$Camel" ({ cls := "WellNames$Calls", name := "calls", desc := "(I)I" } : Jvm.MethodName) ({ cls := "WellNames$Drinker", name := "calls", desc := "(I)I" } : Jvm.MethodName)) ∈ lw_all := lw_g (lw_at lw_m5 140 rfl) rfl
theorem q1180 : (Jvm.Cond.unhidden "WellNames$Camel" "calls" "(I)I") ∈ lw_tbl := lw_at lw_m5 141 rfl
theorem q1225 : (Jvm.Cond.instanceMethod ({ cls := "WellNames$Camel", name := "owes", desc := "(I)I" } : Jvm.MethodName)) ∈ lw_all := lw_g (lw_at lw_m5 186 rfl) rfl
theorem q1226 : (Jvm.Cond.code ({ cls := "WellNames$Camel", name := "owes", desc := "(I)I" } : Jvm.MethodName) prog_5_method_7_code (2 : Nat) (Option.some Jvm.ClassFile.FieldType.int)) ∈ lw_all := lw_g (lw_at lw_m5 187 rfl) rfl
theorem q1227 : (Jvm.Cond.methodLink "WellNames$Camel" (39 : Nat) ({ cls := "WellNames$Trace", name := "begins", desc := "(I)V" } : Jvm.MethodName)) ∈ lw_all := lw_g (lw_at lw_m5 188 rfl) rfl
theorem q1228 : (Jvm.Cond.methodLink "WellNames$Camel" (45 : Nat) ({ cls := "WellNames$Drinker", name := "owes", desc := "(I)I" } : Jvm.MethodName)) ∈ lw_all := lw_g (lw_at lw_m5 189 rfl) rfl
theorem q1229 : (Jvm.Cond.castable "WellNames$Camel" "WellNames$Owes") ∈ lw_tbl := lw_at lw_m5 190 rfl
theorem q1230 : (Jvm.Cond.selects "WellNames$Camel" ({ cls := "WellNames$Owes", name := "owes", desc := "(I)I" } : Jvm.MethodName) ({ cls := "WellNames$Camel", name := "owes", desc := "(I)I" } : Jvm.MethodName)) ∈ lw_all := lw_g (lw_at lw_m5 191 rfl) rfl
theorem q1231 : (Jvm.Cond.unhidden "WellNames$Camel" "owes" "(I)I") ∈ lw_tbl := lw_at lw_m5 192 rfl
theorem q1232 : (Jvm.Cond.publicMethod ({ cls := "WellNames$Camel", name := "owes", desc := "(I)I" } : Jvm.MethodName)) ∈ lw_tbl := lw_at lw_m5 193 rfl
theorem q1264 : (Jvm.Cond.sameMethod "WellNames$Camel" "WellNames$Drinker" "tells" "(I)I") ∈ lw_all := lw_g (lw_at lw_m5 225 rfl) rfl
theorem q1270 : (Jvm.Cond.castable "WellNames$Camel" "WellNames$Tells") ∈ lw_tbl := lw_at lw_m5 231 rfl
theorem q1271 : (Jvm.Cond.selects "WellNames$Camel" ({ cls := "WellNames$Tells", name := "tells", desc := "(I)I" } : Jvm.MethodName) ({ cls := "WellNames$Drinker", name := "tells", desc := "(I)I" } : Jvm.MethodName)) ∈ lw_all := lw_g (lw_at lw_m5 232 rfl) rfl
theorem q1272 : (Jvm.Cond.unhidden "WellNames$Camel" "tells" "(I)I") ∈ lw_tbl := lw_at lw_m5 233 rfl
theorem q1939 : (Jvm.Cond.sameMethod "WellNames$Camel" "WellNames$Camel" "needs" "(LWellNames$Desert;I)I") ∈ lw_all := lw_g (lw_at lw_m8 180 rfl) rfl
theorem q1940 : (Jvm.Cond.sameMethod "WellNames$Camel" "WellNames$Camel" "isOf" "(I)Z") ∈ lw_all := lw_g (lw_at lw_m8 181 rfl) rfl
theorem q1945 : (Jvm.Cond.selects "WellNames$Camel" ({ cls := "WellNames$Drinker", name := "drinks", desc := "(I)I" } : Jvm.MethodName) ({ cls := "WellNames$Drinker", name := "drinks", desc := "(I)I" } : Jvm.MethodName)) ∈ lw_all := lw_g (lw_at lw_m8 186 rfl) rfl
theorem q1953 : (Jvm.Cond.sameMethod "WellNames$Camel" "WellNames$Camel" "owes" "(I)I") ∈ lw_all := lw_g (lw_at lw_m8 194 rfl) rfl
theorem q1956 : (Jvm.Cond.selects "WellNames$Camel" ({ cls := "WellNames$Drinker", name := "calls", desc := "(I)I" } : Jvm.MethodName) ({ cls := "WellNames$Drinker", name := "calls", desc := "(I)I" } : Jvm.MethodName)) ∈ lw_all := lw_g (lw_at lw_m8 197 rfl) rfl
theorem q1963 : (Jvm.Cond.selects "WellNames$Camel" ({ cls := "WellNames$Drinker", name := "owes", desc := "(I)I" } : Jvm.MethodName) ({ cls := "WellNames$Camel", name := "owes", desc := "(I)I" } : Jvm.MethodName)) ∈ lw_all := lw_g (lw_at lw_m8 204 rfl) rfl
theorem q1974 : (Jvm.Cond.castable "WellNames$Camel" "WellNames$Drinker") ∈ lw_tbl := lw_at lw_m8 215 rfl
theorem in_X10 : ∀ w ∈ wsX100, w ∈ lw_all := lw_in wsX100 [476, 477, 478] (by decide +kernel) (by decide +kernel)

/-! WellNames$Judge -/
set_option maxRecDepth 100000
def RX11 : String := "WellNames$Judge"
def TX11 : u_T := fun k => match k with
  | 0 => ("WellNames$Drinker", "trace", "LWellNames$Trace;", true)
  | 1 => ("WellNames$Drinker", "number", "I", true)
  | _ => ("WellNames$Drinker", "m", "I", true)
def tyX11 : Nat → FieldType := fun k => match k with
  | 0 => .object "WellNames$Trace"
  | 1 => .int
  | _ => .int
abbrev wsX110 : List Cond := u_ws RX11 TX11 3
theorem nmX11 : ∀ a, a < 3 → ∀ b, b < 3 → a ≠ b → (TX11 a).2.1 ≠ (TX11 b).2.1 := by decide +kernel
theorem tyX11_ok : ∀ k, k < 3 → parseFieldDescriptor (TX11 k).2.2.1 = some (tyX11 k) := by decide +kernel
abbrev cX11_init : ByteArray := prog_17_method_1_code
def yX11_init : MethodName := ⟨RX11, "<init>", "(LWellNames$Trace;II)V"⟩
def dkwX11_init_0 : List UInt8 := [42, 43, 28, 29, 183, 0, 3, 177]
abbrev dktX11_init_0 : List UInt8 := dkwX11_init_0 ++ []
theorem dksX11_init_0 : cX11_init.data.toList.drop 0 = dktX11_init_0 := by decide +kernel
theorem dX11_init_0 : decode cX11_init 0 = .ok (.aload_n 0, 1) := dk_42 (dk_at dksX11_init_0 0 rfl rfl)
theorem dX11_init_1 : decode cX11_init 1 = .ok (.aload_n 1, 1) := dk_43 (dk_at dksX11_init_0 1 rfl rfl)
theorem dX11_init_2 : decode cX11_init 2 = .ok (.iload_n 2, 1) := dk_28 (dk_at dksX11_init_0 2 rfl rfl)
theorem dX11_init_3 : decode cX11_init 3 = .ok (.iload_n 3, 1) := dk_29 (dk_at dksX11_init_0 3 rfl rfl)
theorem dX11_init_4 : decode cX11_init 4 = .ok (.invokespecial 3, 3) := dk_183 0 3 (dk_at dksX11_init_0 4 rfl rfl)
theorem dX11_init_7 : decode cX11_init 7 = .ok (.return_, 1) := dk_177 (dk_at dksX11_init_0 7 rfl rfl)
abbrev cX11_kind : ByteArray := prog_17_method_2_code
def yX11_kind : MethodName := ⟨RX11, "kind", "()I"⟩
theorem dX11_kind_0 : decode cX11_kind 0 = .ok (.iconst 4, 1) := by decide +kernel
theorem dX11_kind_1 : decode cX11_kind 1 = .ok (.ireturn, 1) := by decide +kernel
abbrev cX11_isOf : ByteArray := prog_17_method_3_code
def yX11_isOf : MethodName := ⟨RX11, "isOf", "(I)Z"⟩
def dkwX11_isOf_0 : List UInt8 := [27, 7, 159, 0, 11, 42, 27, 183, 0, 9, 153, 0, 7, 4, 167, 0, 4, 3, 172]
abbrev dktX11_isOf_0 : List UInt8 := dkwX11_isOf_0 ++ []
theorem dksX11_isOf_0 : cX11_isOf.data.toList.drop 0 = dktX11_isOf_0 := by decide +kernel
theorem dX11_isOf_0 : decode cX11_isOf 0 = .ok (.iload_n 1, 1) := dk_27 (dk_at dksX11_isOf_0 0 rfl rfl)
theorem dX11_isOf_1 : decode cX11_isOf 1 = .ok (.iconst 4, 1) := dk_7 (dk_at dksX11_isOf_0 1 rfl rfl)
theorem dX11_isOf_2 : decode cX11_isOf 2 = .ok (.if_icmp .eq 11, 3) := dk_159 0 11 (dk_at dksX11_isOf_0 2 rfl rfl)
theorem dX11_isOf_5 : decode cX11_isOf 5 = .ok (.aload_n 0, 1) := dk_42 (dk_at dksX11_isOf_0 5 rfl rfl)
theorem dX11_isOf_6 : decode cX11_isOf 6 = .ok (.iload_n 1, 1) := dk_27 (dk_at dksX11_isOf_0 6 rfl rfl)
theorem dX11_isOf_7 : decode cX11_isOf 7 = .ok (.invokespecial 9, 3) := dk_183 0 9 (dk_at dksX11_isOf_0 7 rfl rfl)
theorem dX11_isOf_10 : decode cX11_isOf 10 = .ok (.ifCond .eq 7, 3) := dk_153 0 7 (dk_at dksX11_isOf_0 10 rfl rfl)
theorem dX11_isOf_13 : decode cX11_isOf 13 = .ok (.iconst 1, 1) := dk_4 (dk_at dksX11_isOf_0 13 rfl rfl)
theorem dX11_isOf_14 : decode cX11_isOf 14 = .ok (.goto 4, 3) := dk_167 0 4 (dk_at dksX11_isOf_0 14 rfl rfl)
theorem dX11_isOf_17 : decode cX11_isOf 17 = .ok (.iconst 0, 1) := dk_3 (dk_at dksX11_isOf_0 17 rfl rfl)
theorem dX11_isOf_18 : decode cX11_isOf 18 = .ok (.ireturn, 1) := dk_172 (dk_at dksX11_isOf_0 18 rfl rfl)
abbrev cX11_called : ByteArray := prog_17_method_4_code
def yX11_called : MethodName := ⟨RX11, "called", "(III)I"⟩
def dkwX11_called_0 : List UInt8 := [28, 2, 160, 0, 13, 42, 27, 28, 29, 183, 0, 13, 167, 0, 4, 28, 172]
abbrev dktX11_called_0 : List UInt8 := dkwX11_called_0 ++ []
theorem dksX11_called_0 : cX11_called.data.toList.drop 0 = dktX11_called_0 := by decide +kernel
theorem dX11_called_0 : decode cX11_called 0 = .ok (.iload_n 2, 1) := dk_28 (dk_at dksX11_called_0 0 rfl rfl)
theorem dX11_called_1 : decode cX11_called 1 = .ok (.iconst (-1), 1) := dk_2 (dk_at dksX11_called_0 1 rfl rfl)
theorem dX11_called_2 : decode cX11_called 2 = .ok (.if_icmp .ne 13, 3) := dk_160 0 13 (dk_at dksX11_called_0 2 rfl rfl)
theorem dX11_called_5 : decode cX11_called 5 = .ok (.aload_n 0, 1) := dk_42 (dk_at dksX11_called_0 5 rfl rfl)
theorem dX11_called_6 : decode cX11_called 6 = .ok (.iload_n 1, 1) := dk_27 (dk_at dksX11_called_0 6 rfl rfl)
theorem dX11_called_7 : decode cX11_called 7 = .ok (.iload_n 2, 1) := dk_28 (dk_at dksX11_called_0 7 rfl rfl)
theorem dX11_called_8 : decode cX11_called 8 = .ok (.iload_n 3, 1) := dk_29 (dk_at dksX11_called_0 8 rfl rfl)
theorem dX11_called_9 : decode cX11_called 9 = .ok (.invokespecial 13, 3) := dk_183 0 13 (dk_at dksX11_called_0 9 rfl rfl)
theorem dX11_called_12 : decode cX11_called 12 = .ok (.goto 4, 3) := dk_167 0 4 (dk_at dksX11_called_0 12 rfl rfl)
theorem dX11_called_15 : decode cX11_called 15 = .ok (.iload_n 2, 1) := dk_28 (dk_at dksX11_called_0 15 rfl rfl)
theorem dX11_called_16 : decode cX11_called 16 = .ok (.ireturn, 1) := dk_172 (dk_at dksX11_called_0 16 rfl rfl)
abbrev cX11_tells : ByteArray := prog_17_method_5_code
def yX11_tells : MethodName := ⟨RX11, "tells", "(I)I"⟩
def dkwX11_tells_0 : List UInt8 := [42, 180, 0, 17, 16, 50, 182, 0, 23, 42, 27, 183, 0, 29, 61, 28, 42, 5, 182, 0, 33, 100, 172]
abbrev dktX11_tells_0 : List UInt8 := dkwX11_tells_0 ++ []
theorem dksX11_tells_0 : cX11_tells.data.toList.drop 0 = dktX11_tells_0 := by decide +kernel
theorem dX11_tells_0 : decode cX11_tells 0 = .ok (.aload_n 0, 1) := dk_42 (dk_at dksX11_tells_0 0 rfl rfl)
theorem dX11_tells_1 : decode cX11_tells 1 = .ok (.getfield 17, 3) := dk_180 0 17 (dk_at dksX11_tells_0 1 rfl rfl)
theorem dX11_tells_4 : decode cX11_tells 4 = .ok (.bipush 50, 2) := dk_16 50 (dk_at dksX11_tells_0 4 rfl rfl)
theorem dX11_tells_6 : decode cX11_tells 6 = .ok (.invokevirtual 23, 3) := dk_182 0 23 (dk_at dksX11_tells_0 6 rfl rfl)
theorem dX11_tells_9 : decode cX11_tells 9 = .ok (.aload_n 0, 1) := dk_42 (dk_at dksX11_tells_0 9 rfl rfl)
theorem dX11_tells_10 : decode cX11_tells 10 = .ok (.iload_n 1, 1) := dk_27 (dk_at dksX11_tells_0 10 rfl rfl)
theorem dX11_tells_11 : decode cX11_tells 11 = .ok (.invokespecial 29, 3) := dk_183 0 29 (dk_at dksX11_tells_0 11 rfl rfl)
theorem dX11_tells_14 : decode cX11_tells 14 = .ok (.istore_n 2, 1) := dk_61 (dk_at dksX11_tells_0 14 rfl rfl)
theorem dX11_tells_15 : decode cX11_tells 15 = .ok (.iload_n 2, 1) := dk_28 (dk_at dksX11_tells_0 15 rfl rfl)
theorem dX11_tells_16 : decode cX11_tells 16 = .ok (.aload_n 0, 1) := dk_42 (dk_at dksX11_tells_0 16 rfl rfl)
theorem dX11_tells_17 : decode cX11_tells 17 = .ok (.iconst 2, 1) := dk_5 (dk_at dksX11_tells_0 17 rfl rfl)
theorem dX11_tells_18 : decode cX11_tells 18 = .ok (.invokevirtual 33, 3) := dk_182 0 33 (dk_at dksX11_tells_0 18 rfl rfl)
theorem dX11_tells_21 : decode cX11_tells 21 = .ok (.isub, 1) := dk_100 (dk_at dksX11_tells_0 21 rfl rfl)
theorem dX11_tells_22 : decode cX11_tells 22 = .ok (.ireturn, 1) := dk_172 (dk_at dksX11_tells_0 22 rfl rfl)
theorem q94 : (Jvm.Cond.initialized "WellNames$Judge") ∈ lw_all := lw_g (lw_at lw_m1 15 rfl) rfl
theorem q433 : (Jvm.Cond.fieldLink "WellNames$Judge" (17 : Nat) "WellNames$Judge" "trace" "LWellNames$Trace;") ∈ lw_all := lw_g (lw_at lw_m2 114 rfl) rfl
theorem q434 : (Jvm.Cond.sameField "WellNames$Judge" "WellNames$Drinker" "trace" "LWellNames$Trace;") ∈ lw_all := lw_g (lw_at lw_m2 115 rfl) rfl
theorem q481 : (Jvm.Cond.instantiable "WellNames$Judge" (3 : Nat)) ∈ lw_all := lw_g (lw_at lw_m2 162 rfl) rfl
theorem q483 : (Jvm.Cond.instanceMethod ({ cls := "WellNames$Judge", name := "<init>", desc := "(LWellNames$Trace;II)V" } : Jvm.MethodName)) ∈ lw_all := lw_g (lw_at lw_m2 164 rfl) rfl
theorem q484 : (Jvm.Cond.code ({ cls := "WellNames$Judge", name := "<init>", desc := "(LWellNames$Trace;II)V" } : Jvm.MethodName) prog_17_method_1_code (4 : Nat) (Option.none : Option Jvm.ClassFile.FieldType)) ∈ lw_all := lw_g (lw_at lw_m2 165 rfl) rfl
theorem q485 : (Jvm.Cond.methodLink "WellNames$Judge" (3 : Nat) ({ cls := "WellNames$Flask", name := "<init>", desc := "(LWellNames$Trace;II)V" } : Jvm.MethodName)) ∈ lw_all := lw_g (lw_at lw_m2 166 rfl) rfl
theorem q486 : (Jvm.Cond.laysFinal "WellNames$Judge" "WellNames$Drinker" "trace" "LWellNames$Trace;") ∈ lw_all := lw_g (lw_at lw_m2 167 rfl) rfl
theorem q487 : (Jvm.Cond.laysFinal "WellNames$Judge" "WellNames$Drinker" "number" "I") ∈ lw_all := lw_g (lw_at lw_m2 168 rfl) rfl
theorem q488 : (Jvm.Cond.laysFinal "WellNames$Judge" "WellNames$Drinker" "m" "I") ∈ lw_all := lw_g (lw_at lw_m2 169 rfl) rfl
theorem q489 : (Jvm.Cond.superclass "WellNames$Judge" "WellNames$Flask") ∈ lw_all := lw_g (lw_at lw_m2 170 rfl) rfl
theorem q548 : (Jvm.Cond.selects "WellNames$Judge" ({ cls := "WellNames$Drinker", name := "kind", desc := "()I" } : Jvm.MethodName) ({ cls := "WellNames$Judge", name := "kind", desc := "()I" } : Jvm.MethodName)) ∈ lw_all := lw_g (lw_at lw_m2 229 rfl) rfl
theorem q549 : (Jvm.Cond.instanceMethod ({ cls := "WellNames$Judge", name := "kind", desc := "()I" } : Jvm.MethodName)) ∈ lw_all := lw_g (lw_at lw_m2 230 rfl) rfl
theorem q550 : (Jvm.Cond.code ({ cls := "WellNames$Judge", name := "kind", desc := "()I" } : Jvm.MethodName) prog_17_method_2_code (1 : Nat) (Option.some Jvm.ClassFile.FieldType.int)) ∈ lw_all := lw_g (lw_at lw_m2 231 rfl) rfl
theorem q572 : (Jvm.Cond.selects "WellNames$Judge" ({ cls := "WellNames$Drinker", name := "limit", desc := "()I" } : Jvm.MethodName) ({ cls := "WellNames$Flask", name := "limit", desc := "()I" } : Jvm.MethodName)) ∈ lw_all := lw_g (lw_at lw_m3 13 rfl) rfl
theorem q629 : (Jvm.Cond.selects "WellNames$Judge" ({ cls := "WellNames$Drinker", name := "needs", desc := "(LWellNames$Desert;I)I" } : Jvm.MethodName) ({ cls := "WellNames$Drinker", name := "needs", desc := "(LWellNames$Desert;I)I" } : Jvm.MethodName)) ∈ lw_all := lw_g (lw_at lw_m3 70 rfl) rfl
theorem q663 : (Jvm.Cond.selects "WellNames$Judge" ({ cls := "WellNames$Drinker", name := "isOf", desc := "(I)Z" } : Jvm.MethodName) ({ cls := "WellNames$Judge", name := "isOf", desc := "(I)Z" } : Jvm.MethodName)) ∈ lw_all := lw_g (lw_at lw_m3 104 rfl) rfl
theorem q664 : (Jvm.Cond.instanceMethod ({ cls := "WellNames$Judge", name := "isOf", desc := "(I)Z" } : Jvm.MethodName)) ∈ lw_all := lw_g (lw_at lw_m3 105 rfl) rfl
theorem q665 : (Jvm.Cond.code ({ cls := "WellNames$Judge", name := "isOf", desc := "(I)Z" } : Jvm.MethodName) prog_17_method_3_code (2 : Nat) (Option.some Jvm.ClassFile.FieldType.boolean)) ∈ lw_all := lw_g (lw_at lw_m3 106 rfl) rfl
theorem q666 : (Jvm.Cond.methodLink "WellNames$Judge" (9 : Nat) ({ cls := "WellNames$Flask", name := "isOf", desc := "(I)Z" } : Jvm.MethodName)) ∈ lw_all := lw_g (lw_at lw_m3 107 rfl) rfl
theorem q942 : (Jvm.Cond.selects "WellNames$Judge" ({ cls := "WellNames$Drinker", name := "called", desc := "(III)I" } : Jvm.MethodName) ({ cls := "WellNames$Judge", name := "called", desc := "(III)I" } : Jvm.MethodName)) ∈ lw_all := lw_g (lw_at lw_m4 143 rfl) rfl
theorem q943 : (Jvm.Cond.instanceMethod ({ cls := "WellNames$Judge", name := "called", desc := "(III)I" } : Jvm.MethodName)) ∈ lw_all := lw_g (lw_at lw_m4 144 rfl) rfl
theorem q944 : (Jvm.Cond.code ({ cls := "WellNames$Judge", name := "called", desc := "(III)I" } : Jvm.MethodName) prog_17_method_4_code (4 : Nat) (Option.some Jvm.ClassFile.FieldType.int)) ∈ lw_all := lw_g (lw_at lw_m4 145 rfl) rfl
theorem q945 : (Jvm.Cond.methodLink "WellNames$Judge" (13 : Nat) ({ cls := "WellNames$Flask", name := "called", desc := "(III)I" } : Jvm.MethodName)) ∈ lw_all := lw_g (lw_at lw_m4 146 rfl) rfl
theorem q1164 : (Jvm.Cond.castable "WellNames$Judge" "WellNames$Drinks") ∈ lw_tbl := lw_at lw_m5 125 rfl
theorem q1165 : (Jvm.Cond.selects "WellNames$Judge" ({ cls := "WellNames$Drinks", name := "drinks", desc := "(I)I" } : Jvm.MethodName) ({ cls := "WellNames$Flask", name := "drinks", desc := "(I)I" } : Jvm.MethodName)) ∈ lw_all := lw_g (lw_at lw_m5 126 rfl) rfl
theorem q1166 : (Jvm.Cond.unhidden "WellNames$Judge" "drinks" "(I)I") ∈ lw_tbl := lw_at lw_m5 127 rfl
theorem q1210 : (Jvm.Cond.castable "WellNames$Judge" "WellNames$Calls") ∈ lw_tbl := lw_at lw_m5 171 rfl
theorem q1211 : (Jvm.Cond.selects "WellNames$Judge" ({ cls := "WellNames$Calls", name := "calls", desc := "(I)I" } : Jvm.MethodName) ({ cls := "WellNames$Drinker", name := "calls", desc := "(I)I" } : Jvm.MethodName)) ∈ lw_all := lw_g (lw_at lw_m5 172 rfl) rfl
theorem q1212 : (Jvm.Cond.unhidden "WellNames$Judge" "calls" "(I)I") ∈ lw_tbl := lw_at lw_m5 173 rfl
theorem q1246 : (Jvm.Cond.castable "WellNames$Judge" "WellNames$Owes") ∈ lw_tbl := lw_at lw_m5 207 rfl
theorem q1247 : (Jvm.Cond.selects "WellNames$Judge" ({ cls := "WellNames$Owes", name := "owes", desc := "(I)I" } : Jvm.MethodName) ({ cls := "WellNames$Drinker", name := "owes", desc := "(I)I" } : Jvm.MethodName)) ∈ lw_all := lw_g (lw_at lw_m5 208 rfl) rfl
theorem q1248 : (Jvm.Cond.unhidden "WellNames$Judge" "owes" "(I)I") ∈ lw_tbl := lw_at lw_m5 209 rfl
theorem q1286 : (Jvm.Cond.castable "WellNames$Judge" "WellNames$Tells") ∈ lw_tbl := lw_at lw_m6 7 rfl
theorem q1287 : (Jvm.Cond.selects "WellNames$Judge" ({ cls := "WellNames$Tells", name := "tells", desc := "(I)I" } : Jvm.MethodName) ({ cls := "WellNames$Judge", name := "tells", desc := "(I)I" } : Jvm.MethodName)) ∈ lw_all := lw_g (lw_at lw_m6 8 rfl) rfl
theorem q1288 : (Jvm.Cond.unhidden "WellNames$Judge" "tells" "(I)I") ∈ lw_tbl := lw_at lw_m6 9 rfl
theorem q1289 : (Jvm.Cond.instanceMethod ({ cls := "WellNames$Judge", name := "tells", desc := "(I)I" } : Jvm.MethodName)) ∈ lw_all := lw_g (lw_at lw_m6 10 rfl) rfl
theorem q1290 : (Jvm.Cond.publicMethod ({ cls := "WellNames$Judge", name := "tells", desc := "(I)I" } : Jvm.MethodName)) ∈ lw_tbl := lw_at lw_m6 11 rfl
theorem q1291 : (Jvm.Cond.code ({ cls := "WellNames$Judge", name := "tells", desc := "(I)I" } : Jvm.MethodName) prog_17_method_5_code (3 : Nat) (Option.some Jvm.ClassFile.FieldType.int)) ∈ lw_all := lw_g (lw_at lw_m6 12 rfl) rfl
theorem q1292 : (Jvm.Cond.methodLink "WellNames$Judge" (23 : Nat) ({ cls := "WellNames$Trace", name := "begins", desc := "(I)V" } : Jvm.MethodName)) ∈ lw_all := lw_g (lw_at lw_m6 13 rfl) rfl
theorem q1293 : (Jvm.Cond.methodLink "WellNames$Judge" (29 : Nat) ({ cls := "WellNames$Flask", name := "tells", desc := "(I)I" } : Jvm.MethodName)) ∈ lw_all := lw_g (lw_at lw_m6 14 rfl) rfl
theorem q1295 : (Jvm.Cond.methodLink "WellNames$Judge" (33 : Nat) ({ cls := "WellNames$Judge", name := "drinks", desc := "(I)I" } : Jvm.MethodName)) ∈ lw_all := lw_g (lw_at lw_m6 16 rfl) rfl
theorem q1296 : (Jvm.Cond.sameMethod "WellNames$Judge" "WellNames$Flask" "drinks" "(I)I") ∈ lw_all := lw_g (lw_at lw_m6 17 rfl) rfl
theorem q1298 : (Jvm.Cond.selects "WellNames$Judge" ({ cls := "WellNames$Judge", name := "drinks", desc := "(I)I" } : Jvm.MethodName) ({ cls := "WellNames$Flask", name := "drinks", desc := "(I)I" } : Jvm.MethodName)) ∈ lw_all := lw_g (lw_at lw_m6 19 rfl) rfl
theorem q1950 : (Jvm.Cond.selects "WellNames$Judge" ({ cls := "WellNames$Drinker", name := "drinks", desc := "(I)I" } : Jvm.MethodName) ({ cls := "WellNames$Flask", name := "drinks", desc := "(I)I" } : Jvm.MethodName)) ∈ lw_all := lw_g (lw_at lw_m8 191 rfl) rfl
theorem q1961 : (Jvm.Cond.selects "WellNames$Judge" ({ cls := "WellNames$Drinker", name := "calls", desc := "(I)I" } : Jvm.MethodName) ({ cls := "WellNames$Drinker", name := "calls", desc := "(I)I" } : Jvm.MethodName)) ∈ lw_all := lw_g (lw_at lw_m8 202 rfl) rfl
theorem q1968 : (Jvm.Cond.selects "WellNames$Judge" ({ cls := "WellNames$Drinker", name := "owes", desc := "(I)I" } : Jvm.MethodName) ({ cls := "WellNames$Drinker", name := "owes", desc := "(I)I" } : Jvm.MethodName)) ∈ lw_all := lw_g (lw_at lw_m8 209 rfl) rfl
theorem q1975 : (Jvm.Cond.castable "WellNames$Judge" "WellNames$Drinker") ∈ lw_tbl := lw_at lw_m8 216 rfl
theorem in_X11 : ∀ w ∈ wsX110, w ∈ lw_all := lw_in wsX110 [486, 487, 488] (by decide +kernel) (by decide +kernel)

/-! WellNames$Foundling -/
set_option maxRecDepth 100000
def RX12 : String := "WellNames$Foundling"
def TX12 : u_T := fun k => match k with
  | 0 => ("WellNames$Drinker", "trace", "LWellNames$Trace;", true)
  | 1 => ("WellNames$Drinker", "number", "I", true)
  | _ => ("WellNames$Drinker", "m", "I", true)
def tyX12 : Nat → FieldType := fun k => match k with
  | 0 => .object "WellNames$Trace"
  | 1 => .int
  | _ => .int
abbrev wsX120 : List Cond := u_ws RX12 TX12 3
theorem nmX12 : ∀ a, a < 3 → ∀ b, b < 3 → a ≠ b → (TX12 a).2.1 ≠ (TX12 b).2.1 := by decide +kernel
theorem tyX12_ok : ∀ k, k < 3 → parseFieldDescriptor (TX12 k).2.2.1 = some (tyX12 k) := by decide +kernel
abbrev cX12_init : ByteArray := prog_15_method_1_code
def yX12_init : MethodName := ⟨RX12, "<init>", "(LWellNames$Trace;II)V"⟩
def dkwX12_init_0 : List UInt8 := [42, 43, 28, 29, 183, 0, 3, 177]
abbrev dktX12_init_0 : List UInt8 := dkwX12_init_0 ++ []
theorem dksX12_init_0 : cX12_init.data.toList.drop 0 = dktX12_init_0 := by decide +kernel
theorem dX12_init_0 : decode cX12_init 0 = .ok (.aload_n 0, 1) := dk_42 (dk_at dksX12_init_0 0 rfl rfl)
theorem dX12_init_1 : decode cX12_init 1 = .ok (.aload_n 1, 1) := dk_43 (dk_at dksX12_init_0 1 rfl rfl)
theorem dX12_init_2 : decode cX12_init 2 = .ok (.iload_n 2, 1) := dk_28 (dk_at dksX12_init_0 2 rfl rfl)
theorem dX12_init_3 : decode cX12_init 3 = .ok (.iload_n 3, 1) := dk_29 (dk_at dksX12_init_0 3 rfl rfl)
theorem dX12_init_4 : decode cX12_init 4 = .ok (.invokespecial 3, 3) := dk_183 0 3 (dk_at dksX12_init_0 4 rfl rfl)
theorem dX12_init_7 : decode cX12_init 7 = .ok (.return_, 1) := dk_177 (dk_at dksX12_init_0 7 rfl rfl)
abbrev cX12_kind : ByteArray := prog_15_method_2_code
def yX12_kind : MethodName := ⟨RX12, "kind", "()I"⟩
theorem dX12_kind_0 : decode cX12_kind 0 = .ok (.iconst 5, 1) := by decide +kernel
theorem dX12_kind_1 : decode cX12_kind 1 = .ok (.ireturn, 1) := by decide +kernel
abbrev cX12_limit : ByteArray := prog_15_method_4_code
def yX12_limit : MethodName := ⟨RX12, "limit", "()I"⟩
def dkwX12_limit_0 : List UInt8 := [42, 183, 0, 13, 42, 180, 0, 17, 5, 108, 96, 172]
abbrev dktX12_limit_0 : List UInt8 := dkwX12_limit_0 ++ []
theorem dksX12_limit_0 : cX12_limit.data.toList.drop 0 = dktX12_limit_0 := by decide +kernel
theorem dX12_limit_0 : decode cX12_limit 0 = .ok (.aload_n 0, 1) := dk_42 (dk_at dksX12_limit_0 0 rfl rfl)
theorem dX12_limit_1 : decode cX12_limit 1 = .ok (.invokespecial 13, 3) := dk_183 0 13 (dk_at dksX12_limit_0 1 rfl rfl)
theorem dX12_limit_4 : decode cX12_limit 4 = .ok (.aload_n 0, 1) := dk_42 (dk_at dksX12_limit_0 4 rfl rfl)
theorem dX12_limit_5 : decode cX12_limit 5 = .ok (.getfield 17, 3) := dk_180 0 17 (dk_at dksX12_limit_0 5 rfl rfl)
theorem dX12_limit_8 : decode cX12_limit 8 = .ok (.iconst 2, 1) := dk_5 (dk_at dksX12_limit_0 8 rfl rfl)
theorem dX12_limit_9 : decode cX12_limit 9 = .ok (.idiv, 1) := dk_108 (dk_at dksX12_limit_0 9 rfl rfl)
theorem dX12_limit_10 : decode cX12_limit 10 = .ok (.iadd, 1) := dk_96 (dk_at dksX12_limit_0 10 rfl rfl)
theorem dX12_limit_11 : decode cX12_limit 11 = .ok (.ireturn, 1) := dk_172 (dk_at dksX12_limit_0 11 rfl rfl)
abbrev cX12_isOf : ByteArray := prog_15_method_3_code
def yX12_isOf : MethodName := ⟨RX12, "isOf", "(I)Z"⟩
def dkwX12_isOf_0 : List UInt8 := [27, 8, 159, 0, 11, 42, 27, 183, 0, 9, 153, 0, 7, 4, 167, 0, 4, 3, 172]
abbrev dktX12_isOf_0 : List UInt8 := dkwX12_isOf_0 ++ []
theorem dksX12_isOf_0 : cX12_isOf.data.toList.drop 0 = dktX12_isOf_0 := by decide +kernel
theorem dX12_isOf_0 : decode cX12_isOf 0 = .ok (.iload_n 1, 1) := dk_27 (dk_at dksX12_isOf_0 0 rfl rfl)
theorem dX12_isOf_1 : decode cX12_isOf 1 = .ok (.iconst 5, 1) := dk_8 (dk_at dksX12_isOf_0 1 rfl rfl)
theorem dX12_isOf_2 : decode cX12_isOf 2 = .ok (.if_icmp .eq 11, 3) := dk_159 0 11 (dk_at dksX12_isOf_0 2 rfl rfl)
theorem dX12_isOf_5 : decode cX12_isOf 5 = .ok (.aload_n 0, 1) := dk_42 (dk_at dksX12_isOf_0 5 rfl rfl)
theorem dX12_isOf_6 : decode cX12_isOf 6 = .ok (.iload_n 1, 1) := dk_27 (dk_at dksX12_isOf_0 6 rfl rfl)
theorem dX12_isOf_7 : decode cX12_isOf 7 = .ok (.invokespecial 9, 3) := dk_183 0 9 (dk_at dksX12_isOf_0 7 rfl rfl)
theorem dX12_isOf_10 : decode cX12_isOf 10 = .ok (.ifCond .eq 7, 3) := dk_153 0 7 (dk_at dksX12_isOf_0 10 rfl rfl)
theorem dX12_isOf_13 : decode cX12_isOf 13 = .ok (.iconst 1, 1) := dk_4 (dk_at dksX12_isOf_0 13 rfl rfl)
theorem dX12_isOf_14 : decode cX12_isOf 14 = .ok (.goto 4, 3) := dk_167 0 4 (dk_at dksX12_isOf_0 14 rfl rfl)
theorem dX12_isOf_17 : decode cX12_isOf 17 = .ok (.iconst 0, 1) := dk_3 (dk_at dksX12_isOf_0 17 rfl rfl)
theorem dX12_isOf_18 : decode cX12_isOf 18 = .ok (.ireturn, 1) := dk_172 (dk_at dksX12_isOf_0 18 rfl rfl)
abbrev cX12_called : ByteArray := prog_15_method_5_code
def yX12_called : MethodName := ⟨RX12, "called", "(III)I"⟩
def dkwX12_called_0 : List UInt8 := [42, 27, 28, 29, 183, 0, 23, 54, 4, 21, 4, 28, 160, 0, 7, 2, 167, 0, 5, 21, 4, 172]
abbrev dktX12_called_0 : List UInt8 := dkwX12_called_0 ++ []
theorem dksX12_called_0 : cX12_called.data.toList.drop 0 = dktX12_called_0 := by decide +kernel
theorem dX12_called_0 : decode cX12_called 0 = .ok (.aload_n 0, 1) := dk_42 (dk_at dksX12_called_0 0 rfl rfl)
theorem dX12_called_1 : decode cX12_called 1 = .ok (.iload_n 1, 1) := dk_27 (dk_at dksX12_called_0 1 rfl rfl)
theorem dX12_called_2 : decode cX12_called 2 = .ok (.iload_n 2, 1) := dk_28 (dk_at dksX12_called_0 2 rfl rfl)
theorem dX12_called_3 : decode cX12_called 3 = .ok (.iload_n 3, 1) := dk_29 (dk_at dksX12_called_0 3 rfl rfl)
theorem dX12_called_4 : decode cX12_called 4 = .ok (.invokespecial 23, 3) := dk_183 0 23 (dk_at dksX12_called_0 4 rfl rfl)
theorem dX12_called_7 : decode cX12_called 7 = .ok (.istore 4, 2) := dk_54 4 (dk_at dksX12_called_0 7 rfl rfl)
theorem dX12_called_9 : decode cX12_called 9 = .ok (.iload 4, 2) := dk_21 4 (dk_at dksX12_called_0 9 rfl rfl)
theorem dX12_called_11 : decode cX12_called 11 = .ok (.iload_n 2, 1) := dk_28 (dk_at dksX12_called_0 11 rfl rfl)
theorem dX12_called_12 : decode cX12_called 12 = .ok (.if_icmp .ne 7, 3) := dk_160 0 7 (dk_at dksX12_called_0 12 rfl rfl)
theorem dX12_called_15 : decode cX12_called 15 = .ok (.iconst (-1), 1) := dk_2 (dk_at dksX12_called_0 15 rfl rfl)
theorem dX12_called_16 : decode cX12_called 16 = .ok (.goto 5, 3) := dk_167 0 5 (dk_at dksX12_called_0 16 rfl rfl)
theorem dX12_called_19 : decode cX12_called 19 = .ok (.iload 4, 2) := dk_21 4 (dk_at dksX12_called_0 19 rfl rfl)
theorem dX12_called_21 : decode cX12_called 21 = .ok (.ireturn, 1) := dk_172 (dk_at dksX12_called_0 21 rfl rfl)
abbrev cX12_calls : ByteArray := prog_15_method_6_code
def yX12_calls : MethodName := ⟨RX12, "calls", "(I)I"⟩
def dkwX12_calls_0 : List UInt8 := [42, 180, 0, 27, 16, 60, 182, 0, 31, 42, 27, 4, 96, 183, 0, 37, 172]
abbrev dktX12_calls_0 : List UInt8 := dkwX12_calls_0 ++ []
theorem dksX12_calls_0 : cX12_calls.data.toList.drop 0 = dktX12_calls_0 := by decide +kernel
theorem dX12_calls_0 : decode cX12_calls 0 = .ok (.aload_n 0, 1) := dk_42 (dk_at dksX12_calls_0 0 rfl rfl)
theorem dX12_calls_1 : decode cX12_calls 1 = .ok (.getfield 27, 3) := dk_180 0 27 (dk_at dksX12_calls_0 1 rfl rfl)
theorem dX12_calls_4 : decode cX12_calls 4 = .ok (.bipush 60, 2) := dk_16 60 (dk_at dksX12_calls_0 4 rfl rfl)
theorem dX12_calls_6 : decode cX12_calls 6 = .ok (.invokevirtual 31, 3) := dk_182 0 31 (dk_at dksX12_calls_0 6 rfl rfl)
theorem dX12_calls_9 : decode cX12_calls 9 = .ok (.aload_n 0, 1) := dk_42 (dk_at dksX12_calls_0 9 rfl rfl)
theorem dX12_calls_10 : decode cX12_calls 10 = .ok (.iload_n 1, 1) := dk_27 (dk_at dksX12_calls_0 10 rfl rfl)
theorem dX12_calls_11 : decode cX12_calls 11 = .ok (.iconst 1, 1) := dk_4 (dk_at dksX12_calls_0 11 rfl rfl)
theorem dX12_calls_12 : decode cX12_calls 12 = .ok (.iadd, 1) := dk_96 (dk_at dksX12_calls_0 12 rfl rfl)
theorem dX12_calls_13 : decode cX12_calls 13 = .ok (.invokespecial 37, 3) := dk_183 0 37 (dk_at dksX12_calls_0 13 rfl rfl)
theorem dX12_calls_16 : decode cX12_calls 16 = .ok (.ireturn, 1) := dk_172 (dk_at dksX12_calls_0 16 rfl rfl)
theorem q95 : (Jvm.Cond.initialized "WellNames$Foundling") ∈ lw_all := lw_g (lw_at lw_m1 16 rfl) rfl
theorem q435 : (Jvm.Cond.fieldLink "WellNames$Foundling" (27 : Nat) "WellNames$Foundling" "trace" "LWellNames$Trace;") ∈ lw_all := lw_g (lw_at lw_m2 116 rfl) rfl
theorem q436 : (Jvm.Cond.sameField "WellNames$Foundling" "WellNames$Drinker" "trace" "LWellNames$Trace;") ∈ lw_all := lw_g (lw_at lw_m2 117 rfl) rfl
theorem q445 : (Jvm.Cond.fieldLink "WellNames$Foundling" (17 : Nat) "WellNames$Foundling" "m" "I") ∈ lw_all := lw_g (lw_at lw_m2 126 rfl) rfl
theorem q446 : (Jvm.Cond.sameField "WellNames$Foundling" "WellNames$Drinker" "m" "I") ∈ lw_all := lw_g (lw_at lw_m2 127 rfl) rfl
theorem q491 : (Jvm.Cond.instantiable "WellNames$Foundling" (3 : Nat)) ∈ lw_all := lw_g (lw_at lw_m2 172 rfl) rfl
theorem q493 : (Jvm.Cond.instanceMethod ({ cls := "WellNames$Foundling", name := "<init>", desc := "(LWellNames$Trace;II)V" } : Jvm.MethodName)) ∈ lw_all := lw_g (lw_at lw_m2 174 rfl) rfl
theorem q494 : (Jvm.Cond.code ({ cls := "WellNames$Foundling", name := "<init>", desc := "(LWellNames$Trace;II)V" } : Jvm.MethodName) prog_15_method_1_code (4 : Nat) (Option.none : Option Jvm.ClassFile.FieldType)) ∈ lw_all := lw_g (lw_at lw_m2 175 rfl) rfl
theorem q495 : (Jvm.Cond.methodLink "WellNames$Foundling" (3 : Nat) ({ cls := "WellNames$Child", name := "<init>", desc := "(LWellNames$Trace;II)V" } : Jvm.MethodName)) ∈ lw_all := lw_g (lw_at lw_m2 176 rfl) rfl
theorem q496 : (Jvm.Cond.laysFinal "WellNames$Foundling" "WellNames$Drinker" "trace" "LWellNames$Trace;") ∈ lw_all := lw_g (lw_at lw_m2 177 rfl) rfl
theorem q497 : (Jvm.Cond.laysFinal "WellNames$Foundling" "WellNames$Drinker" "number" "I") ∈ lw_all := lw_g (lw_at lw_m2 178 rfl) rfl
theorem q498 : (Jvm.Cond.laysFinal "WellNames$Foundling" "WellNames$Drinker" "m" "I") ∈ lw_all := lw_g (lw_at lw_m2 179 rfl) rfl
theorem q499 : (Jvm.Cond.superclass "WellNames$Foundling" "WellNames$Child") ∈ lw_all := lw_g (lw_at lw_m2 180 rfl) rfl
theorem q545 : (Jvm.Cond.selects "WellNames$Foundling" ({ cls := "WellNames$Drinker", name := "kind", desc := "()I" } : Jvm.MethodName) ({ cls := "WellNames$Foundling", name := "kind", desc := "()I" } : Jvm.MethodName)) ∈ lw_all := lw_g (lw_at lw_m2 226 rfl) rfl
theorem q546 : (Jvm.Cond.instanceMethod ({ cls := "WellNames$Foundling", name := "kind", desc := "()I" } : Jvm.MethodName)) ∈ lw_all := lw_g (lw_at lw_m2 227 rfl) rfl
theorem q547 : (Jvm.Cond.code ({ cls := "WellNames$Foundling", name := "kind", desc := "()I" } : Jvm.MethodName) prog_15_method_2_code (1 : Nat) (Option.some Jvm.ClassFile.FieldType.int)) ∈ lw_all := lw_g (lw_at lw_m2 228 rfl) rfl
theorem q568 : (Jvm.Cond.selects "WellNames$Foundling" ({ cls := "WellNames$Drinker", name := "limit", desc := "()I" } : Jvm.MethodName) ({ cls := "WellNames$Foundling", name := "limit", desc := "()I" } : Jvm.MethodName)) ∈ lw_all := lw_g (lw_at lw_m3 9 rfl) rfl
theorem q569 : (Jvm.Cond.instanceMethod ({ cls := "WellNames$Foundling", name := "limit", desc := "()I" } : Jvm.MethodName)) ∈ lw_all := lw_g (lw_at lw_m3 10 rfl) rfl
theorem q570 : (Jvm.Cond.code ({ cls := "WellNames$Foundling", name := "limit", desc := "()I" } : Jvm.MethodName) prog_15_method_4_code (1 : Nat) (Option.some Jvm.ClassFile.FieldType.int)) ∈ lw_all := lw_g (lw_at lw_m3 11 rfl) rfl
theorem q571 : (Jvm.Cond.methodLink "WellNames$Foundling" (13 : Nat) ({ cls := "WellNames$Child", name := "limit", desc := "()I" } : Jvm.MethodName)) ∈ lw_all := lw_g (lw_at lw_m3 12 rfl) rfl
theorem q628 : (Jvm.Cond.selects "WellNames$Foundling" ({ cls := "WellNames$Drinker", name := "needs", desc := "(LWellNames$Desert;I)I" } : Jvm.MethodName) ({ cls := "WellNames$Drinker", name := "needs", desc := "(LWellNames$Desert;I)I" } : Jvm.MethodName)) ∈ lw_all := lw_g (lw_at lw_m3 69 rfl) rfl
theorem q659 : (Jvm.Cond.selects "WellNames$Foundling" ({ cls := "WellNames$Drinker", name := "isOf", desc := "(I)Z" } : Jvm.MethodName) ({ cls := "WellNames$Foundling", name := "isOf", desc := "(I)Z" } : Jvm.MethodName)) ∈ lw_all := lw_g (lw_at lw_m3 100 rfl) rfl
theorem q660 : (Jvm.Cond.instanceMethod ({ cls := "WellNames$Foundling", name := "isOf", desc := "(I)Z" } : Jvm.MethodName)) ∈ lw_all := lw_g (lw_at lw_m3 101 rfl) rfl
theorem q661 : (Jvm.Cond.code ({ cls := "WellNames$Foundling", name := "isOf", desc := "(I)Z" } : Jvm.MethodName) prog_15_method_3_code (2 : Nat) (Option.some Jvm.ClassFile.FieldType.boolean)) ∈ lw_all := lw_g (lw_at lw_m3 102 rfl) rfl
theorem q662 : (Jvm.Cond.methodLink "WellNames$Foundling" (9 : Nat) ({ cls := "WellNames$Child", name := "isOf", desc := "(I)Z" } : Jvm.MethodName)) ∈ lw_all := lw_g (lw_at lw_m3 103 rfl) rfl
theorem q936 : (Jvm.Cond.selects "WellNames$Foundling" ({ cls := "WellNames$Drinker", name := "called", desc := "(III)I" } : Jvm.MethodName) ({ cls := "WellNames$Foundling", name := "called", desc := "(III)I" } : Jvm.MethodName)) ∈ lw_all := lw_g (lw_at lw_m4 137 rfl) rfl
theorem q937 : (Jvm.Cond.instanceMethod ({ cls := "WellNames$Foundling", name := "called", desc := "(III)I" } : Jvm.MethodName)) ∈ lw_all := lw_g (lw_at lw_m4 138 rfl) rfl
theorem q938 : (Jvm.Cond.code ({ cls := "WellNames$Foundling", name := "called", desc := "(III)I" } : Jvm.MethodName) prog_15_method_5_code (5 : Nat) (Option.some Jvm.ClassFile.FieldType.int)) ∈ lw_all := lw_g (lw_at lw_m4 139 rfl) rfl
theorem q939 : (Jvm.Cond.methodLink "WellNames$Foundling" (23 : Nat) ({ cls := "WellNames$Child", name := "called", desc := "(III)I" } : Jvm.MethodName)) ∈ lw_all := lw_g (lw_at lw_m4 140 rfl) rfl
theorem q1161 : (Jvm.Cond.castable "WellNames$Foundling" "WellNames$Drinks") ∈ lw_tbl := lw_at lw_m5 122 rfl
theorem q1162 : (Jvm.Cond.selects "WellNames$Foundling" ({ cls := "WellNames$Drinks", name := "drinks", desc := "(I)I" } : Jvm.MethodName) ({ cls := "WellNames$Drinker", name := "drinks", desc := "(I)I" } : Jvm.MethodName)) ∈ lw_all := lw_g (lw_at lw_m5 123 rfl) rfl
theorem q1163 : (Jvm.Cond.unhidden "WellNames$Foundling" "drinks" "(I)I") ∈ lw_tbl := lw_at lw_m5 124 rfl
theorem q1193 : (Jvm.Cond.selects "WellNames$Foundling" ({ cls := "WellNames$Child", name := "owes", desc := "(I)I" } : Jvm.MethodName) ({ cls := "WellNames$Drinker", name := "owes", desc := "(I)I" } : Jvm.MethodName)) ∈ lw_all := lw_g (lw_at lw_m5 154 rfl) rfl
theorem q1202 : (Jvm.Cond.castable "WellNames$Foundling" "WellNames$Calls") ∈ lw_tbl := lw_at lw_m5 163 rfl
theorem q1203 : (Jvm.Cond.selects "WellNames$Foundling" ({ cls := "WellNames$Calls", name := "calls", desc := "(I)I" } : Jvm.MethodName) ({ cls := "WellNames$Foundling", name := "calls", desc := "(I)I" } : Jvm.MethodName)) ∈ lw_all := lw_g (lw_at lw_m5 164 rfl) rfl
theorem q1204 : (Jvm.Cond.unhidden "WellNames$Foundling" "calls" "(I)I") ∈ lw_tbl := lw_at lw_m5 165 rfl
theorem q1205 : (Jvm.Cond.instanceMethod ({ cls := "WellNames$Foundling", name := "calls", desc := "(I)I" } : Jvm.MethodName)) ∈ lw_all := lw_g (lw_at lw_m5 166 rfl) rfl
theorem q1206 : (Jvm.Cond.publicMethod ({ cls := "WellNames$Foundling", name := "calls", desc := "(I)I" } : Jvm.MethodName)) ∈ lw_tbl := lw_at lw_m5 167 rfl
theorem q1207 : (Jvm.Cond.code ({ cls := "WellNames$Foundling", name := "calls", desc := "(I)I" } : Jvm.MethodName) prog_15_method_6_code (2 : Nat) (Option.some Jvm.ClassFile.FieldType.int)) ∈ lw_all := lw_g (lw_at lw_m5 168 rfl) rfl
theorem q1208 : (Jvm.Cond.methodLink "WellNames$Foundling" (31 : Nat) ({ cls := "WellNames$Trace", name := "begins", desc := "(I)V" } : Jvm.MethodName)) ∈ lw_all := lw_g (lw_at lw_m5 169 rfl) rfl
theorem q1209 : (Jvm.Cond.methodLink "WellNames$Foundling" (37 : Nat) ({ cls := "WellNames$Child", name := "calls", desc := "(I)I" } : Jvm.MethodName)) ∈ lw_all := lw_g (lw_at lw_m5 170 rfl) rfl
theorem q1243 : (Jvm.Cond.castable "WellNames$Foundling" "WellNames$Owes") ∈ lw_tbl := lw_at lw_m5 204 rfl
theorem q1244 : (Jvm.Cond.selects "WellNames$Foundling" ({ cls := "WellNames$Owes", name := "owes", desc := "(I)I" } : Jvm.MethodName) ({ cls := "WellNames$Drinker", name := "owes", desc := "(I)I" } : Jvm.MethodName)) ∈ lw_all := lw_g (lw_at lw_m5 205 rfl) rfl
theorem q1245 : (Jvm.Cond.unhidden "WellNames$Foundling" "owes" "(I)I") ∈ lw_tbl := lw_at lw_m5 206 rfl
theorem q1283 : (Jvm.Cond.castable "WellNames$Foundling" "WellNames$Tells") ∈ lw_tbl := lw_at lw_m6 4 rfl
theorem q1284 : (Jvm.Cond.selects "WellNames$Foundling" ({ cls := "WellNames$Tells", name := "tells", desc := "(I)I" } : Jvm.MethodName) ({ cls := "WellNames$Drinker", name := "tells", desc := "(I)I" } : Jvm.MethodName)) ∈ lw_all := lw_g (lw_at lw_m6 5 rfl) rfl
theorem q1285 : (Jvm.Cond.unhidden "WellNames$Foundling" "tells" "(I)I") ∈ lw_tbl := lw_at lw_m6 6 rfl
theorem q1949 : (Jvm.Cond.selects "WellNames$Foundling" ({ cls := "WellNames$Drinker", name := "drinks", desc := "(I)I" } : Jvm.MethodName) ({ cls := "WellNames$Drinker", name := "drinks", desc := "(I)I" } : Jvm.MethodName)) ∈ lw_all := lw_g (lw_at lw_m8 190 rfl) rfl
theorem q1960 : (Jvm.Cond.selects "WellNames$Foundling" ({ cls := "WellNames$Drinker", name := "calls", desc := "(I)I" } : Jvm.MethodName) ({ cls := "WellNames$Foundling", name := "calls", desc := "(I)I" } : Jvm.MethodName)) ∈ lw_all := lw_g (lw_at lw_m8 201 rfl) rfl
theorem q1967 : (Jvm.Cond.selects "WellNames$Foundling" ({ cls := "WellNames$Drinker", name := "owes", desc := "(I)I" } : Jvm.MethodName) ({ cls := "WellNames$Drinker", name := "owes", desc := "(I)I" } : Jvm.MethodName)) ∈ lw_all := lw_g (lw_at lw_m8 208 rfl) rfl
theorem q1976 : (Jvm.Cond.castable "WellNames$Foundling" "WellNames$Drinker") ∈ lw_tbl := lw_at lw_m8 217 rfl
theorem in_X12 : ∀ w ∈ wsX120, w ∈ lw_all := lw_in wsX120 [496, 497, 498] (by decide +kernel) (by decide +kernel)

/-! WellNames$Beast -/
set_option maxRecDepth 100000
def RX13 : String := "WellNames$Beast"
def TX13 : u_T := fun k => match k with
  | 0 => ("WellNames$Drinker", "trace", "LWellNames$Trace;", true)
  | 1 => ("WellNames$Drinker", "number", "I", true)
  | _ => ("WellNames$Drinker", "m", "I", true)
def tyX13 : Nat → FieldType := fun k => match k with
  | 0 => .object "WellNames$Trace"
  | 1 => .int
  | _ => .int
abbrev wsX130 : List Cond := u_ws RX13 TX13 3
theorem nmX13 : ∀ a, a < 3 → ∀ b, b < 3 → a ≠ b → (TX13 a).2.1 ≠ (TX13 b).2.1 := by decide +kernel
theorem tyX13_ok : ∀ k, k < 3 → parseFieldDescriptor (TX13 k).2.2.1 = some (tyX13 k) := by decide +kernel
abbrev cX13_init : ByteArray := prog_2_method_1_code
def yX13_init : MethodName := ⟨RX13, "<init>", "(LWellNames$Trace;II)V"⟩
def dkwX13_init_0 : List UInt8 := [42, 43, 28, 29, 183, 0, 3, 177]
abbrev dktX13_init_0 : List UInt8 := dkwX13_init_0 ++ []
theorem dksX13_init_0 : cX13_init.data.toList.drop 0 = dktX13_init_0 := by decide +kernel
theorem dX13_init_0 : decode cX13_init 0 = .ok (.aload_n 0, 1) := dk_42 (dk_at dksX13_init_0 0 rfl rfl)
theorem dX13_init_1 : decode cX13_init 1 = .ok (.aload_n 1, 1) := dk_43 (dk_at dksX13_init_0 1 rfl rfl)
theorem dX13_init_2 : decode cX13_init 2 = .ok (.iload_n 2, 1) := dk_28 (dk_at dksX13_init_0 2 rfl rfl)
theorem dX13_init_3 : decode cX13_init 3 = .ok (.iload_n 3, 1) := dk_29 (dk_at dksX13_init_0 3 rfl rfl)
theorem dX13_init_4 : decode cX13_init 4 = .ok (.invokespecial 3, 3) := dk_183 0 3 (dk_at dksX13_init_0 4 rfl rfl)
theorem dX13_init_7 : decode cX13_init 7 = .ok (.return_, 1) := dk_177 (dk_at dksX13_init_0 7 rfl rfl)
abbrev cX13_kind : ByteArray := prog_2_method_2_code
def yX13_kind : MethodName := ⟨RX13, "kind", "()I"⟩
theorem dX13_kind_0 : decode cX13_kind 0 = .ok (.bipush 6, 2) := by decide +kernel
theorem dX13_kind_2 : decode cX13_kind 2 = .ok (.ireturn, 1) := by decide +kernel
abbrev cX13_needs : ByteArray := prog_2_method_4_code
def yX13_needs : MethodName := ⟨RX13, "needs", "(LWellNames$Desert;I)I"⟩
def dkwX13_needs_0 : List UInt8 := [42, 43, 28, 183, 0, 13, 42, 180, 0, 17, 96, 172]
abbrev dktX13_needs_0 : List UInt8 := dkwX13_needs_0 ++ []
theorem dksX13_needs_0 : cX13_needs.data.toList.drop 0 = dktX13_needs_0 := by decide +kernel
theorem dX13_needs_0 : decode cX13_needs 0 = .ok (.aload_n 0, 1) := dk_42 (dk_at dksX13_needs_0 0 rfl rfl)
theorem dX13_needs_1 : decode cX13_needs 1 = .ok (.aload_n 1, 1) := dk_43 (dk_at dksX13_needs_0 1 rfl rfl)
theorem dX13_needs_2 : decode cX13_needs 2 = .ok (.iload_n 2, 1) := dk_28 (dk_at dksX13_needs_0 2 rfl rfl)
theorem dX13_needs_3 : decode cX13_needs 3 = .ok (.invokespecial 13, 3) := dk_183 0 13 (dk_at dksX13_needs_0 3 rfl rfl)
theorem dX13_needs_6 : decode cX13_needs 6 = .ok (.aload_n 0, 1) := dk_42 (dk_at dksX13_needs_0 6 rfl rfl)
theorem dX13_needs_7 : decode cX13_needs 7 = .ok (.getfield 17, 3) := dk_180 0 17 (dk_at dksX13_needs_0 7 rfl rfl)
theorem dX13_needs_10 : decode cX13_needs 10 = .ok (.iadd, 1) := dk_96 (dk_at dksX13_needs_0 10 rfl rfl)
theorem dX13_needs_11 : decode cX13_needs 11 = .ok (.ireturn, 1) := dk_172 (dk_at dksX13_needs_0 11 rfl rfl)
abbrev cX13_isOf : ByteArray := prog_2_method_3_code
def yX13_isOf : MethodName := ⟨RX13, "isOf", "(I)Z"⟩
def dkwX13_isOf_0 : List UInt8 := [27, 16, 6, 159, 0, 11, 42, 27, 183, 0, 9, 153, 0, 7, 4, 167, 0, 4, 3, 172]
abbrev dktX13_isOf_0 : List UInt8 := dkwX13_isOf_0 ++ []
theorem dksX13_isOf_0 : cX13_isOf.data.toList.drop 0 = dktX13_isOf_0 := by decide +kernel
theorem dX13_isOf_0 : decode cX13_isOf 0 = .ok (.iload_n 1, 1) := dk_27 (dk_at dksX13_isOf_0 0 rfl rfl)
theorem dX13_isOf_1 : decode cX13_isOf 1 = .ok (.bipush 6, 2) := dk_16 6 (dk_at dksX13_isOf_0 1 rfl rfl)
theorem dX13_isOf_3 : decode cX13_isOf 3 = .ok (.if_icmp .eq 11, 3) := dk_159 0 11 (dk_at dksX13_isOf_0 3 rfl rfl)
theorem dX13_isOf_6 : decode cX13_isOf 6 = .ok (.aload_n 0, 1) := dk_42 (dk_at dksX13_isOf_0 6 rfl rfl)
theorem dX13_isOf_7 : decode cX13_isOf 7 = .ok (.iload_n 1, 1) := dk_27 (dk_at dksX13_isOf_0 7 rfl rfl)
theorem dX13_isOf_8 : decode cX13_isOf 8 = .ok (.invokespecial 9, 3) := dk_183 0 9 (dk_at dksX13_isOf_0 8 rfl rfl)
theorem dX13_isOf_11 : decode cX13_isOf 11 = .ok (.ifCond .eq 7, 3) := dk_153 0 7 (dk_at dksX13_isOf_0 11 rfl rfl)
theorem dX13_isOf_14 : decode cX13_isOf 14 = .ok (.iconst 1, 1) := dk_4 (dk_at dksX13_isOf_0 14 rfl rfl)
theorem dX13_isOf_15 : decode cX13_isOf 15 = .ok (.goto 4, 3) := dk_167 0 4 (dk_at dksX13_isOf_0 15 rfl rfl)
theorem dX13_isOf_18 : decode cX13_isOf 18 = .ok (.iconst 0, 1) := dk_3 (dk_at dksX13_isOf_0 18 rfl rfl)
theorem dX13_isOf_19 : decode cX13_isOf 19 = .ok (.ireturn, 1) := dk_172 (dk_at dksX13_isOf_0 19 rfl rfl)
abbrev cX13_owes : ByteArray := prog_2_method_5_code
def yX13_owes : MethodName := ⟨RX13, "owes", "(I)I"⟩
def dkwX13_owes_0 : List UInt8 := [42, 180, 0, 23, 16, 70, 182, 0, 27, 42, 27, 183, 0, 33, 42, 180, 0, 37, 130, 172]
abbrev dktX13_owes_0 : List UInt8 := dkwX13_owes_0 ++ []
theorem dksX13_owes_0 : cX13_owes.data.toList.drop 0 = dktX13_owes_0 := by decide +kernel
theorem dX13_owes_0 : decode cX13_owes 0 = .ok (.aload_n 0, 1) := dk_42 (dk_at dksX13_owes_0 0 rfl rfl)
theorem dX13_owes_1 : decode cX13_owes 1 = .ok (.getfield 23, 3) := dk_180 0 23 (dk_at dksX13_owes_0 1 rfl rfl)
theorem dX13_owes_4 : decode cX13_owes 4 = .ok (.bipush 70, 2) := dk_16 70 (dk_at dksX13_owes_0 4 rfl rfl)
theorem dX13_owes_6 : decode cX13_owes 6 = .ok (.invokevirtual 27, 3) := dk_182 0 27 (dk_at dksX13_owes_0 6 rfl rfl)
theorem dX13_owes_9 : decode cX13_owes 9 = .ok (.aload_n 0, 1) := dk_42 (dk_at dksX13_owes_0 9 rfl rfl)
theorem dX13_owes_10 : decode cX13_owes 10 = .ok (.iload_n 1, 1) := dk_27 (dk_at dksX13_owes_0 10 rfl rfl)
theorem dX13_owes_11 : decode cX13_owes 11 = .ok (.invokespecial 33, 3) := dk_183 0 33 (dk_at dksX13_owes_0 11 rfl rfl)
theorem dX13_owes_14 : decode cX13_owes 14 = .ok (.aload_n 0, 1) := dk_42 (dk_at dksX13_owes_0 14 rfl rfl)
theorem dX13_owes_15 : decode cX13_owes 15 = .ok (.getfield 37, 3) := dk_180 0 37 (dk_at dksX13_owes_0 15 rfl rfl)
theorem dX13_owes_18 : decode cX13_owes 18 = .ok (.ixor, 1) := dk_130 (dk_at dksX13_owes_0 18 rfl rfl)
theorem dX13_owes_19 : decode cX13_owes 19 = .ok (.ireturn, 1) := dk_172 (dk_at dksX13_owes_0 19 rfl rfl)
abbrev cX13_tells : ByteArray := prog_2_method_6_code
def yX13_tells : MethodName := ⟨RX13, "tells", "(I)I"⟩
def dkwX13_tells_0 : List UInt8 := [42, 180, 0, 23, 16, 71, 182, 0, 27, 42, 27, 182, 0, 40, 61, 28, 42, 27, 183, 0, 43, 100, 172]
abbrev dktX13_tells_0 : List UInt8 := dkwX13_tells_0 ++ []
theorem dksX13_tells_0 : cX13_tells.data.toList.drop 0 = dktX13_tells_0 := by decide +kernel
theorem dX13_tells_0 : decode cX13_tells 0 = .ok (.aload_n 0, 1) := dk_42 (dk_at dksX13_tells_0 0 rfl rfl)
theorem dX13_tells_1 : decode cX13_tells 1 = .ok (.getfield 23, 3) := dk_180 0 23 (dk_at dksX13_tells_0 1 rfl rfl)
theorem dX13_tells_4 : decode cX13_tells 4 = .ok (.bipush 71, 2) := dk_16 71 (dk_at dksX13_tells_0 4 rfl rfl)
theorem dX13_tells_6 : decode cX13_tells 6 = .ok (.invokevirtual 27, 3) := dk_182 0 27 (dk_at dksX13_tells_0 6 rfl rfl)
theorem dX13_tells_9 : decode cX13_tells 9 = .ok (.aload_n 0, 1) := dk_42 (dk_at dksX13_tells_0 9 rfl rfl)
theorem dX13_tells_10 : decode cX13_tells 10 = .ok (.iload_n 1, 1) := dk_27 (dk_at dksX13_tells_0 10 rfl rfl)
theorem dX13_tells_11 : decode cX13_tells 11 = .ok (.invokevirtual 40, 3) := dk_182 0 40 (dk_at dksX13_tells_0 11 rfl rfl)
theorem dX13_tells_14 : decode cX13_tells 14 = .ok (.istore_n 2, 1) := dk_61 (dk_at dksX13_tells_0 14 rfl rfl)
theorem dX13_tells_15 : decode cX13_tells 15 = .ok (.iload_n 2, 1) := dk_28 (dk_at dksX13_tells_0 15 rfl rfl)
theorem dX13_tells_16 : decode cX13_tells 16 = .ok (.aload_n 0, 1) := dk_42 (dk_at dksX13_tells_0 16 rfl rfl)
theorem dX13_tells_17 : decode cX13_tells 17 = .ok (.iload_n 1, 1) := dk_27 (dk_at dksX13_tells_0 17 rfl rfl)
theorem dX13_tells_18 : decode cX13_tells 18 = .ok (.invokespecial 43, 3) := dk_183 0 43 (dk_at dksX13_tells_0 18 rfl rfl)
theorem dX13_tells_21 : decode cX13_tells 21 = .ok (.isub, 1) := dk_100 (dk_at dksX13_tells_0 21 rfl rfl)
theorem dX13_tells_22 : decode cX13_tells 22 = .ok (.ireturn, 1) := dk_172 (dk_at dksX13_tells_0 22 rfl rfl)
theorem q96 : (Jvm.Cond.initialized "WellNames$Beast") ∈ lw_all := lw_g (lw_at lw_m1 17 rfl) rfl
theorem q431 : (Jvm.Cond.fieldLink "WellNames$Beast" (23 : Nat) "WellNames$Beast" "trace" "LWellNames$Trace;") ∈ lw_all := lw_g (lw_at lw_m2 112 rfl) rfl
theorem q432 : (Jvm.Cond.sameField "WellNames$Beast" "WellNames$Drinker" "trace" "LWellNames$Trace;") ∈ lw_all := lw_g (lw_at lw_m2 113 rfl) rfl
theorem q440 : (Jvm.Cond.fieldLink "WellNames$Beast" (37 : Nat) "WellNames$Beast" "number" "I") ∈ lw_all := lw_g (lw_at lw_m2 121 rfl) rfl
theorem q441 : (Jvm.Cond.sameField "WellNames$Beast" "WellNames$Drinker" "number" "I") ∈ lw_all := lw_g (lw_at lw_m2 122 rfl) rfl
theorem q447 : (Jvm.Cond.fieldLink "WellNames$Beast" (17 : Nat) "WellNames$Beast" "m" "I") ∈ lw_all := lw_g (lw_at lw_m2 128 rfl) rfl
theorem q448 : (Jvm.Cond.sameField "WellNames$Beast" "WellNames$Drinker" "m" "I") ∈ lw_all := lw_g (lw_at lw_m2 129 rfl) rfl
theorem q501 : (Jvm.Cond.instantiable "WellNames$Beast" (3 : Nat)) ∈ lw_all := lw_g (lw_at lw_m2 182 rfl) rfl
theorem q503 : (Jvm.Cond.instanceMethod ({ cls := "WellNames$Beast", name := "<init>", desc := "(LWellNames$Trace;II)V" } : Jvm.MethodName)) ∈ lw_all := lw_g (lw_at lw_m2 184 rfl) rfl
theorem q504 : (Jvm.Cond.code ({ cls := "WellNames$Beast", name := "<init>", desc := "(LWellNames$Trace;II)V" } : Jvm.MethodName) prog_2_method_1_code (4 : Nat) (Option.none : Option Jvm.ClassFile.FieldType)) ∈ lw_all := lw_g (lw_at lw_m2 185 rfl) rfl
theorem q505 : (Jvm.Cond.methodLink "WellNames$Beast" (3 : Nat) ({ cls := "WellNames$Camel", name := "<init>", desc := "(LWellNames$Trace;II)V" } : Jvm.MethodName)) ∈ lw_all := lw_g (lw_at lw_m2 186 rfl) rfl
theorem q506 : (Jvm.Cond.laysFinal "WellNames$Beast" "WellNames$Drinker" "trace" "LWellNames$Trace;") ∈ lw_all := lw_g (lw_at lw_m2 187 rfl) rfl
theorem q507 : (Jvm.Cond.laysFinal "WellNames$Beast" "WellNames$Drinker" "number" "I") ∈ lw_all := lw_g (lw_at lw_m2 188 rfl) rfl
theorem q508 : (Jvm.Cond.laysFinal "WellNames$Beast" "WellNames$Drinker" "m" "I") ∈ lw_all := lw_g (lw_at lw_m2 189 rfl) rfl
theorem q509 : (Jvm.Cond.superclass "WellNames$Beast" "WellNames$Camel") ∈ lw_all := lw_g (lw_at lw_m2 190 rfl) rfl
theorem q533 : (Jvm.Cond.selects "WellNames$Beast" ({ cls := "WellNames$Drinker", name := "kind", desc := "()I" } : Jvm.MethodName) ({ cls := "WellNames$Beast", name := "kind", desc := "()I" } : Jvm.MethodName)) ∈ lw_all := lw_g (lw_at lw_m2 214 rfl) rfl
theorem q534 : (Jvm.Cond.instanceMethod ({ cls := "WellNames$Beast", name := "kind", desc := "()I" } : Jvm.MethodName)) ∈ lw_all := lw_g (lw_at lw_m2 215 rfl) rfl
theorem q535 : (Jvm.Cond.code ({ cls := "WellNames$Beast", name := "kind", desc := "()I" } : Jvm.MethodName) prog_2_method_2_code (1 : Nat) (Option.some Jvm.ClassFile.FieldType.int)) ∈ lw_all := lw_g (lw_at lw_m2 216 rfl) rfl
theorem q556 : (Jvm.Cond.selects "WellNames$Beast" ({ cls := "WellNames$Drinker", name := "limit", desc := "()I" } : Jvm.MethodName) ({ cls := "WellNames$Camel", name := "limit", desc := "()I" } : Jvm.MethodName)) ∈ lw_all := lw_g (lw_at lw_m2 237 rfl) rfl
theorem q582 : (Jvm.Cond.selects "WellNames$Beast" ({ cls := "WellNames$Drinker", name := "needs", desc := "(LWellNames$Desert;I)I" } : Jvm.MethodName) ({ cls := "WellNames$Beast", name := "needs", desc := "(LWellNames$Desert;I)I" } : Jvm.MethodName)) ∈ lw_all := lw_g (lw_at lw_m3 23 rfl) rfl
theorem q583 : (Jvm.Cond.instanceMethod ({ cls := "WellNames$Beast", name := "needs", desc := "(LWellNames$Desert;I)I" } : Jvm.MethodName)) ∈ lw_all := lw_g (lw_at lw_m3 24 rfl) rfl
theorem q584 : (Jvm.Cond.code ({ cls := "WellNames$Beast", name := "needs", desc := "(LWellNames$Desert;I)I" } : Jvm.MethodName) prog_2_method_4_code (3 : Nat) (Option.some Jvm.ClassFile.FieldType.int)) ∈ lw_all := lw_g (lw_at lw_m3 25 rfl) rfl
theorem q585 : (Jvm.Cond.methodLink "WellNames$Beast" (13 : Nat) ({ cls := "WellNames$Camel", name := "needs", desc := "(LWellNames$Desert;I)I" } : Jvm.MethodName)) ∈ lw_all := lw_g (lw_at lw_m3 26 rfl) rfl
theorem q643 : (Jvm.Cond.selects "WellNames$Beast" ({ cls := "WellNames$Drinker", name := "isOf", desc := "(I)Z" } : Jvm.MethodName) ({ cls := "WellNames$Beast", name := "isOf", desc := "(I)Z" } : Jvm.MethodName)) ∈ lw_all := lw_g (lw_at lw_m3 84 rfl) rfl
theorem q644 : (Jvm.Cond.instanceMethod ({ cls := "WellNames$Beast", name := "isOf", desc := "(I)Z" } : Jvm.MethodName)) ∈ lw_all := lw_g (lw_at lw_m3 85 rfl) rfl
theorem q645 : (Jvm.Cond.code ({ cls := "WellNames$Beast", name := "isOf", desc := "(I)Z" } : Jvm.MethodName) prog_2_method_3_code (2 : Nat) (Option.some Jvm.ClassFile.FieldType.boolean)) ∈ lw_all := lw_g (lw_at lw_m3 86 rfl) rfl
theorem q646 : (Jvm.Cond.methodLink "WellNames$Beast" (9 : Nat) ({ cls := "WellNames$Camel", name := "isOf", desc := "(I)Z" } : Jvm.MethodName)) ∈ lw_all := lw_g (lw_at lw_m3 87 rfl) rfl
theorem q929 : (Jvm.Cond.selects "WellNames$Beast" ({ cls := "WellNames$Drinker", name := "called", desc := "(III)I" } : Jvm.MethodName) ({ cls := "WellNames$Camel", name := "called", desc := "(III)I" } : Jvm.MethodName)) ∈ lw_all := lw_g (lw_at lw_m4 130 rfl) rfl
theorem q1134 : (Jvm.Cond.castable "WellNames$Beast" "WellNames$Drinks") ∈ lw_tbl := lw_at lw_m5 95 rfl
theorem q1135 : (Jvm.Cond.selects "WellNames$Beast" ({ cls := "WellNames$Drinks", name := "drinks", desc := "(I)I" } : Jvm.MethodName) ({ cls := "WellNames$Drinker", name := "drinks", desc := "(I)I" } : Jvm.MethodName)) ∈ lw_all := lw_g (lw_at lw_m5 96 rfl) rfl
theorem q1136 : (Jvm.Cond.unhidden "WellNames$Beast" "drinks" "(I)I") ∈ lw_tbl := lw_at lw_m5 97 rfl
theorem q1171 : (Jvm.Cond.castable "WellNames$Beast" "WellNames$Calls") ∈ lw_tbl := lw_at lw_m5 132 rfl
theorem q1172 : (Jvm.Cond.selects "WellNames$Beast" ({ cls := "WellNames$Calls", name := "calls", desc := "(I)I" } : Jvm.MethodName) ({ cls := "WellNames$Drinker", name := "calls", desc := "(I)I" } : Jvm.MethodName)) ∈ lw_all := lw_g (lw_at lw_m5 133 rfl) rfl
theorem q1173 : (Jvm.Cond.unhidden "WellNames$Beast" "calls" "(I)I") ∈ lw_tbl := lw_at lw_m5 134 rfl
theorem q1217 : (Jvm.Cond.castable "WellNames$Beast" "WellNames$Owes") ∈ lw_tbl := lw_at lw_m5 178 rfl
theorem q1218 : (Jvm.Cond.selects "WellNames$Beast" ({ cls := "WellNames$Owes", name := "owes", desc := "(I)I" } : Jvm.MethodName) ({ cls := "WellNames$Beast", name := "owes", desc := "(I)I" } : Jvm.MethodName)) ∈ lw_all := lw_g (lw_at lw_m5 179 rfl) rfl
theorem q1219 : (Jvm.Cond.unhidden "WellNames$Beast" "owes" "(I)I") ∈ lw_tbl := lw_at lw_m5 180 rfl
theorem q1220 : (Jvm.Cond.instanceMethod ({ cls := "WellNames$Beast", name := "owes", desc := "(I)I" } : Jvm.MethodName)) ∈ lw_all := lw_g (lw_at lw_m5 181 rfl) rfl
theorem q1221 : (Jvm.Cond.publicMethod ({ cls := "WellNames$Beast", name := "owes", desc := "(I)I" } : Jvm.MethodName)) ∈ lw_tbl := lw_at lw_m5 182 rfl
theorem q1222 : (Jvm.Cond.code ({ cls := "WellNames$Beast", name := "owes", desc := "(I)I" } : Jvm.MethodName) prog_2_method_5_code (2 : Nat) (Option.some Jvm.ClassFile.FieldType.int)) ∈ lw_all := lw_g (lw_at lw_m5 183 rfl) rfl
theorem q1223 : (Jvm.Cond.methodLink "WellNames$Beast" (27 : Nat) ({ cls := "WellNames$Trace", name := "begins", desc := "(I)V" } : Jvm.MethodName)) ∈ lw_all := lw_g (lw_at lw_m5 184 rfl) rfl
theorem q1224 : (Jvm.Cond.methodLink "WellNames$Beast" (33 : Nat) ({ cls := "WellNames$Camel", name := "owes", desc := "(I)I" } : Jvm.MethodName)) ∈ lw_all := lw_g (lw_at lw_m5 185 rfl) rfl
theorem q1253 : (Jvm.Cond.castable "WellNames$Beast" "WellNames$Tells") ∈ lw_tbl := lw_at lw_m5 214 rfl
theorem q1254 : (Jvm.Cond.selects "WellNames$Beast" ({ cls := "WellNames$Tells", name := "tells", desc := "(I)I" } : Jvm.MethodName) ({ cls := "WellNames$Beast", name := "tells", desc := "(I)I" } : Jvm.MethodName)) ∈ lw_all := lw_g (lw_at lw_m5 215 rfl) rfl
theorem q1255 : (Jvm.Cond.unhidden "WellNames$Beast" "tells" "(I)I") ∈ lw_tbl := lw_at lw_m5 216 rfl
theorem q1256 : (Jvm.Cond.instanceMethod ({ cls := "WellNames$Beast", name := "tells", desc := "(I)I" } : Jvm.MethodName)) ∈ lw_all := lw_g (lw_at lw_m5 217 rfl) rfl
theorem q1257 : (Jvm.Cond.publicMethod ({ cls := "WellNames$Beast", name := "tells", desc := "(I)I" } : Jvm.MethodName)) ∈ lw_tbl := lw_at lw_m5 218 rfl
theorem q1258 : (Jvm.Cond.code ({ cls := "WellNames$Beast", name := "tells", desc := "(I)I" } : Jvm.MethodName) prog_2_method_6_code (3 : Nat) (Option.some Jvm.ClassFile.FieldType.int)) ∈ lw_all := lw_g (lw_at lw_m5 219 rfl) rfl
theorem q1259 : (Jvm.Cond.methodLink "WellNames$Beast" (40 : Nat) ({ cls := "WellNames$Beast", name := "calls", desc := "(I)I" } : Jvm.MethodName)) ∈ lw_all := lw_g (lw_at lw_m5 220 rfl) rfl
theorem q1260 : (Jvm.Cond.sameMethod "WellNames$Beast" "WellNames$Drinker" "calls" "(I)I") ∈ lw_all := lw_g (lw_at lw_m5 221 rfl) rfl
theorem q1262 : (Jvm.Cond.selects "WellNames$Beast" ({ cls := "WellNames$Beast", name := "calls", desc := "(I)I" } : Jvm.MethodName) ({ cls := "WellNames$Drinker", name := "calls", desc := "(I)I" } : Jvm.MethodName)) ∈ lw_all := lw_g (lw_at lw_m5 223 rfl) rfl
theorem q1263 : (Jvm.Cond.methodLink "WellNames$Beast" (43 : Nat) ({ cls := "WellNames$Camel", name := "tells", desc := "(I)I" } : Jvm.MethodName)) ∈ lw_all := lw_g (lw_at lw_m5 224 rfl) rfl
theorem q1944 : (Jvm.Cond.selects "WellNames$Beast" ({ cls := "WellNames$Drinker", name := "drinks", desc := "(I)I" } : Jvm.MethodName) ({ cls := "WellNames$Drinker", name := "drinks", desc := "(I)I" } : Jvm.MethodName)) ∈ lw_all := lw_g (lw_at lw_m8 185 rfl) rfl
theorem q1955 : (Jvm.Cond.selects "WellNames$Beast" ({ cls := "WellNames$Drinker", name := "calls", desc := "(I)I" } : Jvm.MethodName) ({ cls := "WellNames$Drinker", name := "calls", desc := "(I)I" } : Jvm.MethodName)) ∈ lw_all := lw_g (lw_at lw_m8 196 rfl) rfl
theorem q1962 : (Jvm.Cond.selects "WellNames$Beast" ({ cls := "WellNames$Drinker", name := "owes", desc := "(I)I" } : Jvm.MethodName) ({ cls := "WellNames$Beast", name := "owes", desc := "(I)I" } : Jvm.MethodName)) ∈ lw_all := lw_g (lw_at lw_m8 203 rfl) rfl
theorem q1977 : (Jvm.Cond.castable "WellNames$Beast" "WellNames$Drinker") ∈ lw_tbl := lw_at lw_m8 218 rfl
theorem in_X13 : ∀ w ∈ wsX130, w ∈ lw_all := lw_in wsX130 [506, 507, 508] (by decide +kernel) (by decide +kernel)

/-! WellNames$Term -/
set_option maxRecDepth 100000
def RX14 : String := "WellNames$Term"
abbrev cX14_init : ByteArray := prog_25_method_1_code
def yX14_init : MethodName := ⟨RX14, "<init>", "()V"⟩
theorem dX14_init_0 : decode cX14_init 0 = .ok (.aload_n 0, 1) := by decide +kernel
theorem dX14_init_1 : decode cX14_init 1 = .ok (.invokespecial 1, 3) := by decide +kernel
theorem dX14_init_4 : decode cX14_init 4 = .ok (.return_, 1) := by decide +kernel
theorem q97 : (Jvm.Cond.initialized "WellNames$Term") ∈ lw_all := lw_g (lw_at lw_m1 18 rfl) rfl
theorem q597 : (Jvm.Cond.declares ({ cls := "WellNames$Term", name := "value", desc := "(LWellNames$Facts;)I" } : Jvm.MethodName)) ∈ lw_tbl := lw_at lw_m3 38 rfl
theorem q598 : (Jvm.Cond.sameMethod "WellNames$Term" "WellNames$Term" "value" "(LWellNames$Facts;)I") ∈ lw_all := lw_g (lw_at lw_m3 39 rfl) rfl
theorem q825 : (Jvm.Cond.instanceMethod ({ cls := "WellNames$Term", name := "<init>", desc := "()V" } : Jvm.MethodName)) ∈ lw_all := lw_g (lw_at lw_m4 26 rfl) rfl
theorem q826 : (Jvm.Cond.code ({ cls := "WellNames$Term", name := "<init>", desc := "()V" } : Jvm.MethodName) prog_25_method_1_code (1 : Nat) (Option.none : Option Jvm.ClassFile.FieldType)) ∈ lw_all := lw_g (lw_at lw_m4 27 rfl) rfl
theorem q827 : (Jvm.Cond.methodLink "WellNames$Term" (1 : Nat) ({ cls := "java/lang/Object", name := "<init>", desc := "()V" } : Jvm.MethodName)) ∈ lw_all := lw_g (lw_at lw_m4 28 rfl) rfl

/-! WellNames$Two -/
set_option maxRecDepth 100000
def RX15 : String := "WellNames$Two"
def TX15 : u_T := fun k => match k with
  | 0 => ("WellNames$Two", "sign", "I", true)
  | 1 => ("WellNames$Two", "a", "LWellNames$Term;", true)
  | _ => ("WellNames$Two", "b", "LWellNames$Term;", true)
def tyX15 : Nat → FieldType := fun k => match k with
  | 0 => .int
  | 1 => .object "WellNames$Term"
  | _ => .object "WellNames$Term"
abbrev wsX150 : List Cond := u_ws RX15 TX15 3
theorem nmX15 : ∀ a, a < 3 → ∀ b, b < 3 → a ≠ b → (TX15 a).2.1 ≠ (TX15 b).2.1 := by decide +kernel
theorem tyX15_ok : ∀ k, k < 3 → parseFieldDescriptor (TX15 k).2.2.1 = some (tyX15 k) := by decide +kernel
abbrev cX15_value : ByteArray := prog_28_method_3_code
def yX15_value : MethodName := ⟨RX15, "value", "(LWellNames$Facts;)I"⟩
def dkwX15_value_6 : List UInt8 := [172, 28, 154, 0, 7, 29, 153, 0, 7, 4, 167, 0, 4, 3, 184, 0, 24, 172]
abbrev dktX15_value_6 : List UInt8 := dkwX15_value_6 ++ []
def dkwX15_value_5 : List UInt8 := [167, 0, 4, 3, 184, 0, 24, 172, 28, 153, 0, 11, 29, 153, 0, 7, 4, 167, 0, 4, 3, 184, 0, 24]
abbrev dktX15_value_5 : List UInt8 := dkwX15_value_5 ++ dktX15_value_6
def dkwX15_value_4 : List UInt8 := [184, 0, 24, 172, 28, 29, 160, 0, 7, 4, 167, 0, 4, 3, 184, 0, 24, 172, 28, 29, 164, 0, 7, 4]
abbrev dktX15_value_4 : List UInt8 := dkwX15_value_4 ++ dktX15_value_5
def dkwX15_value_3 : List UInt8 := [29, 154, 0, 7, 3, 167, 0, 6, 28, 29, 112, 172, 28, 29, 162, 0, 7, 4, 167, 0, 4, 3]
abbrev dktX15_value_3 : List UInt8 := dkwX15_value_3 ++ dktX15_value_4
def dkwX15_value_2 : List UInt8 := [28, 29, 96, 172, 28, 29, 100, 172, 28, 29, 104, 172, 29, 154, 0, 7, 3, 167, 0, 6, 28, 29, 108, 172]
abbrev dktX15_value_2 : List UInt8 := dkwX15_value_2 ++ dktX15_value_3
def dkwX15_value_1 : List UInt8 := [170, 0, 0, 0, 0, 213, 0, 0, 0, 37, 0, 0, 0, 62, 0, 0, 0, 142, 0, 0, 0, 196, 0, 0, 0, 213, 0, 0, 0, 213, 0, 0, 0, 213, 0, 0, 0, 126, 0, 0, 0, 118, 0, 0, 0, 213, 0, 0, 0, 122, 0, 0, 0, 213, 0, 0, 0, 130, 0, 0, 0, 213, 0, 0, 0, 213, 0, 0, 0, 213, 0, 0, 0, 213, 0, 0, 0, 213, 0, 0, 0, 213, 0, 0, 0, 213, 0, 0, 0, 213, 0, 0, 0, 213, 0, 0, 0, 213, 0, 0, 0, 213, 0, 0, 0, 213, 0, 0, 0, 154, 0, 0, 0, 168, 0, 0, 0, 182]
abbrev dktX15_value_1 : List UInt8 := dkwX15_value_1 ++ dktX15_value_2
def dkwX15_value_0 : List UInt8 := [42, 180, 0, 13, 43, 182, 0, 20, 61, 42, 180, 0, 17, 43, 182, 0, 20, 62, 42, 180, 0, 7]
abbrev dktX15_value_0 : List UInt8 := dkwX15_value_0 ++ dktX15_value_1
theorem dksX15_value_0 : cX15_value.data.toList.drop 0 = dktX15_value_0 := by decide +kernel
theorem dksX15_value_1 : cX15_value.data.toList.drop 22 = dktX15_value_1 := dk_seg dksX15_value_0 22 rfl rfl
theorem dksX15_value_2 : cX15_value.data.toList.drop 140 = dktX15_value_2 := dk_seg dksX15_value_1 118 rfl rfl
theorem dksX15_value_3 : cX15_value.data.toList.drop 164 = dktX15_value_3 := dk_seg dksX15_value_2 24 rfl rfl
theorem dksX15_value_4 : cX15_value.data.toList.drop 186 = dktX15_value_4 := dk_seg dksX15_value_3 22 rfl rfl
theorem dksX15_value_5 : cX15_value.data.toList.drop 210 = dktX15_value_5 := dk_seg dksX15_value_4 24 rfl rfl
theorem dksX15_value_6 : cX15_value.data.toList.drop 234 = dktX15_value_6 := dk_seg dksX15_value_5 24 rfl rfl
theorem dX15_value_0 : decode cX15_value 0 = .ok (.aload_n 0, 1) := dk_42 (dk_at dksX15_value_0 0 rfl rfl)
theorem dX15_value_1 : decode cX15_value 1 = .ok (.getfield 13, 3) := dk_180 0 13 (dk_at dksX15_value_0 1 rfl rfl)
theorem dX15_value_4 : decode cX15_value 4 = .ok (.aload_n 1, 1) := dk_43 (dk_at dksX15_value_0 4 rfl rfl)
theorem dX15_value_5 : decode cX15_value 5 = .ok (.invokevirtual 20, 3) := dk_182 0 20 (dk_at dksX15_value_0 5 rfl rfl)
theorem dX15_value_8 : decode cX15_value 8 = .ok (.istore_n 2, 1) := dk_61 (dk_at dksX15_value_0 8 rfl rfl)
theorem dX15_value_9 : decode cX15_value 9 = .ok (.aload_n 0, 1) := dk_42 (dk_at dksX15_value_0 9 rfl rfl)
theorem dX15_value_10 : decode cX15_value 10 = .ok (.getfield 17, 3) := dk_180 0 17 (dk_at dksX15_value_0 10 rfl rfl)
theorem dX15_value_13 : decode cX15_value 13 = .ok (.aload_n 1, 1) := dk_43 (dk_at dksX15_value_0 13 rfl rfl)
theorem dX15_value_14 : decode cX15_value 14 = .ok (.invokevirtual 20, 3) := dk_182 0 20 (dk_at dksX15_value_0 14 rfl rfl)
theorem dX15_value_17 : decode cX15_value 17 = .ok (.istore_n 3, 1) := dk_62 (dk_at dksX15_value_0 17 rfl rfl)
theorem dX15_value_18 : decode cX15_value 18 = .ok (.aload_n 0, 1) := dk_42 (dk_at dksX15_value_0 18 rfl rfl)
theorem dX15_value_19 : decode cX15_value 19 = .ok (.getfield 7, 3) := dk_180 0 7 (dk_at dksX15_value_0 19 rfl rfl)
theorem dX15_value_22 : decode cX15_value 22 = .ok (.tableswitch 213 37 62 #[142, 196, 213, 213, 213, 126, 118, 213, 122, 213, 130, 213, 213, 213, 213, 213, 213, 213, 213, 213, 213, 213, 213, 154, 168, 182], 118) := by decide +kernel
theorem dX15_value_140 : decode cX15_value 140 = .ok (.iload_n 2, 1) := dk_28 (dk_at dksX15_value_2 0 rfl rfl)
theorem dX15_value_141 : decode cX15_value 141 = .ok (.iload_n 3, 1) := dk_29 (dk_at dksX15_value_2 1 rfl rfl)
theorem dX15_value_142 : decode cX15_value 142 = .ok (.iadd, 1) := dk_96 (dk_at dksX15_value_2 2 rfl rfl)
theorem dX15_value_143 : decode cX15_value 143 = .ok (.ireturn, 1) := dk_172 (dk_at dksX15_value_2 3 rfl rfl)
theorem dX15_value_144 : decode cX15_value 144 = .ok (.iload_n 2, 1) := dk_28 (dk_at dksX15_value_2 4 rfl rfl)
theorem dX15_value_145 : decode cX15_value 145 = .ok (.iload_n 3, 1) := dk_29 (dk_at dksX15_value_2 5 rfl rfl)
theorem dX15_value_146 : decode cX15_value 146 = .ok (.isub, 1) := dk_100 (dk_at dksX15_value_2 6 rfl rfl)
theorem dX15_value_147 : decode cX15_value 147 = .ok (.ireturn, 1) := dk_172 (dk_at dksX15_value_2 7 rfl rfl)
theorem dX15_value_148 : decode cX15_value 148 = .ok (.iload_n 2, 1) := dk_28 (dk_at dksX15_value_2 8 rfl rfl)
theorem dX15_value_149 : decode cX15_value 149 = .ok (.iload_n 3, 1) := dk_29 (dk_at dksX15_value_2 9 rfl rfl)
theorem dX15_value_150 : decode cX15_value 150 = .ok (.imul, 1) := dk_104 (dk_at dksX15_value_2 10 rfl rfl)
theorem dX15_value_151 : decode cX15_value 151 = .ok (.ireturn, 1) := dk_172 (dk_at dksX15_value_2 11 rfl rfl)
theorem dX15_value_152 : decode cX15_value 152 = .ok (.iload_n 3, 1) := dk_29 (dk_at dksX15_value_2 12 rfl rfl)
theorem dX15_value_153 : decode cX15_value 153 = .ok (.ifCond .ne 7, 3) := dk_154 0 7 (dk_at dksX15_value_2 13 rfl rfl)
theorem dX15_value_156 : decode cX15_value 156 = .ok (.iconst 0, 1) := dk_3 (dk_at dksX15_value_2 16 rfl rfl)
theorem dX15_value_157 : decode cX15_value 157 = .ok (.goto 6, 3) := dk_167 0 6 (dk_at dksX15_value_2 17 rfl rfl)
theorem dX15_value_160 : decode cX15_value 160 = .ok (.iload_n 2, 1) := dk_28 (dk_at dksX15_value_2 20 rfl rfl)
theorem dX15_value_161 : decode cX15_value 161 = .ok (.iload_n 3, 1) := dk_29 (dk_at dksX15_value_2 21 rfl rfl)
theorem dX15_value_162 : decode cX15_value 162 = .ok (.idiv, 1) := dk_108 (dk_at dksX15_value_2 22 rfl rfl)
theorem dX15_value_163 : decode cX15_value 163 = .ok (.ireturn, 1) := dk_172 (dk_at dksX15_value_2 23 rfl rfl)
theorem dX15_value_164 : decode cX15_value 164 = .ok (.iload_n 3, 1) := dk_29 (dk_at dksX15_value_3 0 rfl rfl)
theorem dX15_value_165 : decode cX15_value 165 = .ok (.ifCond .ne 7, 3) := dk_154 0 7 (dk_at dksX15_value_3 1 rfl rfl)
theorem dX15_value_168 : decode cX15_value 168 = .ok (.iconst 0, 1) := dk_3 (dk_at dksX15_value_3 4 rfl rfl)
theorem dX15_value_169 : decode cX15_value 169 = .ok (.goto 6, 3) := dk_167 0 6 (dk_at dksX15_value_3 5 rfl rfl)
theorem dX15_value_172 : decode cX15_value 172 = .ok (.iload_n 2, 1) := dk_28 (dk_at dksX15_value_3 8 rfl rfl)
theorem dX15_value_173 : decode cX15_value 173 = .ok (.iload_n 3, 1) := dk_29 (dk_at dksX15_value_3 9 rfl rfl)
theorem dX15_value_174 : decode cX15_value 174 = .ok (.irem, 1) := dk_112 (dk_at dksX15_value_3 10 rfl rfl)
theorem dX15_value_175 : decode cX15_value 175 = .ok (.ireturn, 1) := dk_172 (dk_at dksX15_value_3 11 rfl rfl)
theorem dX15_value_176 : decode cX15_value 176 = .ok (.iload_n 2, 1) := dk_28 (dk_at dksX15_value_3 12 rfl rfl)
theorem dX15_value_177 : decode cX15_value 177 = .ok (.iload_n 3, 1) := dk_29 (dk_at dksX15_value_3 13 rfl rfl)
theorem dX15_value_178 : decode cX15_value 178 = .ok (.if_icmp .ge 7, 3) := dk_162 0 7 (dk_at dksX15_value_3 14 rfl rfl)
theorem dX15_value_181 : decode cX15_value 181 = .ok (.iconst 1, 1) := dk_4 (dk_at dksX15_value_3 17 rfl rfl)
theorem dX15_value_182 : decode cX15_value 182 = .ok (.goto 4, 3) := dk_167 0 4 (dk_at dksX15_value_3 18 rfl rfl)
theorem dX15_value_185 : decode cX15_value 185 = .ok (.iconst 0, 1) := dk_3 (dk_at dksX15_value_3 21 rfl rfl)
theorem dX15_value_186 : decode cX15_value 186 = .ok (.invokestatic 24, 3) := dk_184 0 24 (dk_at dksX15_value_4 0 rfl rfl)
theorem dX15_value_189 : decode cX15_value 189 = .ok (.ireturn, 1) := dk_172 (dk_at dksX15_value_4 3 rfl rfl)
theorem dX15_value_190 : decode cX15_value 190 = .ok (.iload_n 2, 1) := dk_28 (dk_at dksX15_value_4 4 rfl rfl)
theorem dX15_value_191 : decode cX15_value 191 = .ok (.iload_n 3, 1) := dk_29 (dk_at dksX15_value_4 5 rfl rfl)
theorem dX15_value_192 : decode cX15_value 192 = .ok (.if_icmp .ne 7, 3) := dk_160 0 7 (dk_at dksX15_value_4 6 rfl rfl)
theorem dX15_value_195 : decode cX15_value 195 = .ok (.iconst 1, 1) := dk_4 (dk_at dksX15_value_4 9 rfl rfl)
theorem dX15_value_196 : decode cX15_value 196 = .ok (.goto 4, 3) := dk_167 0 4 (dk_at dksX15_value_4 10 rfl rfl)
theorem dX15_value_199 : decode cX15_value 199 = .ok (.iconst 0, 1) := dk_3 (dk_at dksX15_value_4 13 rfl rfl)
theorem dX15_value_200 : decode cX15_value 200 = .ok (.invokestatic 24, 3) := dk_184 0 24 (dk_at dksX15_value_4 14 rfl rfl)
theorem dX15_value_203 : decode cX15_value 203 = .ok (.ireturn, 1) := dk_172 (dk_at dksX15_value_4 17 rfl rfl)
theorem dX15_value_204 : decode cX15_value 204 = .ok (.iload_n 2, 1) := dk_28 (dk_at dksX15_value_4 18 rfl rfl)
theorem dX15_value_205 : decode cX15_value 205 = .ok (.iload_n 3, 1) := dk_29 (dk_at dksX15_value_4 19 rfl rfl)
theorem dX15_value_206 : decode cX15_value 206 = .ok (.if_icmp .le 7, 3) := dk_164 0 7 (dk_at dksX15_value_4 20 rfl rfl)
theorem dX15_value_209 : decode cX15_value 209 = .ok (.iconst 1, 1) := dk_4 (dk_at dksX15_value_4 23 rfl rfl)
theorem dX15_value_210 : decode cX15_value 210 = .ok (.goto 4, 3) := dk_167 0 4 (dk_at dksX15_value_5 0 rfl rfl)
theorem dX15_value_213 : decode cX15_value 213 = .ok (.iconst 0, 1) := dk_3 (dk_at dksX15_value_5 3 rfl rfl)
theorem dX15_value_214 : decode cX15_value 214 = .ok (.invokestatic 24, 3) := dk_184 0 24 (dk_at dksX15_value_5 4 rfl rfl)
theorem dX15_value_217 : decode cX15_value 217 = .ok (.ireturn, 1) := dk_172 (dk_at dksX15_value_5 7 rfl rfl)
theorem dX15_value_218 : decode cX15_value 218 = .ok (.iload_n 2, 1) := dk_28 (dk_at dksX15_value_5 8 rfl rfl)
theorem dX15_value_219 : decode cX15_value 219 = .ok (.ifCond .eq 11, 3) := dk_153 0 11 (dk_at dksX15_value_5 9 rfl rfl)
theorem dX15_value_222 : decode cX15_value 222 = .ok (.iload_n 3, 1) := dk_29 (dk_at dksX15_value_5 12 rfl rfl)
theorem dX15_value_223 : decode cX15_value 223 = .ok (.ifCond .eq 7, 3) := dk_153 0 7 (dk_at dksX15_value_5 13 rfl rfl)
theorem dX15_value_226 : decode cX15_value 226 = .ok (.iconst 1, 1) := dk_4 (dk_at dksX15_value_5 16 rfl rfl)
theorem dX15_value_227 : decode cX15_value 227 = .ok (.goto 4, 3) := dk_167 0 4 (dk_at dksX15_value_5 17 rfl rfl)
theorem dX15_value_230 : decode cX15_value 230 = .ok (.iconst 0, 1) := dk_3 (dk_at dksX15_value_5 20 rfl rfl)
theorem dX15_value_231 : decode cX15_value 231 = .ok (.invokestatic 24, 3) := dk_184 0 24 (dk_at dksX15_value_5 21 rfl rfl)
theorem dX15_value_234 : decode cX15_value 234 = .ok (.ireturn, 1) := dk_172 (dk_at dksX15_value_6 0 rfl rfl)
theorem dX15_value_235 : decode cX15_value 235 = .ok (.iload_n 2, 1) := dk_28 (dk_at dksX15_value_6 1 rfl rfl)
theorem dX15_value_236 : decode cX15_value 236 = .ok (.ifCond .ne 7, 3) := dk_154 0 7 (dk_at dksX15_value_6 2 rfl rfl)
theorem dX15_value_239 : decode cX15_value 239 = .ok (.iload_n 3, 1) := dk_29 (dk_at dksX15_value_6 5 rfl rfl)
theorem dX15_value_240 : decode cX15_value 240 = .ok (.ifCond .eq 7, 3) := dk_153 0 7 (dk_at dksX15_value_6 6 rfl rfl)
theorem dX15_value_243 : decode cX15_value 243 = .ok (.iconst 1, 1) := dk_4 (dk_at dksX15_value_6 9 rfl rfl)
theorem dX15_value_244 : decode cX15_value 244 = .ok (.goto 4, 3) := dk_167 0 4 (dk_at dksX15_value_6 10 rfl rfl)
theorem dX15_value_247 : decode cX15_value 247 = .ok (.iconst 0, 1) := dk_3 (dk_at dksX15_value_6 13 rfl rfl)
theorem dX15_value_248 : decode cX15_value 248 = .ok (.invokestatic 24, 3) := dk_184 0 24 (dk_at dksX15_value_6 14 rfl rfl)
theorem dX15_value_251 : decode cX15_value 251 = .ok (.ireturn, 1) := dk_172 (dk_at dksX15_value_6 17 rfl rfl)
abbrev cX15_is : ByteArray := prog_28_method_2_code
def yX15_is : MethodName := ⟨RX15, "is", "(Z)I"⟩
def dkwX15_is_0 : List UInt8 := [26, 153, 0, 7, 4, 167, 0, 4, 3, 172]
abbrev dktX15_is_0 : List UInt8 := dkwX15_is_0 ++ []
theorem dksX15_is_0 : cX15_is.data.toList.drop 0 = dktX15_is_0 := by decide +kernel
theorem dX15_is_0 : decode cX15_is 0 = .ok (.iload_n 0, 1) := dk_26 (dk_at dksX15_is_0 0 rfl rfl)
theorem dX15_is_1 : decode cX15_is 1 = .ok (.ifCond .eq 7, 3) := dk_153 0 7 (dk_at dksX15_is_0 1 rfl rfl)
theorem dX15_is_4 : decode cX15_is 4 = .ok (.iconst 1, 1) := dk_4 (dk_at dksX15_is_0 4 rfl rfl)
theorem dX15_is_5 : decode cX15_is 5 = .ok (.goto 4, 3) := dk_167 0 4 (dk_at dksX15_is_0 5 rfl rfl)
theorem dX15_is_8 : decode cX15_is 8 = .ok (.iconst 0, 1) := dk_3 (dk_at dksX15_is_0 8 rfl rfl)
theorem dX15_is_9 : decode cX15_is 9 = .ok (.ireturn, 1) := dk_172 (dk_at dksX15_is_0 9 rfl rfl)
abbrev cX15_init : ByteArray := prog_28_method_1_code
def yX15_init : MethodName := ⟨RX15, "<init>", "(ILWellNames$Term;LWellNames$Term;)V"⟩
def dkwX15_init_0 : List UInt8 := [42, 183, 0, 1, 42, 27, 181, 0, 7, 42, 44, 181, 0, 13, 42, 45, 181, 0, 17, 177]
abbrev dktX15_init_0 : List UInt8 := dkwX15_init_0 ++ []
theorem dksX15_init_0 : cX15_init.data.toList.drop 0 = dktX15_init_0 := by decide +kernel
theorem dX15_init_0 : decode cX15_init 0 = .ok (.aload_n 0, 1) := dk_42 (dk_at dksX15_init_0 0 rfl rfl)
theorem dX15_init_1 : decode cX15_init 1 = .ok (.invokespecial 1, 3) := dk_183 0 1 (dk_at dksX15_init_0 1 rfl rfl)
theorem dX15_init_4 : decode cX15_init 4 = .ok (.aload_n 0, 1) := dk_42 (dk_at dksX15_init_0 4 rfl rfl)
theorem dX15_init_5 : decode cX15_init 5 = .ok (.iload_n 1, 1) := dk_27 (dk_at dksX15_init_0 5 rfl rfl)
theorem dX15_init_6 : decode cX15_init 6 = .ok (.putfield 7, 3) := dk_181 0 7 (dk_at dksX15_init_0 6 rfl rfl)
theorem dX15_init_9 : decode cX15_init 9 = .ok (.aload_n 0, 1) := dk_42 (dk_at dksX15_init_0 9 rfl rfl)
theorem dX15_init_10 : decode cX15_init 10 = .ok (.aload_n 2, 1) := dk_44 (dk_at dksX15_init_0 10 rfl rfl)
theorem dX15_init_11 : decode cX15_init 11 = .ok (.putfield 13, 3) := dk_181 0 13 (dk_at dksX15_init_0 11 rfl rfl)
theorem dX15_init_14 : decode cX15_init 14 = .ok (.aload_n 0, 1) := dk_42 (dk_at dksX15_init_0 14 rfl rfl)
theorem dX15_init_15 : decode cX15_init 15 = .ok (.aload_n 3, 1) := dk_45 (dk_at dksX15_init_0 15 rfl rfl)
theorem dX15_init_16 : decode cX15_init 16 = .ok (.putfield 17, 3) := dk_181 0 17 (dk_at dksX15_init_0 16 rfl rfl)
theorem dX15_init_19 : decode cX15_init 19 = .ok (.return_, 1) := dk_177 (dk_at dksX15_init_0 19 rfl rfl)
theorem q98 : (Jvm.Cond.initialized "WellNames$Two") ∈ lw_all := lw_g (lw_at lw_m1 19 rfl) rfl
theorem q609 : (Jvm.Cond.instanceMethod ({ cls := "WellNames$Two", name := "value", desc := "(LWellNames$Facts;)I" } : Jvm.MethodName)) ∈ lw_all := lw_g (lw_at lw_m3 50 rfl) rfl
theorem q610 : (Jvm.Cond.code ({ cls := "WellNames$Two", name := "value", desc := "(LWellNames$Facts;)I" } : Jvm.MethodName) prog_28_method_3_code (4 : Nat) (Option.some Jvm.ClassFile.FieldType.int)) ∈ lw_all := lw_g (lw_at lw_m3 51 rfl) rfl
theorem q611 : (Jvm.Cond.methodLink "WellNames$Two" (20 : Nat) ({ cls := "WellNames$Term", name := "value", desc := "(LWellNames$Facts;)I" } : Jvm.MethodName)) ∈ lw_all := lw_g (lw_at lw_m3 52 rfl) rfl
theorem q612 : (Jvm.Cond.methodLink "WellNames$Two" (24 : Nat) ({ cls := "WellNames$Two", name := "is", desc := "(Z)I" } : Jvm.MethodName)) ∈ lw_all := lw_g (lw_at lw_m3 53 rfl) rfl
theorem q613 : (Jvm.Cond.static ({ cls := "WellNames$Two", name := "is", desc := "(Z)I" } : Jvm.MethodName)) ∈ lw_all := lw_g (lw_at lw_m3 54 rfl) rfl
theorem q614 : (Jvm.Cond.code ({ cls := "WellNames$Two", name := "is", desc := "(Z)I" } : Jvm.MethodName) prog_28_method_2_code (1 : Nat) (Option.some Jvm.ClassFile.FieldType.int)) ∈ lw_all := lw_g (lw_at lw_m3 55 rfl) rfl
theorem q615 : (Jvm.Cond.selects "WellNames$Two" ({ cls := "WellNames$Term", name := "value", desc := "(LWellNames$Facts;)I" } : Jvm.MethodName) ({ cls := "WellNames$Two", name := "value", desc := "(LWellNames$Facts;)I" } : Jvm.MethodName)) ∈ lw_all := lw_g (lw_at lw_m3 56 rfl) rfl
theorem q884 : (Jvm.Cond.instantiable "WellNames$Two" (3 : Nat)) ∈ lw_all := lw_g (lw_at lw_m4 85 rfl) rfl
theorem q886 : (Jvm.Cond.instanceMethod ({ cls := "WellNames$Two", name := "<init>", desc := "(ILWellNames$Term;LWellNames$Term;)V" } : Jvm.MethodName)) ∈ lw_all := lw_g (lw_at lw_m4 87 rfl) rfl
theorem q887 : (Jvm.Cond.code ({ cls := "WellNames$Two", name := "<init>", desc := "(ILWellNames$Term;LWellNames$Term;)V" } : Jvm.MethodName) prog_28_method_1_code (4 : Nat) (Option.none : Option Jvm.ClassFile.FieldType)) ∈ lw_all := lw_g (lw_at lw_m4 88 rfl) rfl
theorem q888 : (Jvm.Cond.methodLinkNest "WellNames$Two" (1 : Nat) ({ cls := "WellNames$Term", name := "<init>", desc := "()V" } : Jvm.MethodName) "WellNames") ∈ lw_tbl := lw_at lw_m4 89 rfl
theorem q889 : (Jvm.Cond.fieldLink "WellNames$Two" (7 : Nat) "WellNames$Two" "sign" "I") ∈ lw_all := lw_g (lw_at lw_m4 90 rfl) rfl
theorem q890 : (Jvm.Cond.fieldLink "WellNames$Two" (13 : Nat) "WellNames$Two" "a" "LWellNames$Term;") ∈ lw_all := lw_g (lw_at lw_m4 91 rfl) rfl
theorem q891 : (Jvm.Cond.fieldLink "WellNames$Two" (17 : Nat) "WellNames$Two" "b" "LWellNames$Term;") ∈ lw_all := lw_g (lw_at lw_m4 92 rfl) rfl
theorem q892 : (Jvm.Cond.laysFinal "WellNames$Two" "WellNames$Two" "sign" "I") ∈ lw_all := lw_g (lw_at lw_m4 93 rfl) rfl
theorem q893 : (Jvm.Cond.soleField "WellNames$Two" "sign") ∈ lw_all := lw_g (lw_at lw_m4 94 rfl) rfl
theorem q894 : (Jvm.Cond.laysFinal "WellNames$Two" "WellNames$Two" "a" "LWellNames$Term;") ∈ lw_all := lw_g (lw_at lw_m4 95 rfl) rfl
theorem q895 : (Jvm.Cond.soleField "WellNames$Two" "a") ∈ lw_all := lw_g (lw_at lw_m4 96 rfl) rfl
theorem q896 : (Jvm.Cond.laysFinal "WellNames$Two" "WellNames$Two" "b" "LWellNames$Term;") ∈ lw_all := lw_g (lw_at lw_m4 97 rfl) rfl
theorem q897 : (Jvm.Cond.soleField "WellNames$Two" "b") ∈ lw_all := lw_g (lw_at lw_m4 98 rfl) rfl
theorem q898 : (Jvm.Cond.superclass "WellNames$Two" "WellNames$Term") ∈ lw_all := lw_g (lw_at lw_m4 99 rfl) rfl
theorem q1981 : (Jvm.Cond.castable "WellNames$Two" "WellNames$Term") ∈ lw_tbl := lw_at lw_m8 222 rfl
theorem in_X15 : ∀ w ∈ wsX150, w ∈ lw_all := lw_in wsX150 [892, 894, 896] (by decide +kernel) (by decide +kernel)

/-! WellNames$Reader -/
set_option maxRecDepth 100000
def RX16 : String := "WellNames$Reader"
def TX16 : u_T := fun k => match k with
  | 0 => ("WellNames$Reader", "names", "Ljava/lang/String;", true)
  | 1 => ("WellNames$Reader", "bytes", "[B", true)
  | 2 => ("WellNames$Reader", "size", "I", true)
  | 3 => ("WellNames$Reader", "at", "I", false)
  | _ => ("WellNames$Reader", "open", "I", false)
def tyX16 : Nat → FieldType := fun k => match k with
  | 0 => .object "java/lang/String"
  | 1 => .array .byte
  | 2 => .int
  | 3 => .int
  | _ => .int
abbrev wsX160 : List Cond := u_ws RX16 TX16 5
theorem nmX16 : ∀ a, a < 5 → ∀ b, b < 5 → a ≠ b → (TX16 a).2.1 ≠ (TX16 b).2.1 := by decide +kernel
theorem tyX16_ok : ∀ k, k < 5 → parseFieldDescriptor (TX16 k).2.2.1 = some (tyX16 k) := by decide +kernel
abbrev cX16_init : ByteArray := prog_20_method_1_code
def yX16_init : MethodName := ⟨RX16, "<init>", "(Ljava/lang/String;[BI)V"⟩
def dkwX16_init_0 : List UInt8 := [42, 183, 0, 3, 42, 43, 181, 0, 9, 42, 44, 181, 0, 15, 42, 29, 181, 0, 19, 177]
abbrev dktX16_init_0 : List UInt8 := dkwX16_init_0 ++ []
theorem dksX16_init_0 : cX16_init.data.toList.drop 0 = dktX16_init_0 := by decide +kernel
theorem dX16_init_0 : decode cX16_init 0 = .ok (.aload_n 0, 1) := dk_42 (dk_at dksX16_init_0 0 rfl rfl)
theorem dX16_init_1 : decode cX16_init 1 = .ok (.invokespecial 3, 3) := dk_183 0 3 (dk_at dksX16_init_0 1 rfl rfl)
theorem dX16_init_4 : decode cX16_init 4 = .ok (.aload_n 0, 1) := dk_42 (dk_at dksX16_init_0 4 rfl rfl)
theorem dX16_init_5 : decode cX16_init 5 = .ok (.aload_n 1, 1) := dk_43 (dk_at dksX16_init_0 5 rfl rfl)
theorem dX16_init_6 : decode cX16_init 6 = .ok (.putfield 9, 3) := dk_181 0 9 (dk_at dksX16_init_0 6 rfl rfl)
theorem dX16_init_9 : decode cX16_init 9 = .ok (.aload_n 0, 1) := dk_42 (dk_at dksX16_init_0 9 rfl rfl)
theorem dX16_init_10 : decode cX16_init 10 = .ok (.aload_n 2, 1) := dk_44 (dk_at dksX16_init_0 10 rfl rfl)
theorem dX16_init_11 : decode cX16_init 11 = .ok (.putfield 15, 3) := dk_181 0 15 (dk_at dksX16_init_0 11 rfl rfl)
theorem dX16_init_14 : decode cX16_init 14 = .ok (.aload_n 0, 1) := dk_42 (dk_at dksX16_init_0 14 rfl rfl)
theorem dX16_init_15 : decode cX16_init 15 = .ok (.iload_n 3, 1) := dk_29 (dk_at dksX16_init_0 15 rfl rfl)
theorem dX16_init_16 : decode cX16_init 16 = .ok (.putfield 19, 3) := dk_181 0 19 (dk_at dksX16_init_0 16 rfl rfl)
theorem dX16_init_19 : decode cX16_init 19 = .ok (.return_, 1) := dk_177 (dk_at dksX16_init_0 19 rfl rfl)
abbrev cX16_read : ByteArray := prog_20_method_2_code
def yX16_read : MethodName := ⟨RX16, "read", "()LWellNames$Term;"⟩
def dkwX16_read_1 : List UInt8 := [182, 0, 30, 43, 176]
abbrev dktX16_read_1 : List UInt8 := dkwX16_read_1 ++ []
def dkwX16_read_0 : List UInt8 := [42, 182, 0, 23, 76, 42, 42, 180, 0, 27, 42, 180, 0, 19, 160, 0, 7, 4, 167, 0, 4, 3]
abbrev dktX16_read_0 : List UInt8 := dkwX16_read_0 ++ dktX16_read_1
theorem dksX16_read_0 : cX16_read.data.toList.drop 0 = dktX16_read_0 := by decide +kernel
theorem dksX16_read_1 : cX16_read.data.toList.drop 22 = dktX16_read_1 := dk_seg dksX16_read_0 22 rfl rfl
theorem dX16_read_0 : decode cX16_read 0 = .ok (.aload_n 0, 1) := dk_42 (dk_at dksX16_read_0 0 rfl rfl)
theorem dX16_read_1 : decode cX16_read 1 = .ok (.invokevirtual 23, 3) := dk_182 0 23 (dk_at dksX16_read_0 1 rfl rfl)
theorem dX16_read_4 : decode cX16_read 4 = .ok (.astore_n 1, 1) := dk_76 (dk_at dksX16_read_0 4 rfl rfl)
theorem dX16_read_5 : decode cX16_read 5 = .ok (.aload_n 0, 1) := dk_42 (dk_at dksX16_read_0 5 rfl rfl)
theorem dX16_read_6 : decode cX16_read 6 = .ok (.aload_n 0, 1) := dk_42 (dk_at dksX16_read_0 6 rfl rfl)
theorem dX16_read_7 : decode cX16_read 7 = .ok (.getfield 27, 3) := dk_180 0 27 (dk_at dksX16_read_0 7 rfl rfl)
theorem dX16_read_10 : decode cX16_read 10 = .ok (.aload_n 0, 1) := dk_42 (dk_at dksX16_read_0 10 rfl rfl)
theorem dX16_read_11 : decode cX16_read 11 = .ok (.getfield 19, 3) := dk_180 0 19 (dk_at dksX16_read_0 11 rfl rfl)
theorem dX16_read_14 : decode cX16_read 14 = .ok (.if_icmp .ne 7, 3) := dk_160 0 7 (dk_at dksX16_read_0 14 rfl rfl)
theorem dX16_read_17 : decode cX16_read 17 = .ok (.iconst 1, 1) := dk_4 (dk_at dksX16_read_0 17 rfl rfl)
theorem dX16_read_18 : decode cX16_read 18 = .ok (.goto 4, 3) := dk_167 0 4 (dk_at dksX16_read_0 18 rfl rfl)
theorem dX16_read_21 : decode cX16_read 21 = .ok (.iconst 0, 1) := dk_3 (dk_at dksX16_read_0 21 rfl rfl)
theorem dX16_read_22 : decode cX16_read 22 = .ok (.invokevirtual 30, 3) := dk_182 0 30 (dk_at dksX16_read_1 0 rfl rfl)
theorem dX16_read_25 : decode cX16_read 25 = .ok (.aload_n 1, 1) := dk_43 (dk_at dksX16_read_1 3 rfl rfl)
theorem dX16_read_26 : decode cX16_read 26 = .ok (.areturn, 1) := dk_176 (dk_at dksX16_read_1 4 rfl rfl)
abbrev cX16_either : ByteArray := prog_20_method_6_code
def yX16_either : MethodName := ⟨RX16, "either", "()LWellNames$Term;"⟩
def dkwX16_either_1 : List UInt8 := [187, 0, 58, 89, 16, 124, 43, 42, 182, 0, 49, 183, 0, 60, 76, 167, 255, 222, 43, 176]
abbrev dktX16_either_1 : List UInt8 := dkwX16_either_1 ++ []
def dkwX16_either_0 : List UInt8 := [42, 182, 0, 49, 76, 42, 18, 52, 182, 0, 54, 153, 0, 31, 42, 89, 180, 0, 27, 4, 96, 181, 0, 27]
abbrev dktX16_either_0 : List UInt8 := dkwX16_either_0 ++ dktX16_either_1
theorem dksX16_either_0 : cX16_either.data.toList.drop 0 = dktX16_either_0 := by decide +kernel
theorem dksX16_either_1 : cX16_either.data.toList.drop 24 = dktX16_either_1 := dk_seg dksX16_either_0 24 rfl rfl
theorem dX16_either_0 : decode cX16_either 0 = .ok (.aload_n 0, 1) := dk_42 (dk_at dksX16_either_0 0 rfl rfl)
theorem dX16_either_1 : decode cX16_either 1 = .ok (.invokevirtual 49, 3) := dk_182 0 49 (dk_at dksX16_either_0 1 rfl rfl)
theorem dX16_either_4 : decode cX16_either 4 = .ok (.astore_n 1, 1) := dk_76 (dk_at dksX16_either_0 4 rfl rfl)
theorem dX16_either_5 : decode cX16_either 5 = .ok (.aload_n 0, 1) := dk_42 (dk_at dksX16_either_0 5 rfl rfl)
theorem dX16_either_6 : decode cX16_either 6 = .ok (.ldc 52, 2) := dk_18 52 (dk_at dksX16_either_0 6 rfl rfl)
theorem dX16_either_8 : decode cX16_either 8 = .ok (.invokevirtual 54, 3) := dk_182 0 54 (dk_at dksX16_either_0 8 rfl rfl)
theorem dX16_either_11 : decode cX16_either 11 = .ok (.ifCond .eq 31, 3) := dk_153 0 31 (dk_at dksX16_either_0 11 rfl rfl)
theorem dX16_either_14 : decode cX16_either 14 = .ok (.aload_n 0, 1) := dk_42 (dk_at dksX16_either_0 14 rfl rfl)
theorem dX16_either_15 : decode cX16_either 15 = .ok (.dup, 1) := dk_89 (dk_at dksX16_either_0 15 rfl rfl)
theorem dX16_either_16 : decode cX16_either 16 = .ok (.getfield 27, 3) := dk_180 0 27 (dk_at dksX16_either_0 16 rfl rfl)
theorem dX16_either_19 : decode cX16_either 19 = .ok (.iconst 1, 1) := dk_4 (dk_at dksX16_either_0 19 rfl rfl)
theorem dX16_either_20 : decode cX16_either 20 = .ok (.iadd, 1) := dk_96 (dk_at dksX16_either_0 20 rfl rfl)
theorem dX16_either_21 : decode cX16_either 21 = .ok (.putfield 27, 3) := dk_181 0 27 (dk_at dksX16_either_0 21 rfl rfl)
theorem dX16_either_24 : decode cX16_either 24 = .ok (.new 58, 3) := dk_187 0 58 (dk_at dksX16_either_1 0 rfl rfl)
theorem dX16_either_27 : decode cX16_either 27 = .ok (.dup, 1) := dk_89 (dk_at dksX16_either_1 3 rfl rfl)
theorem dX16_either_28 : decode cX16_either 28 = .ok (.bipush 124, 2) := dk_16 124 (dk_at dksX16_either_1 4 rfl rfl)
theorem dX16_either_30 : decode cX16_either 30 = .ok (.aload_n 1, 1) := dk_43 (dk_at dksX16_either_1 6 rfl rfl)
theorem dX16_either_31 : decode cX16_either 31 = .ok (.aload_n 0, 1) := dk_42 (dk_at dksX16_either_1 7 rfl rfl)
theorem dX16_either_32 : decode cX16_either 32 = .ok (.invokevirtual 49, 3) := dk_182 0 49 (dk_at dksX16_either_1 8 rfl rfl)
theorem dX16_either_35 : decode cX16_either 35 = .ok (.invokespecial 60, 3) := dk_183 0 60 (dk_at dksX16_either_1 11 rfl rfl)
theorem dX16_either_38 : decode cX16_either 38 = .ok (.astore_n 1, 1) := dk_76 (dk_at dksX16_either_1 14 rfl rfl)
theorem dX16_either_39 : decode cX16_either 39 = .ok (.goto (-34), 3) := dk_167 255 222 (dk_at dksX16_either_1 15 rfl rfl)
theorem dX16_either_42 : decode cX16_either 42 = .ok (.aload_n 1, 1) := dk_43 (dk_at dksX16_either_1 18 rfl rfl)
theorem dX16_either_43 : decode cX16_either 43 = .ok (.areturn, 1) := dk_176 (dk_at dksX16_either_1 19 rfl rfl)
abbrev cX16_both : ByteArray := prog_20_method_7_code
def yX16_both : MethodName := ⟨RX16, "both", "()LWellNames$Term;"⟩
def dkwX16_both_1 : List UInt8 := [187, 0, 58, 89, 16, 38, 43, 42, 182, 0, 63, 183, 0, 60, 76, 167, 255, 222, 43, 176]
abbrev dktX16_both_1 : List UInt8 := dkwX16_both_1 ++ []
def dkwX16_both_0 : List UInt8 := [42, 182, 0, 63, 76, 42, 18, 66, 182, 0, 54, 153, 0, 31, 42, 89, 180, 0, 27, 4, 96, 181, 0, 27]
abbrev dktX16_both_0 : List UInt8 := dkwX16_both_0 ++ dktX16_both_1
theorem dksX16_both_0 : cX16_both.data.toList.drop 0 = dktX16_both_0 := by decide +kernel
theorem dksX16_both_1 : cX16_both.data.toList.drop 24 = dktX16_both_1 := dk_seg dksX16_both_0 24 rfl rfl
theorem dX16_both_0 : decode cX16_both 0 = .ok (.aload_n 0, 1) := dk_42 (dk_at dksX16_both_0 0 rfl rfl)
theorem dX16_both_1 : decode cX16_both 1 = .ok (.invokevirtual 63, 3) := dk_182 0 63 (dk_at dksX16_both_0 1 rfl rfl)
theorem dX16_both_4 : decode cX16_both 4 = .ok (.astore_n 1, 1) := dk_76 (dk_at dksX16_both_0 4 rfl rfl)
theorem dX16_both_5 : decode cX16_both 5 = .ok (.aload_n 0, 1) := dk_42 (dk_at dksX16_both_0 5 rfl rfl)
theorem dX16_both_6 : decode cX16_both 6 = .ok (.ldc 66, 2) := dk_18 66 (dk_at dksX16_both_0 6 rfl rfl)
theorem dX16_both_8 : decode cX16_both 8 = .ok (.invokevirtual 54, 3) := dk_182 0 54 (dk_at dksX16_both_0 8 rfl rfl)
theorem dX16_both_11 : decode cX16_both 11 = .ok (.ifCond .eq 31, 3) := dk_153 0 31 (dk_at dksX16_both_0 11 rfl rfl)
theorem dX16_both_14 : decode cX16_both 14 = .ok (.aload_n 0, 1) := dk_42 (dk_at dksX16_both_0 14 rfl rfl)
theorem dX16_both_15 : decode cX16_both 15 = .ok (.dup, 1) := dk_89 (dk_at dksX16_both_0 15 rfl rfl)
theorem dX16_both_16 : decode cX16_both 16 = .ok (.getfield 27, 3) := dk_180 0 27 (dk_at dksX16_both_0 16 rfl rfl)
theorem dX16_both_19 : decode cX16_both 19 = .ok (.iconst 1, 1) := dk_4 (dk_at dksX16_both_0 19 rfl rfl)
theorem dX16_both_20 : decode cX16_both 20 = .ok (.iadd, 1) := dk_96 (dk_at dksX16_both_0 20 rfl rfl)
theorem dX16_both_21 : decode cX16_both 21 = .ok (.putfield 27, 3) := dk_181 0 27 (dk_at dksX16_both_0 21 rfl rfl)
theorem dX16_both_24 : decode cX16_both 24 = .ok (.new 58, 3) := dk_187 0 58 (dk_at dksX16_both_1 0 rfl rfl)
theorem dX16_both_27 : decode cX16_both 27 = .ok (.dup, 1) := dk_89 (dk_at dksX16_both_1 3 rfl rfl)
theorem dX16_both_28 : decode cX16_both 28 = .ok (.bipush 38, 2) := dk_16 38 (dk_at dksX16_both_1 4 rfl rfl)
theorem dX16_both_30 : decode cX16_both 30 = .ok (.aload_n 1, 1) := dk_43 (dk_at dksX16_both_1 6 rfl rfl)
theorem dX16_both_31 : decode cX16_both 31 = .ok (.aload_n 0, 1) := dk_42 (dk_at dksX16_both_1 7 rfl rfl)
theorem dX16_both_32 : decode cX16_both 32 = .ok (.invokevirtual 63, 3) := dk_182 0 63 (dk_at dksX16_both_1 8 rfl rfl)
theorem dX16_both_35 : decode cX16_both 35 = .ok (.invokespecial 60, 3) := dk_183 0 60 (dk_at dksX16_both_1 11 rfl rfl)
theorem dX16_both_38 : decode cX16_both 38 = .ok (.astore_n 1, 1) := dk_76 (dk_at dksX16_both_1 14 rfl rfl)
theorem dX16_both_39 : decode cX16_both 39 = .ok (.goto (-34), 3) := dk_167 255 222 (dk_at dksX16_both_1 15 rfl rfl)
theorem dX16_both_42 : decode cX16_both 42 = .ok (.aload_n 1, 1) := dk_43 (dk_at dksX16_both_1 18 rfl rfl)
theorem dX16_both_43 : decode cX16_both 43 = .ok (.areturn, 1) := dk_176 (dk_at dksX16_both_1 19 rfl rfl)
abbrev cX16_relation : ByteArray := prog_20_method_8_code
def yX16_relation : MethodName := ⟨RX16, "relation", "()LWellNames$Term;"⟩
def dkwX16_relation_1 : List UInt8 := [180, 0, 27, 4, 96, 181, 0, 27, 187, 0, 58, 89, 28, 43, 42, 182, 0, 68, 183, 0, 60, 176]
abbrev dktX16_relation_1 : List UInt8 := dkwX16_relation_1 ++ []
def dkwX16_relation_0 : List UInt8 := [42, 182, 0, 68, 76, 42, 18, 71, 182, 0, 54, 154, 0, 5, 43, 176, 42, 182, 0, 39, 61, 42, 89]
abbrev dktX16_relation_0 : List UInt8 := dkwX16_relation_0 ++ dktX16_relation_1
theorem dksX16_relation_0 : cX16_relation.data.toList.drop 0 = dktX16_relation_0 := by decide +kernel
theorem dksX16_relation_1 : cX16_relation.data.toList.drop 23 = dktX16_relation_1 := dk_seg dksX16_relation_0 23 rfl rfl
theorem dX16_relation_0 : decode cX16_relation 0 = .ok (.aload_n 0, 1) := dk_42 (dk_at dksX16_relation_0 0 rfl rfl)
theorem dX16_relation_1 : decode cX16_relation 1 = .ok (.invokevirtual 68, 3) := dk_182 0 68 (dk_at dksX16_relation_0 1 rfl rfl)
theorem dX16_relation_4 : decode cX16_relation 4 = .ok (.astore_n 1, 1) := dk_76 (dk_at dksX16_relation_0 4 rfl rfl)
theorem dX16_relation_5 : decode cX16_relation 5 = .ok (.aload_n 0, 1) := dk_42 (dk_at dksX16_relation_0 5 rfl rfl)
theorem dX16_relation_6 : decode cX16_relation 6 = .ok (.ldc 71, 2) := dk_18 71 (dk_at dksX16_relation_0 6 rfl rfl)
theorem dX16_relation_8 : decode cX16_relation 8 = .ok (.invokevirtual 54, 3) := dk_182 0 54 (dk_at dksX16_relation_0 8 rfl rfl)
theorem dX16_relation_11 : decode cX16_relation 11 = .ok (.ifCond .ne 5, 3) := dk_154 0 5 (dk_at dksX16_relation_0 11 rfl rfl)
theorem dX16_relation_14 : decode cX16_relation 14 = .ok (.aload_n 1, 1) := dk_43 (dk_at dksX16_relation_0 14 rfl rfl)
theorem dX16_relation_15 : decode cX16_relation 15 = .ok (.areturn, 1) := dk_176 (dk_at dksX16_relation_0 15 rfl rfl)
theorem dX16_relation_16 : decode cX16_relation 16 = .ok (.aload_n 0, 1) := dk_42 (dk_at dksX16_relation_0 16 rfl rfl)
theorem dX16_relation_17 : decode cX16_relation 17 = .ok (.invokevirtual 39, 3) := dk_182 0 39 (dk_at dksX16_relation_0 17 rfl rfl)
theorem dX16_relation_20 : decode cX16_relation 20 = .ok (.istore_n 2, 1) := dk_61 (dk_at dksX16_relation_0 20 rfl rfl)
theorem dX16_relation_21 : decode cX16_relation 21 = .ok (.aload_n 0, 1) := dk_42 (dk_at dksX16_relation_0 21 rfl rfl)
theorem dX16_relation_22 : decode cX16_relation 22 = .ok (.dup, 1) := dk_89 (dk_at dksX16_relation_0 22 rfl rfl)
theorem dX16_relation_23 : decode cX16_relation 23 = .ok (.getfield 27, 3) := dk_180 0 27 (dk_at dksX16_relation_1 0 rfl rfl)
theorem dX16_relation_26 : decode cX16_relation 26 = .ok (.iconst 1, 1) := dk_4 (dk_at dksX16_relation_1 3 rfl rfl)
theorem dX16_relation_27 : decode cX16_relation 27 = .ok (.iadd, 1) := dk_96 (dk_at dksX16_relation_1 4 rfl rfl)
theorem dX16_relation_28 : decode cX16_relation 28 = .ok (.putfield 27, 3) := dk_181 0 27 (dk_at dksX16_relation_1 5 rfl rfl)
theorem dX16_relation_31 : decode cX16_relation 31 = .ok (.new 58, 3) := dk_187 0 58 (dk_at dksX16_relation_1 8 rfl rfl)
theorem dX16_relation_34 : decode cX16_relation 34 = .ok (.dup, 1) := dk_89 (dk_at dksX16_relation_1 11 rfl rfl)
theorem dX16_relation_35 : decode cX16_relation 35 = .ok (.iload_n 2, 1) := dk_28 (dk_at dksX16_relation_1 12 rfl rfl)
theorem dX16_relation_36 : decode cX16_relation 36 = .ok (.aload_n 1, 1) := dk_43 (dk_at dksX16_relation_1 13 rfl rfl)
theorem dX16_relation_37 : decode cX16_relation 37 = .ok (.aload_n 0, 1) := dk_42 (dk_at dksX16_relation_1 14 rfl rfl)
theorem dX16_relation_38 : decode cX16_relation 38 = .ok (.invokevirtual 68, 3) := dk_182 0 68 (dk_at dksX16_relation_1 15 rfl rfl)
theorem dX16_relation_41 : decode cX16_relation 41 = .ok (.invokespecial 60, 3) := dk_183 0 60 (dk_at dksX16_relation_1 18 rfl rfl)
theorem dX16_relation_44 : decode cX16_relation 44 = .ok (.areturn, 1) := dk_176 (dk_at dksX16_relation_1 21 rfl rfl)
abbrev cX16_sum : ByteArray := prog_20_method_9_code
def yX16_sum : MethodName := ⟨RX16, "sum", "()LWellNames$Term;"⟩
def dkwX16_sum_1 : List UInt8 := [4, 96, 181, 0, 27, 187, 0, 58, 89, 28, 43, 42, 182, 0, 73, 183, 0, 60, 76, 167, 255, 218, 43, 176]
abbrev dktX16_sum_1 : List UInt8 := dkwX16_sum_1 ++ []
def dkwX16_sum_0 : List UInt8 := [42, 182, 0, 73, 76, 42, 18, 76, 182, 0, 54, 153, 0, 35, 42, 182, 0, 39, 61, 42, 89, 180, 0, 27]
abbrev dktX16_sum_0 : List UInt8 := dkwX16_sum_0 ++ dktX16_sum_1
theorem dksX16_sum_0 : cX16_sum.data.toList.drop 0 = dktX16_sum_0 := by decide +kernel
theorem dksX16_sum_1 : cX16_sum.data.toList.drop 24 = dktX16_sum_1 := dk_seg dksX16_sum_0 24 rfl rfl
theorem dX16_sum_0 : decode cX16_sum 0 = .ok (.aload_n 0, 1) := dk_42 (dk_at dksX16_sum_0 0 rfl rfl)
theorem dX16_sum_1 : decode cX16_sum 1 = .ok (.invokevirtual 73, 3) := dk_182 0 73 (dk_at dksX16_sum_0 1 rfl rfl)
theorem dX16_sum_4 : decode cX16_sum 4 = .ok (.astore_n 1, 1) := dk_76 (dk_at dksX16_sum_0 4 rfl rfl)
theorem dX16_sum_5 : decode cX16_sum 5 = .ok (.aload_n 0, 1) := dk_42 (dk_at dksX16_sum_0 5 rfl rfl)
theorem dX16_sum_6 : decode cX16_sum 6 = .ok (.ldc 76, 2) := dk_18 76 (dk_at dksX16_sum_0 6 rfl rfl)
theorem dX16_sum_8 : decode cX16_sum 8 = .ok (.invokevirtual 54, 3) := dk_182 0 54 (dk_at dksX16_sum_0 8 rfl rfl)
theorem dX16_sum_11 : decode cX16_sum 11 = .ok (.ifCond .eq 35, 3) := dk_153 0 35 (dk_at dksX16_sum_0 11 rfl rfl)
theorem dX16_sum_14 : decode cX16_sum 14 = .ok (.aload_n 0, 1) := dk_42 (dk_at dksX16_sum_0 14 rfl rfl)
theorem dX16_sum_15 : decode cX16_sum 15 = .ok (.invokevirtual 39, 3) := dk_182 0 39 (dk_at dksX16_sum_0 15 rfl rfl)
theorem dX16_sum_18 : decode cX16_sum 18 = .ok (.istore_n 2, 1) := dk_61 (dk_at dksX16_sum_0 18 rfl rfl)
theorem dX16_sum_19 : decode cX16_sum 19 = .ok (.aload_n 0, 1) := dk_42 (dk_at dksX16_sum_0 19 rfl rfl)
theorem dX16_sum_20 : decode cX16_sum 20 = .ok (.dup, 1) := dk_89 (dk_at dksX16_sum_0 20 rfl rfl)
theorem dX16_sum_21 : decode cX16_sum 21 = .ok (.getfield 27, 3) := dk_180 0 27 (dk_at dksX16_sum_0 21 rfl rfl)
theorem dX16_sum_24 : decode cX16_sum 24 = .ok (.iconst 1, 1) := dk_4 (dk_at dksX16_sum_1 0 rfl rfl)
theorem dX16_sum_25 : decode cX16_sum 25 = .ok (.iadd, 1) := dk_96 (dk_at dksX16_sum_1 1 rfl rfl)
theorem dX16_sum_26 : decode cX16_sum 26 = .ok (.putfield 27, 3) := dk_181 0 27 (dk_at dksX16_sum_1 2 rfl rfl)
theorem dX16_sum_29 : decode cX16_sum 29 = .ok (.new 58, 3) := dk_187 0 58 (dk_at dksX16_sum_1 5 rfl rfl)
theorem dX16_sum_32 : decode cX16_sum 32 = .ok (.dup, 1) := dk_89 (dk_at dksX16_sum_1 8 rfl rfl)
theorem dX16_sum_33 : decode cX16_sum 33 = .ok (.iload_n 2, 1) := dk_28 (dk_at dksX16_sum_1 9 rfl rfl)
theorem dX16_sum_34 : decode cX16_sum 34 = .ok (.aload_n 1, 1) := dk_43 (dk_at dksX16_sum_1 10 rfl rfl)
theorem dX16_sum_35 : decode cX16_sum 35 = .ok (.aload_n 0, 1) := dk_42 (dk_at dksX16_sum_1 11 rfl rfl)
theorem dX16_sum_36 : decode cX16_sum 36 = .ok (.invokevirtual 73, 3) := dk_182 0 73 (dk_at dksX16_sum_1 12 rfl rfl)
theorem dX16_sum_39 : decode cX16_sum 39 = .ok (.invokespecial 60, 3) := dk_183 0 60 (dk_at dksX16_sum_1 15 rfl rfl)
theorem dX16_sum_42 : decode cX16_sum 42 = .ok (.astore_n 1, 1) := dk_76 (dk_at dksX16_sum_1 18 rfl rfl)
theorem dX16_sum_43 : decode cX16_sum 43 = .ok (.goto (-38), 3) := dk_167 255 218 (dk_at dksX16_sum_1 19 rfl rfl)
theorem dX16_sum_46 : decode cX16_sum 46 = .ok (.aload_n 1, 1) := dk_43 (dk_at dksX16_sum_1 22 rfl rfl)
theorem dX16_sum_47 : decode cX16_sum 47 = .ok (.areturn, 1) := dk_176 (dk_at dksX16_sum_1 23 rfl rfl)
abbrev cX16_product : ByteArray := prog_20_method_10_code
def yX16_product : MethodName := ⟨RX16, "product", "()LWellNames$Term;"⟩
def dkwX16_product_1 : List UInt8 := [4, 96, 181, 0, 27, 187, 0, 58, 89, 28, 43, 42, 182, 0, 78, 183, 0, 60, 76, 167, 255, 218, 43, 176]
abbrev dktX16_product_1 : List UInt8 := dkwX16_product_1 ++ []
def dkwX16_product_0 : List UInt8 := [42, 182, 0, 78, 76, 42, 18, 81, 182, 0, 54, 153, 0, 35, 42, 182, 0, 39, 61, 42, 89, 180, 0, 27]
abbrev dktX16_product_0 : List UInt8 := dkwX16_product_0 ++ dktX16_product_1
theorem dksX16_product_0 : cX16_product.data.toList.drop 0 = dktX16_product_0 := by decide +kernel
theorem dksX16_product_1 : cX16_product.data.toList.drop 24 = dktX16_product_1 := dk_seg dksX16_product_0 24 rfl rfl
theorem dX16_product_0 : decode cX16_product 0 = .ok (.aload_n 0, 1) := dk_42 (dk_at dksX16_product_0 0 rfl rfl)
theorem dX16_product_1 : decode cX16_product 1 = .ok (.invokevirtual 78, 3) := dk_182 0 78 (dk_at dksX16_product_0 1 rfl rfl)
theorem dX16_product_4 : decode cX16_product 4 = .ok (.astore_n 1, 1) := dk_76 (dk_at dksX16_product_0 4 rfl rfl)
theorem dX16_product_5 : decode cX16_product 5 = .ok (.aload_n 0, 1) := dk_42 (dk_at dksX16_product_0 5 rfl rfl)
theorem dX16_product_6 : decode cX16_product 6 = .ok (.ldc 81, 2) := dk_18 81 (dk_at dksX16_product_0 6 rfl rfl)
theorem dX16_product_8 : decode cX16_product 8 = .ok (.invokevirtual 54, 3) := dk_182 0 54 (dk_at dksX16_product_0 8 rfl rfl)
theorem dX16_product_11 : decode cX16_product 11 = .ok (.ifCond .eq 35, 3) := dk_153 0 35 (dk_at dksX16_product_0 11 rfl rfl)
theorem dX16_product_14 : decode cX16_product 14 = .ok (.aload_n 0, 1) := dk_42 (dk_at dksX16_product_0 14 rfl rfl)
theorem dX16_product_15 : decode cX16_product 15 = .ok (.invokevirtual 39, 3) := dk_182 0 39 (dk_at dksX16_product_0 15 rfl rfl)
theorem dX16_product_18 : decode cX16_product 18 = .ok (.istore_n 2, 1) := dk_61 (dk_at dksX16_product_0 18 rfl rfl)
theorem dX16_product_19 : decode cX16_product 19 = .ok (.aload_n 0, 1) := dk_42 (dk_at dksX16_product_0 19 rfl rfl)
theorem dX16_product_20 : decode cX16_product 20 = .ok (.dup, 1) := dk_89 (dk_at dksX16_product_0 20 rfl rfl)
theorem dX16_product_21 : decode cX16_product 21 = .ok (.getfield 27, 3) := dk_180 0 27 (dk_at dksX16_product_0 21 rfl rfl)
theorem dX16_product_24 : decode cX16_product 24 = .ok (.iconst 1, 1) := dk_4 (dk_at dksX16_product_1 0 rfl rfl)
theorem dX16_product_25 : decode cX16_product 25 = .ok (.iadd, 1) := dk_96 (dk_at dksX16_product_1 1 rfl rfl)
theorem dX16_product_26 : decode cX16_product 26 = .ok (.putfield 27, 3) := dk_181 0 27 (dk_at dksX16_product_1 2 rfl rfl)
theorem dX16_product_29 : decode cX16_product 29 = .ok (.new 58, 3) := dk_187 0 58 (dk_at dksX16_product_1 5 rfl rfl)
theorem dX16_product_32 : decode cX16_product 32 = .ok (.dup, 1) := dk_89 (dk_at dksX16_product_1 8 rfl rfl)
theorem dX16_product_33 : decode cX16_product 33 = .ok (.iload_n 2, 1) := dk_28 (dk_at dksX16_product_1 9 rfl rfl)
theorem dX16_product_34 : decode cX16_product 34 = .ok (.aload_n 1, 1) := dk_43 (dk_at dksX16_product_1 10 rfl rfl)
theorem dX16_product_35 : decode cX16_product 35 = .ok (.aload_n 0, 1) := dk_42 (dk_at dksX16_product_1 11 rfl rfl)
theorem dX16_product_36 : decode cX16_product 36 = .ok (.invokevirtual 78, 3) := dk_182 0 78 (dk_at dksX16_product_1 12 rfl rfl)
theorem dX16_product_39 : decode cX16_product 39 = .ok (.invokespecial 60, 3) := dk_183 0 60 (dk_at dksX16_product_1 15 rfl rfl)
theorem dX16_product_42 : decode cX16_product 42 = .ok (.astore_n 1, 1) := dk_76 (dk_at dksX16_product_1 18 rfl rfl)
theorem dX16_product_43 : decode cX16_product 43 = .ok (.goto (-38), 3) := dk_167 255 218 (dk_at dksX16_product_1 19 rfl rfl)
theorem dX16_product_46 : decode cX16_product 46 = .ok (.aload_n 1, 1) := dk_43 (dk_at dksX16_product_1 22 rfl rfl)
theorem dX16_product_47 : decode cX16_product 47 = .ok (.areturn, 1) := dk_176 (dk_at dksX16_product_1 23 rfl rfl)
abbrev cX16_single : ByteArray := prog_20_method_12_code
def yX16_single : MethodName := ⟨RX16, "single", "()LWellNames$Term;"⟩
def dkwX16_single_9 : List UInt8 := [183, 0, 107, 176]
abbrev dktX16_single_9 : List UInt8 := dkwX16_single_9 ++ []
def dkwX16_single_8 : List UInt8 := [100, 60, 42, 89, 180, 0, 27, 4, 96, 181, 0, 27, 132, 2, 1, 167, 255, 211, 187, 0, 105, 89, 27]
abbrev dktX16_single_8 : List UInt8 := dkwX16_single_8 ++ dktX16_single_9
def dkwX16_single_7 : List UInt8 := [182, 0, 39, 16, 48, 16, 57, 184, 0, 101, 153, 0, 32, 16, 10, 27, 104, 42, 182, 0, 39, 96, 16, 48]
abbrev dktX16_single_7 : List UInt8 := dkwX16_single_7 ++ dktX16_single_8
def dkwX16_single_6 : List UInt8 := [182, 0, 39, 16, 48, 16, 57, 184, 0, 101, 182, 0, 30, 3, 60, 3, 61, 28, 7, 162, 0, 46, 42]
abbrev dktX16_single_6 : List UInt8 := dkwX16_single_6 ++ dktX16_single_7
def dkwX16_single_5 : List UInt8 := [180, 0, 27, 4, 96, 181, 0, 27, 42, 89, 180, 0, 83, 4, 100, 181, 0, 83, 43, 176, 42, 42]
abbrev dktX16_single_5 : List UInt8 := dkwX16_single_5 ++ dktX16_single_6
def dkwX16_single_4 : List UInt8 := [182, 0, 23, 76, 42, 42, 182, 0, 39, 16, 41, 160, 0, 7, 4, 167, 0, 4, 3, 182, 0, 30, 42, 89]
abbrev dktX16_single_4 : List UInt8 := dkwX16_single_4 ++ dktX16_single_5
def dkwX16_single_3 : List UInt8 := [187, 0, 94, 89, 43, 183, 0, 96, 176, 42, 18, 99, 182, 0, 54, 153, 0, 52, 42, 182, 0, 91, 42]
abbrev dktX16_single_3 : List UInt8 := dkwX16_single_3 ++ dktX16_single_4
def dkwX16_single_2 : List UInt8 := [153, 0, 31, 42, 182, 0, 91, 42, 182, 0, 78, 76, 42, 89, 180, 0, 83, 4, 100, 181, 0, 83]
abbrev dktX16_single_2 : List UInt8 := dkwX16_single_2 ++ dktX16_single_3
def dkwX16_single_1 : List UInt8 := [89, 42, 180, 0, 15, 42, 180, 0, 27, 4, 100, 51, 183, 0, 88, 176, 42, 18, 89, 182, 0, 54]
abbrev dktX16_single_1 : List UInt8 := dkwX16_single_1 ++ dktX16_single_2
def dkwX16_single_0 : List UInt8 := [42, 42, 180, 0, 9, 182, 0, 54, 153, 0, 32, 42, 89, 180, 0, 27, 4, 96, 181, 0, 27, 187, 0, 86]
abbrev dktX16_single_0 : List UInt8 := dkwX16_single_0 ++ dktX16_single_1
theorem dksX16_single_0 : cX16_single.data.toList.drop 0 = dktX16_single_0 := by decide +kernel
theorem dksX16_single_1 : cX16_single.data.toList.drop 24 = dktX16_single_1 := dk_seg dksX16_single_0 24 rfl rfl
theorem dksX16_single_2 : cX16_single.data.toList.drop 46 = dktX16_single_2 := dk_seg dksX16_single_1 22 rfl rfl
theorem dksX16_single_3 : cX16_single.data.toList.drop 68 = dktX16_single_3 := dk_seg dksX16_single_2 22 rfl rfl
theorem dksX16_single_4 : cX16_single.data.toList.drop 91 = dktX16_single_4 := dk_seg dksX16_single_3 23 rfl rfl
theorem dksX16_single_5 : cX16_single.data.toList.drop 115 = dktX16_single_5 := dk_seg dksX16_single_4 24 rfl rfl
theorem dksX16_single_6 : cX16_single.data.toList.drop 137 = dktX16_single_6 := dk_seg dksX16_single_5 22 rfl rfl
theorem dksX16_single_7 : cX16_single.data.toList.drop 160 = dktX16_single_7 := dk_seg dksX16_single_6 23 rfl rfl
theorem dksX16_single_8 : cX16_single.data.toList.drop 184 = dktX16_single_8 := dk_seg dksX16_single_7 24 rfl rfl
theorem dksX16_single_9 : cX16_single.data.toList.drop 207 = dktX16_single_9 := dk_seg dksX16_single_8 23 rfl rfl
theorem dX16_single_0 : decode cX16_single 0 = .ok (.aload_n 0, 1) := dk_42 (dk_at dksX16_single_0 0 rfl rfl)
theorem dX16_single_1 : decode cX16_single 1 = .ok (.aload_n 0, 1) := dk_42 (dk_at dksX16_single_0 1 rfl rfl)
theorem dX16_single_2 : decode cX16_single 2 = .ok (.getfield 9, 3) := dk_180 0 9 (dk_at dksX16_single_0 2 rfl rfl)
theorem dX16_single_5 : decode cX16_single 5 = .ok (.invokevirtual 54, 3) := dk_182 0 54 (dk_at dksX16_single_0 5 rfl rfl)
theorem dX16_single_8 : decode cX16_single 8 = .ok (.ifCond .eq 32, 3) := dk_153 0 32 (dk_at dksX16_single_0 8 rfl rfl)
theorem dX16_single_11 : decode cX16_single 11 = .ok (.aload_n 0, 1) := dk_42 (dk_at dksX16_single_0 11 rfl rfl)
theorem dX16_single_12 : decode cX16_single 12 = .ok (.dup, 1) := dk_89 (dk_at dksX16_single_0 12 rfl rfl)
theorem dX16_single_13 : decode cX16_single 13 = .ok (.getfield 27, 3) := dk_180 0 27 (dk_at dksX16_single_0 13 rfl rfl)
theorem dX16_single_16 : decode cX16_single 16 = .ok (.iconst 1, 1) := dk_4 (dk_at dksX16_single_0 16 rfl rfl)
theorem dX16_single_17 : decode cX16_single 17 = .ok (.iadd, 1) := dk_96 (dk_at dksX16_single_0 17 rfl rfl)
theorem dX16_single_18 : decode cX16_single 18 = .ok (.putfield 27, 3) := dk_181 0 27 (dk_at dksX16_single_0 18 rfl rfl)
theorem dX16_single_21 : decode cX16_single 21 = .ok (.new 86, 3) := dk_187 0 86 (dk_at dksX16_single_0 21 rfl rfl)
theorem dX16_single_24 : decode cX16_single 24 = .ok (.dup, 1) := dk_89 (dk_at dksX16_single_1 0 rfl rfl)
theorem dX16_single_25 : decode cX16_single 25 = .ok (.aload_n 0, 1) := dk_42 (dk_at dksX16_single_1 1 rfl rfl)
theorem dX16_single_26 : decode cX16_single 26 = .ok (.getfield 15, 3) := dk_180 0 15 (dk_at dksX16_single_1 2 rfl rfl)
theorem dX16_single_29 : decode cX16_single 29 = .ok (.aload_n 0, 1) := dk_42 (dk_at dksX16_single_1 5 rfl rfl)
theorem dX16_single_30 : decode cX16_single 30 = .ok (.getfield 27, 3) := dk_180 0 27 (dk_at dksX16_single_1 6 rfl rfl)
theorem dX16_single_33 : decode cX16_single 33 = .ok (.iconst 1, 1) := dk_4 (dk_at dksX16_single_1 9 rfl rfl)
theorem dX16_single_34 : decode cX16_single 34 = .ok (.isub, 1) := dk_100 (dk_at dksX16_single_1 10 rfl rfl)
theorem dX16_single_35 : decode cX16_single 35 = .ok (.baload, 1) := dk_51 (dk_at dksX16_single_1 11 rfl rfl)
theorem dX16_single_36 : decode cX16_single 36 = .ok (.invokespecial 88, 3) := dk_183 0 88 (dk_at dksX16_single_1 12 rfl rfl)
theorem dX16_single_39 : decode cX16_single 39 = .ok (.areturn, 1) := dk_176 (dk_at dksX16_single_1 15 rfl rfl)
theorem dX16_single_40 : decode cX16_single 40 = .ok (.aload_n 0, 1) := dk_42 (dk_at dksX16_single_1 16 rfl rfl)
theorem dX16_single_41 : decode cX16_single 41 = .ok (.ldc 89, 2) := dk_18 89 (dk_at dksX16_single_1 17 rfl rfl)
theorem dX16_single_43 : decode cX16_single 43 = .ok (.invokevirtual 54, 3) := dk_182 0 54 (dk_at dksX16_single_1 19 rfl rfl)
theorem dX16_single_46 : decode cX16_single 46 = .ok (.ifCond .eq 31, 3) := dk_153 0 31 (dk_at dksX16_single_2 0 rfl rfl)
theorem dX16_single_49 : decode cX16_single 49 = .ok (.aload_n 0, 1) := dk_42 (dk_at dksX16_single_2 3 rfl rfl)
theorem dX16_single_50 : decode cX16_single 50 = .ok (.invokevirtual 91, 3) := dk_182 0 91 (dk_at dksX16_single_2 4 rfl rfl)
theorem dX16_single_53 : decode cX16_single 53 = .ok (.aload_n 0, 1) := dk_42 (dk_at dksX16_single_2 7 rfl rfl)
theorem dX16_single_54 : decode cX16_single 54 = .ok (.invokevirtual 78, 3) := dk_182 0 78 (dk_at dksX16_single_2 8 rfl rfl)
theorem dX16_single_57 : decode cX16_single 57 = .ok (.astore_n 1, 1) := dk_76 (dk_at dksX16_single_2 11 rfl rfl)
theorem dX16_single_58 : decode cX16_single 58 = .ok (.aload_n 0, 1) := dk_42 (dk_at dksX16_single_2 12 rfl rfl)
theorem dX16_single_59 : decode cX16_single 59 = .ok (.dup, 1) := dk_89 (dk_at dksX16_single_2 13 rfl rfl)
theorem dX16_single_60 : decode cX16_single 60 = .ok (.getfield 83, 3) := dk_180 0 83 (dk_at dksX16_single_2 14 rfl rfl)
theorem dX16_single_63 : decode cX16_single 63 = .ok (.iconst 1, 1) := dk_4 (dk_at dksX16_single_2 17 rfl rfl)
theorem dX16_single_64 : decode cX16_single 64 = .ok (.isub, 1) := dk_100 (dk_at dksX16_single_2 18 rfl rfl)
theorem dX16_single_65 : decode cX16_single 65 = .ok (.putfield 83, 3) := dk_181 0 83 (dk_at dksX16_single_2 19 rfl rfl)
theorem dX16_single_68 : decode cX16_single 68 = .ok (.new 94, 3) := dk_187 0 94 (dk_at dksX16_single_3 0 rfl rfl)
theorem dX16_single_71 : decode cX16_single 71 = .ok (.dup, 1) := dk_89 (dk_at dksX16_single_3 3 rfl rfl)
theorem dX16_single_72 : decode cX16_single 72 = .ok (.aload_n 1, 1) := dk_43 (dk_at dksX16_single_3 4 rfl rfl)
theorem dX16_single_73 : decode cX16_single 73 = .ok (.invokespecial 96, 3) := dk_183 0 96 (dk_at dksX16_single_3 5 rfl rfl)
theorem dX16_single_76 : decode cX16_single 76 = .ok (.areturn, 1) := dk_176 (dk_at dksX16_single_3 8 rfl rfl)
theorem dX16_single_77 : decode cX16_single 77 = .ok (.aload_n 0, 1) := dk_42 (dk_at dksX16_single_3 9 rfl rfl)
theorem dX16_single_78 : decode cX16_single 78 = .ok (.ldc 99, 2) := dk_18 99 (dk_at dksX16_single_3 10 rfl rfl)
theorem dX16_single_80 : decode cX16_single 80 = .ok (.invokevirtual 54, 3) := dk_182 0 54 (dk_at dksX16_single_3 12 rfl rfl)
theorem dX16_single_83 : decode cX16_single 83 = .ok (.ifCond .eq 52, 3) := dk_153 0 52 (dk_at dksX16_single_3 15 rfl rfl)
theorem dX16_single_86 : decode cX16_single 86 = .ok (.aload_n 0, 1) := dk_42 (dk_at dksX16_single_3 18 rfl rfl)
theorem dX16_single_87 : decode cX16_single 87 = .ok (.invokevirtual 91, 3) := dk_182 0 91 (dk_at dksX16_single_3 19 rfl rfl)
theorem dX16_single_90 : decode cX16_single 90 = .ok (.aload_n 0, 1) := dk_42 (dk_at dksX16_single_3 22 rfl rfl)
theorem dX16_single_91 : decode cX16_single 91 = .ok (.invokevirtual 23, 3) := dk_182 0 23 (dk_at dksX16_single_4 0 rfl rfl)
theorem dX16_single_94 : decode cX16_single 94 = .ok (.astore_n 1, 1) := dk_76 (dk_at dksX16_single_4 3 rfl rfl)
theorem dX16_single_95 : decode cX16_single 95 = .ok (.aload_n 0, 1) := dk_42 (dk_at dksX16_single_4 4 rfl rfl)
theorem dX16_single_96 : decode cX16_single 96 = .ok (.aload_n 0, 1) := dk_42 (dk_at dksX16_single_4 5 rfl rfl)
theorem dX16_single_97 : decode cX16_single 97 = .ok (.invokevirtual 39, 3) := dk_182 0 39 (dk_at dksX16_single_4 6 rfl rfl)
theorem dX16_single_100 : decode cX16_single 100 = .ok (.bipush 41, 2) := dk_16 41 (dk_at dksX16_single_4 9 rfl rfl)
theorem dX16_single_102 : decode cX16_single 102 = .ok (.if_icmp .ne 7, 3) := dk_160 0 7 (dk_at dksX16_single_4 11 rfl rfl)
theorem dX16_single_105 : decode cX16_single 105 = .ok (.iconst 1, 1) := dk_4 (dk_at dksX16_single_4 14 rfl rfl)
theorem dX16_single_106 : decode cX16_single 106 = .ok (.goto 4, 3) := dk_167 0 4 (dk_at dksX16_single_4 15 rfl rfl)
theorem dX16_single_109 : decode cX16_single 109 = .ok (.iconst 0, 1) := dk_3 (dk_at dksX16_single_4 18 rfl rfl)
theorem dX16_single_110 : decode cX16_single 110 = .ok (.invokevirtual 30, 3) := dk_182 0 30 (dk_at dksX16_single_4 19 rfl rfl)
theorem dX16_single_113 : decode cX16_single 113 = .ok (.aload_n 0, 1) := dk_42 (dk_at dksX16_single_4 22 rfl rfl)
theorem dX16_single_114 : decode cX16_single 114 = .ok (.dup, 1) := dk_89 (dk_at dksX16_single_4 23 rfl rfl)
theorem dX16_single_115 : decode cX16_single 115 = .ok (.getfield 27, 3) := dk_180 0 27 (dk_at dksX16_single_5 0 rfl rfl)
theorem dX16_single_118 : decode cX16_single 118 = .ok (.iconst 1, 1) := dk_4 (dk_at dksX16_single_5 3 rfl rfl)
theorem dX16_single_119 : decode cX16_single 119 = .ok (.iadd, 1) := dk_96 (dk_at dksX16_single_5 4 rfl rfl)
theorem dX16_single_120 : decode cX16_single 120 = .ok (.putfield 27, 3) := dk_181 0 27 (dk_at dksX16_single_5 5 rfl rfl)
theorem dX16_single_123 : decode cX16_single 123 = .ok (.aload_n 0, 1) := dk_42 (dk_at dksX16_single_5 8 rfl rfl)
theorem dX16_single_124 : decode cX16_single 124 = .ok (.dup, 1) := dk_89 (dk_at dksX16_single_5 9 rfl rfl)
theorem dX16_single_125 : decode cX16_single 125 = .ok (.getfield 83, 3) := dk_180 0 83 (dk_at dksX16_single_5 10 rfl rfl)
theorem dX16_single_128 : decode cX16_single 128 = .ok (.iconst 1, 1) := dk_4 (dk_at dksX16_single_5 13 rfl rfl)
theorem dX16_single_129 : decode cX16_single 129 = .ok (.isub, 1) := dk_100 (dk_at dksX16_single_5 14 rfl rfl)
theorem dX16_single_130 : decode cX16_single 130 = .ok (.putfield 83, 3) := dk_181 0 83 (dk_at dksX16_single_5 15 rfl rfl)
theorem dX16_single_133 : decode cX16_single 133 = .ok (.aload_n 1, 1) := dk_43 (dk_at dksX16_single_5 18 rfl rfl)
theorem dX16_single_134 : decode cX16_single 134 = .ok (.areturn, 1) := dk_176 (dk_at dksX16_single_5 19 rfl rfl)
theorem dX16_single_135 : decode cX16_single 135 = .ok (.aload_n 0, 1) := dk_42 (dk_at dksX16_single_5 20 rfl rfl)
theorem dX16_single_136 : decode cX16_single 136 = .ok (.aload_n 0, 1) := dk_42 (dk_at dksX16_single_5 21 rfl rfl)
theorem dX16_single_137 : decode cX16_single 137 = .ok (.invokevirtual 39, 3) := dk_182 0 39 (dk_at dksX16_single_6 0 rfl rfl)
theorem dX16_single_140 : decode cX16_single 140 = .ok (.bipush 48, 2) := dk_16 48 (dk_at dksX16_single_6 3 rfl rfl)
theorem dX16_single_142 : decode cX16_single 142 = .ok (.bipush 57, 2) := dk_16 57 (dk_at dksX16_single_6 5 rfl rfl)
theorem dX16_single_144 : decode cX16_single 144 = .ok (.invokestatic 101, 3) := dk_184 0 101 (dk_at dksX16_single_6 7 rfl rfl)
theorem dX16_single_147 : decode cX16_single 147 = .ok (.invokevirtual 30, 3) := dk_182 0 30 (dk_at dksX16_single_6 10 rfl rfl)
theorem dX16_single_150 : decode cX16_single 150 = .ok (.iconst 0, 1) := dk_3 (dk_at dksX16_single_6 13 rfl rfl)
theorem dX16_single_151 : decode cX16_single 151 = .ok (.istore_n 1, 1) := dk_60 (dk_at dksX16_single_6 14 rfl rfl)
theorem dX16_single_152 : decode cX16_single 152 = .ok (.iconst 0, 1) := dk_3 (dk_at dksX16_single_6 15 rfl rfl)
theorem dX16_single_153 : decode cX16_single 153 = .ok (.istore_n 2, 1) := dk_61 (dk_at dksX16_single_6 16 rfl rfl)
theorem dX16_single_154 : decode cX16_single 154 = .ok (.iload_n 2, 1) := dk_28 (dk_at dksX16_single_6 17 rfl rfl)
theorem dX16_single_155 : decode cX16_single 155 = .ok (.iconst 4, 1) := dk_7 (dk_at dksX16_single_6 18 rfl rfl)
theorem dX16_single_156 : decode cX16_single 156 = .ok (.if_icmp .ge 46, 3) := dk_162 0 46 (dk_at dksX16_single_6 19 rfl rfl)
theorem dX16_single_159 : decode cX16_single 159 = .ok (.aload_n 0, 1) := dk_42 (dk_at dksX16_single_6 22 rfl rfl)
theorem dX16_single_160 : decode cX16_single 160 = .ok (.invokevirtual 39, 3) := dk_182 0 39 (dk_at dksX16_single_7 0 rfl rfl)
theorem dX16_single_163 : decode cX16_single 163 = .ok (.bipush 48, 2) := dk_16 48 (dk_at dksX16_single_7 3 rfl rfl)
theorem dX16_single_165 : decode cX16_single 165 = .ok (.bipush 57, 2) := dk_16 57 (dk_at dksX16_single_7 5 rfl rfl)
theorem dX16_single_167 : decode cX16_single 167 = .ok (.invokestatic 101, 3) := dk_184 0 101 (dk_at dksX16_single_7 7 rfl rfl)
theorem dX16_single_170 : decode cX16_single 170 = .ok (.ifCond .eq 32, 3) := dk_153 0 32 (dk_at dksX16_single_7 10 rfl rfl)
theorem dX16_single_173 : decode cX16_single 173 = .ok (.bipush 10, 2) := dk_16 10 (dk_at dksX16_single_7 13 rfl rfl)
theorem dX16_single_175 : decode cX16_single 175 = .ok (.iload_n 1, 1) := dk_27 (dk_at dksX16_single_7 15 rfl rfl)
theorem dX16_single_176 : decode cX16_single 176 = .ok (.imul, 1) := dk_104 (dk_at dksX16_single_7 16 rfl rfl)
theorem dX16_single_177 : decode cX16_single 177 = .ok (.aload_n 0, 1) := dk_42 (dk_at dksX16_single_7 17 rfl rfl)
theorem dX16_single_178 : decode cX16_single 178 = .ok (.invokevirtual 39, 3) := dk_182 0 39 (dk_at dksX16_single_7 18 rfl rfl)
theorem dX16_single_181 : decode cX16_single 181 = .ok (.iadd, 1) := dk_96 (dk_at dksX16_single_7 21 rfl rfl)
theorem dX16_single_182 : decode cX16_single 182 = .ok (.bipush 48, 2) := dk_16 48 (dk_at dksX16_single_7 22 rfl rfl)
theorem dX16_single_184 : decode cX16_single 184 = .ok (.isub, 1) := dk_100 (dk_at dksX16_single_8 0 rfl rfl)
theorem dX16_single_185 : decode cX16_single 185 = .ok (.istore_n 1, 1) := dk_60 (dk_at dksX16_single_8 1 rfl rfl)
theorem dX16_single_186 : decode cX16_single 186 = .ok (.aload_n 0, 1) := dk_42 (dk_at dksX16_single_8 2 rfl rfl)
theorem dX16_single_187 : decode cX16_single 187 = .ok (.dup, 1) := dk_89 (dk_at dksX16_single_8 3 rfl rfl)
theorem dX16_single_188 : decode cX16_single 188 = .ok (.getfield 27, 3) := dk_180 0 27 (dk_at dksX16_single_8 4 rfl rfl)
theorem dX16_single_191 : decode cX16_single 191 = .ok (.iconst 1, 1) := dk_4 (dk_at dksX16_single_8 7 rfl rfl)
theorem dX16_single_192 : decode cX16_single 192 = .ok (.iadd, 1) := dk_96 (dk_at dksX16_single_8 8 rfl rfl)
theorem dX16_single_193 : decode cX16_single 193 = .ok (.putfield 27, 3) := dk_181 0 27 (dk_at dksX16_single_8 9 rfl rfl)
theorem dX16_single_196 : decode cX16_single 196 = .ok (.iinc 2 1, 3) := dk_132 2 1 (dk_at dksX16_single_8 12 rfl rfl)
theorem dX16_single_199 : decode cX16_single 199 = .ok (.goto (-45), 3) := dk_167 255 211 (dk_at dksX16_single_8 15 rfl rfl)
theorem dX16_single_202 : decode cX16_single 202 = .ok (.new 105, 3) := dk_187 0 105 (dk_at dksX16_single_8 18 rfl rfl)
theorem dX16_single_205 : decode cX16_single 205 = .ok (.dup, 1) := dk_89 (dk_at dksX16_single_8 21 rfl rfl)
theorem dX16_single_206 : decode cX16_single 206 = .ok (.iload_n 1, 1) := dk_27 (dk_at dksX16_single_8 22 rfl rfl)
theorem dX16_single_207 : decode cX16_single 207 = .ok (.invokespecial 107, 3) := dk_183 0 107 (dk_at dksX16_single_9 0 rfl rfl)
theorem dX16_single_210 : decode cX16_single 210 = .ok (.areturn, 1) := dk_176 (dk_at dksX16_single_9 3 rfl rfl)
abbrev cX16_isOne : ByteArray := prog_20_method_5_code
def yX16_isOne : MethodName := ⟨RX16, "isOne", "(Ljava/lang/String;)Z"⟩
def dkwX16_isOne_0 : List UInt8 := [42, 182, 0, 39, 155, 0, 18, 43, 42, 182, 0, 39, 182, 0, 43, 155, 0, 7, 4, 167, 0, 4, 3, 172]
abbrev dktX16_isOne_0 : List UInt8 := dkwX16_isOne_0 ++ []
theorem dksX16_isOne_0 : cX16_isOne.data.toList.drop 0 = dktX16_isOne_0 := by decide +kernel
theorem dX16_isOne_0 : decode cX16_isOne 0 = .ok (.aload_n 0, 1) := dk_42 (dk_at dksX16_isOne_0 0 rfl rfl)
theorem dX16_isOne_1 : decode cX16_isOne 1 = .ok (.invokevirtual 39, 3) := dk_182 0 39 (dk_at dksX16_isOne_0 1 rfl rfl)
theorem dX16_isOne_4 : decode cX16_isOne 4 = .ok (.ifCond .lt 18, 3) := dk_155 0 18 (dk_at dksX16_isOne_0 4 rfl rfl)
theorem dX16_isOne_7 : decode cX16_isOne 7 = .ok (.aload_n 1, 1) := dk_43 (dk_at dksX16_isOne_0 7 rfl rfl)
theorem dX16_isOne_8 : decode cX16_isOne 8 = .ok (.aload_n 0, 1) := dk_42 (dk_at dksX16_isOne_0 8 rfl rfl)
theorem dX16_isOne_9 : decode cX16_isOne 9 = .ok (.invokevirtual 39, 3) := dk_182 0 39 (dk_at dksX16_isOne_0 9 rfl rfl)
theorem dX16_isOne_12 : decode cX16_isOne 12 = .ok (.invokevirtual 43, 3) := dk_182 0 43 (dk_at dksX16_isOne_0 12 rfl rfl)
theorem dX16_isOne_15 : decode cX16_isOne 15 = .ok (.ifCond .lt 7, 3) := dk_155 0 7 (dk_at dksX16_isOne_0 15 rfl rfl)
theorem dX16_isOne_18 : decode cX16_isOne 18 = .ok (.iconst 1, 1) := dk_4 (dk_at dksX16_isOne_0 18 rfl rfl)
theorem dX16_isOne_19 : decode cX16_isOne 19 = .ok (.goto 4, 3) := dk_167 0 4 (dk_at dksX16_isOne_0 19 rfl rfl)
theorem dX16_isOne_22 : decode cX16_isOne 22 = .ok (.iconst 0, 1) := dk_3 (dk_at dksX16_isOne_0 22 rfl rfl)
theorem dX16_isOne_23 : decode cX16_isOne 23 = .ok (.ireturn, 1) := dk_172 (dk_at dksX16_isOne_0 23 rfl rfl)
abbrev cX16_look : ByteArray := prog_20_method_3_code
def yX16_look : MethodName := ⟨RX16, "look", "()I"⟩
def dkwX16_look_1 : List UInt8 := [167, 0, 4, 2, 172]
abbrev dktX16_look_1 : List UInt8 := dkwX16_look_1 ++ []
def dkwX16_look_0 : List UInt8 := [42, 180, 0, 27, 42, 180, 0, 19, 162, 0, 19, 42, 180, 0, 15, 42, 180, 0, 27, 51, 17, 0, 255, 126]
abbrev dktX16_look_0 : List UInt8 := dkwX16_look_0 ++ dktX16_look_1
theorem dksX16_look_0 : cX16_look.data.toList.drop 0 = dktX16_look_0 := by decide +kernel
theorem dksX16_look_1 : cX16_look.data.toList.drop 24 = dktX16_look_1 := dk_seg dksX16_look_0 24 rfl rfl
theorem dX16_look_0 : decode cX16_look 0 = .ok (.aload_n 0, 1) := dk_42 (dk_at dksX16_look_0 0 rfl rfl)
theorem dX16_look_1 : decode cX16_look 1 = .ok (.getfield 27, 3) := dk_180 0 27 (dk_at dksX16_look_0 1 rfl rfl)
theorem dX16_look_4 : decode cX16_look 4 = .ok (.aload_n 0, 1) := dk_42 (dk_at dksX16_look_0 4 rfl rfl)
theorem dX16_look_5 : decode cX16_look 5 = .ok (.getfield 19, 3) := dk_180 0 19 (dk_at dksX16_look_0 5 rfl rfl)
theorem dX16_look_8 : decode cX16_look 8 = .ok (.if_icmp .ge 19, 3) := dk_162 0 19 (dk_at dksX16_look_0 8 rfl rfl)
theorem dX16_look_11 : decode cX16_look 11 = .ok (.aload_n 0, 1) := dk_42 (dk_at dksX16_look_0 11 rfl rfl)
theorem dX16_look_12 : decode cX16_look 12 = .ok (.getfield 15, 3) := dk_180 0 15 (dk_at dksX16_look_0 12 rfl rfl)
theorem dX16_look_15 : decode cX16_look 15 = .ok (.aload_n 0, 1) := dk_42 (dk_at dksX16_look_0 15 rfl rfl)
theorem dX16_look_16 : decode cX16_look 16 = .ok (.getfield 27, 3) := dk_180 0 27 (dk_at dksX16_look_0 16 rfl rfl)
theorem dX16_look_19 : decode cX16_look 19 = .ok (.baload, 1) := dk_51 (dk_at dksX16_look_0 19 rfl rfl)
theorem dX16_look_20 : decode cX16_look 20 = .ok (.sipush 255, 3) := dk_17 0 255 (dk_at dksX16_look_0 20 rfl rfl)
theorem dX16_look_23 : decode cX16_look 23 = .ok (.iand, 1) := dk_126 (dk_at dksX16_look_0 23 rfl rfl)
theorem dX16_look_24 : decode cX16_look 24 = .ok (.goto 4, 3) := dk_167 0 4 (dk_at dksX16_look_1 0 rfl rfl)
theorem dX16_look_27 : decode cX16_look 27 = .ok (.iconst (-1), 1) := dk_2 (dk_at dksX16_look_1 3 rfl rfl)
theorem dX16_look_28 : decode cX16_look 28 = .ok (.ireturn, 1) := dk_172 (dk_at dksX16_look_1 4 rfl rfl)
abbrev cX16_opens : ByteArray := prog_20_method_11_code
def yX16_opens : MethodName := ⟨RX16, "opens", "()V"⟩
def dkwX16_opens_1 : List UInt8 := [181, 0, 83, 42, 89, 180, 0, 27, 4, 96, 181, 0, 27, 177]
abbrev dktX16_opens_1 : List UInt8 := dkwX16_opens_1 ++ []
def dkwX16_opens_0 : List UInt8 := [42, 42, 180, 0, 83, 8, 162, 0, 7, 4, 167, 0, 4, 3, 182, 0, 30, 42, 89, 180, 0, 83, 4, 96]
abbrev dktX16_opens_0 : List UInt8 := dkwX16_opens_0 ++ dktX16_opens_1
theorem dksX16_opens_0 : cX16_opens.data.toList.drop 0 = dktX16_opens_0 := by decide +kernel
theorem dksX16_opens_1 : cX16_opens.data.toList.drop 24 = dktX16_opens_1 := dk_seg dksX16_opens_0 24 rfl rfl
theorem dX16_opens_0 : decode cX16_opens 0 = .ok (.aload_n 0, 1) := dk_42 (dk_at dksX16_opens_0 0 rfl rfl)
theorem dX16_opens_1 : decode cX16_opens 1 = .ok (.aload_n 0, 1) := dk_42 (dk_at dksX16_opens_0 1 rfl rfl)
theorem dX16_opens_2 : decode cX16_opens 2 = .ok (.getfield 83, 3) := dk_180 0 83 (dk_at dksX16_opens_0 2 rfl rfl)
theorem dX16_opens_5 : decode cX16_opens 5 = .ok (.iconst 5, 1) := dk_8 (dk_at dksX16_opens_0 5 rfl rfl)
theorem dX16_opens_6 : decode cX16_opens 6 = .ok (.if_icmp .ge 7, 3) := dk_162 0 7 (dk_at dksX16_opens_0 6 rfl rfl)
theorem dX16_opens_9 : decode cX16_opens 9 = .ok (.iconst 1, 1) := dk_4 (dk_at dksX16_opens_0 9 rfl rfl)
theorem dX16_opens_10 : decode cX16_opens 10 = .ok (.goto 4, 3) := dk_167 0 4 (dk_at dksX16_opens_0 10 rfl rfl)
theorem dX16_opens_13 : decode cX16_opens 13 = .ok (.iconst 0, 1) := dk_3 (dk_at dksX16_opens_0 13 rfl rfl)
theorem dX16_opens_14 : decode cX16_opens 14 = .ok (.invokevirtual 30, 3) := dk_182 0 30 (dk_at dksX16_opens_0 14 rfl rfl)
theorem dX16_opens_17 : decode cX16_opens 17 = .ok (.aload_n 0, 1) := dk_42 (dk_at dksX16_opens_0 17 rfl rfl)
theorem dX16_opens_18 : decode cX16_opens 18 = .ok (.dup, 1) := dk_89 (dk_at dksX16_opens_0 18 rfl rfl)
theorem dX16_opens_19 : decode cX16_opens 19 = .ok (.getfield 83, 3) := dk_180 0 83 (dk_at dksX16_opens_0 19 rfl rfl)
theorem dX16_opens_22 : decode cX16_opens 22 = .ok (.iconst 1, 1) := dk_4 (dk_at dksX16_opens_0 22 rfl rfl)
theorem dX16_opens_23 : decode cX16_opens 23 = .ok (.iadd, 1) := dk_96 (dk_at dksX16_opens_0 23 rfl rfl)
theorem dX16_opens_24 : decode cX16_opens 24 = .ok (.putfield 83, 3) := dk_181 0 83 (dk_at dksX16_opens_1 0 rfl rfl)
theorem dX16_opens_27 : decode cX16_opens 27 = .ok (.aload_n 0, 1) := dk_42 (dk_at dksX16_opens_1 3 rfl rfl)
theorem dX16_opens_28 : decode cX16_opens 28 = .ok (.dup, 1) := dk_89 (dk_at dksX16_opens_1 4 rfl rfl)
theorem dX16_opens_29 : decode cX16_opens 29 = .ok (.getfield 27, 3) := dk_180 0 27 (dk_at dksX16_opens_1 5 rfl rfl)
theorem dX16_opens_32 : decode cX16_opens 32 = .ok (.iconst 1, 1) := dk_4 (dk_at dksX16_opens_1 8 rfl rfl)
theorem dX16_opens_33 : decode cX16_opens 33 = .ok (.iadd, 1) := dk_96 (dk_at dksX16_opens_1 9 rfl rfl)
theorem dX16_opens_34 : decode cX16_opens 34 = .ok (.putfield 27, 3) := dk_181 0 27 (dk_at dksX16_opens_1 10 rfl rfl)
theorem dX16_opens_37 : decode cX16_opens 37 = .ok (.return_, 1) := dk_177 (dk_at dksX16_opens_1 13 rfl rfl)
abbrev cX16_fault : ByteArray := prog_20_method_4_code
def yX16_fault : MethodName := ⟨RX16, "fault", "(Z)V"⟩
def dkwX16_fault_0 : List UInt8 := [27, 154, 0, 15, 187, 0, 34, 89, 42, 180, 0, 27, 183, 0, 36, 191, 177]
abbrev dktX16_fault_0 : List UInt8 := dkwX16_fault_0 ++ []
theorem dksX16_fault_0 : cX16_fault.data.toList.drop 0 = dktX16_fault_0 := by decide +kernel
theorem dX16_fault_0 : decode cX16_fault 0 = .ok (.iload_n 1, 1) := dk_27 (dk_at dksX16_fault_0 0 rfl rfl)
theorem dX16_fault_1 : decode cX16_fault 1 = .ok (.ifCond .ne 15, 3) := dk_154 0 15 (dk_at dksX16_fault_0 1 rfl rfl)
theorem dX16_fault_4 : decode cX16_fault 4 = .ok (.new 34, 3) := dk_187 0 34 (dk_at dksX16_fault_0 4 rfl rfl)
theorem dX16_fault_7 : decode cX16_fault 7 = .ok (.dup, 1) := dk_89 (dk_at dksX16_fault_0 7 rfl rfl)
theorem dX16_fault_8 : decode cX16_fault 8 = .ok (.aload_n 0, 1) := dk_42 (dk_at dksX16_fault_0 8 rfl rfl)
theorem dX16_fault_9 : decode cX16_fault 9 = .ok (.getfield 27, 3) := dk_180 0 27 (dk_at dksX16_fault_0 9 rfl rfl)
theorem dX16_fault_12 : decode cX16_fault 12 = .ok (.invokespecial 36, 3) := dk_183 0 36 (dk_at dksX16_fault_0 12 rfl rfl)
theorem dX16_fault_15 : decode cX16_fault 15 = .ok (.athrow, 1) := dk_191 (dk_at dksX16_fault_0 15 rfl rfl)
theorem dX16_fault_16 : decode cX16_fault 16 = .ok (.return_, 1) := dk_177 (dk_at dksX16_fault_0 16 rfl rfl)
theorem q100 : (Jvm.Cond.initialized "WellNames$Reader") ∈ lw_all := lw_g (lw_at lw_m1 21 rfl) rfl
theorem q678 : (Jvm.Cond.instantiable "WellNames$Reader" (5 : Nat)) ∈ lw_all := lw_g (lw_at lw_m3 119 rfl) rfl
theorem q682 : (Jvm.Cond.instanceMethod ({ cls := "WellNames$Reader", name := "<init>", desc := "(Ljava/lang/String;[BI)V" } : Jvm.MethodName)) ∈ lw_all := lw_g (lw_at lw_m3 123 rfl) rfl
theorem q683 : (Jvm.Cond.code ({ cls := "WellNames$Reader", name := "<init>", desc := "(Ljava/lang/String;[BI)V" } : Jvm.MethodName) prog_20_method_1_code (4 : Nat) (Option.none : Option Jvm.ClassFile.FieldType)) ∈ lw_all := lw_g (lw_at lw_m3 124 rfl) rfl
theorem q684 : (Jvm.Cond.methodLink "WellNames$Reader" (3 : Nat) ({ cls := "java/lang/Object", name := "<init>", desc := "()V" } : Jvm.MethodName)) ∈ lw_all := lw_g (lw_at lw_m3 125 rfl) rfl
theorem q685 : (Jvm.Cond.fieldLink "WellNames$Reader" (9 : Nat) "WellNames$Reader" "names" "Ljava/lang/String;") ∈ lw_all := lw_g (lw_at lw_m3 126 rfl) rfl
theorem q686 : (Jvm.Cond.fieldLink "WellNames$Reader" (15 : Nat) "WellNames$Reader" "bytes" "[B") ∈ lw_all := lw_g (lw_at lw_m3 127 rfl) rfl
theorem q687 : (Jvm.Cond.fieldLink "WellNames$Reader" (19 : Nat) "WellNames$Reader" "size" "I") ∈ lw_all := lw_g (lw_at lw_m3 128 rfl) rfl
theorem q688 : (Jvm.Cond.fieldLink "WellNames$Reader" (27 : Nat) "WellNames$Reader" "at" "I") ∈ lw_all := lw_g (lw_at lw_m3 129 rfl) rfl
theorem q689 : (Jvm.Cond.fieldLink "WellNames$Reader" (83 : Nat) "WellNames$Reader" "open" "I") ∈ lw_all := lw_g (lw_at lw_m3 130 rfl) rfl
theorem q690 : (Jvm.Cond.laysFinal "WellNames$Reader" "WellNames$Reader" "names" "Ljava/lang/String;") ∈ lw_all := lw_g (lw_at lw_m3 131 rfl) rfl
theorem q691 : (Jvm.Cond.soleField "WellNames$Reader" "names") ∈ lw_all := lw_g (lw_at lw_m3 132 rfl) rfl
theorem q692 : (Jvm.Cond.laysFinal "WellNames$Reader" "WellNames$Reader" "bytes" "[B") ∈ lw_all := lw_g (lw_at lw_m3 133 rfl) rfl
theorem q693 : (Jvm.Cond.soleField "WellNames$Reader" "bytes") ∈ lw_all := lw_g (lw_at lw_m3 134 rfl) rfl
theorem q694 : (Jvm.Cond.laysFinal "WellNames$Reader" "WellNames$Reader" "size" "I") ∈ lw_all := lw_g (lw_at lw_m3 135 rfl) rfl
theorem q695 : (Jvm.Cond.soleField "WellNames$Reader" "size") ∈ lw_all := lw_g (lw_at lw_m3 136 rfl) rfl
theorem q696 : (Jvm.Cond.lays "WellNames$Reader" "WellNames$Reader" "at" "I") ∈ lw_all := lw_g (lw_at lw_m3 137 rfl) rfl
theorem q697 : (Jvm.Cond.soleField "WellNames$Reader" "at") ∈ lw_all := lw_g (lw_at lw_m3 138 rfl) rfl
theorem q698 : (Jvm.Cond.lays "WellNames$Reader" "WellNames$Reader" "open" "I") ∈ lw_all := lw_g (lw_at lw_m3 139 rfl) rfl
theorem q699 : (Jvm.Cond.soleField "WellNames$Reader" "open") ∈ lw_all := lw_g (lw_at lw_m3 140 rfl) rfl
theorem q700 : (Jvm.Cond.superclass "WellNames$Reader" "java/lang/Object") ∈ lw_all := lw_g (lw_at lw_m3 141 rfl) rfl
theorem q702 : (Jvm.Cond.instanceMethod ({ cls := "WellNames$Reader", name := "read", desc := "()LWellNames$Term;" } : Jvm.MethodName)) ∈ lw_all := lw_g (lw_at lw_m3 143 rfl) rfl
theorem q703 : (Jvm.Cond.selects "WellNames$Reader" ({ cls := "WellNames$Reader", name := "read", desc := "()LWellNames$Term;" } : Jvm.MethodName) ({ cls := "WellNames$Reader", name := "read", desc := "()LWellNames$Term;" } : Jvm.MethodName)) ∈ lw_all := lw_g (lw_at lw_m3 144 rfl) rfl
theorem q704 : (Jvm.Cond.code ({ cls := "WellNames$Reader", name := "read", desc := "()LWellNames$Term;" } : Jvm.MethodName) prog_20_method_2_code (2 : Nat) (Option.some (Jvm.ClassFile.FieldType.object "WellNames$Term"))) ∈ lw_all := lw_g (lw_at lw_m3 145 rfl) rfl
theorem q705 : (Jvm.Cond.methodLink "WellNames$Reader" (23 : Nat) ({ cls := "WellNames$Reader", name := "either", desc := "()LWellNames$Term;" } : Jvm.MethodName)) ∈ lw_all := lw_g (lw_at lw_m3 146 rfl) rfl
theorem q706 : (Jvm.Cond.privateMethod ({ cls := "WellNames$Reader", name := "either", desc := "()LWellNames$Term;" } : Jvm.MethodName)) ∈ lw_tbl := lw_at lw_m3 147 rfl
theorem q707 : (Jvm.Cond.instanceMethod ({ cls := "WellNames$Reader", name := "either", desc := "()LWellNames$Term;" } : Jvm.MethodName)) ∈ lw_all := lw_g (lw_at lw_m3 148 rfl) rfl
theorem q708 : (Jvm.Cond.code ({ cls := "WellNames$Reader", name := "either", desc := "()LWellNames$Term;" } : Jvm.MethodName) prog_20_method_6_code (2 : Nat) (Option.some (Jvm.ClassFile.FieldType.object "WellNames$Term"))) ∈ lw_all := lw_g (lw_at lw_m3 149 rfl) rfl
theorem q709 : (Jvm.Cond.methodLink "WellNames$Reader" (49 : Nat) ({ cls := "WellNames$Reader", name := "both", desc := "()LWellNames$Term;" } : Jvm.MethodName)) ∈ lw_all := lw_g (lw_at lw_m3 150 rfl) rfl
theorem q710 : (Jvm.Cond.privateMethod ({ cls := "WellNames$Reader", name := "both", desc := "()LWellNames$Term;" } : Jvm.MethodName)) ∈ lw_tbl := lw_at lw_m3 151 rfl
theorem q711 : (Jvm.Cond.instanceMethod ({ cls := "WellNames$Reader", name := "both", desc := "()LWellNames$Term;" } : Jvm.MethodName)) ∈ lw_all := lw_g (lw_at lw_m3 152 rfl) rfl
theorem q712 : (Jvm.Cond.code ({ cls := "WellNames$Reader", name := "both", desc := "()LWellNames$Term;" } : Jvm.MethodName) prog_20_method_7_code (2 : Nat) (Option.some (Jvm.ClassFile.FieldType.object "WellNames$Term"))) ∈ lw_all := lw_g (lw_at lw_m3 153 rfl) rfl
theorem q713 : (Jvm.Cond.methodLink "WellNames$Reader" (63 : Nat) ({ cls := "WellNames$Reader", name := "relation", desc := "()LWellNames$Term;" } : Jvm.MethodName)) ∈ lw_all := lw_g (lw_at lw_m3 154 rfl) rfl
theorem q714 : (Jvm.Cond.privateMethod ({ cls := "WellNames$Reader", name := "relation", desc := "()LWellNames$Term;" } : Jvm.MethodName)) ∈ lw_tbl := lw_at lw_m3 155 rfl
theorem q715 : (Jvm.Cond.instanceMethod ({ cls := "WellNames$Reader", name := "relation", desc := "()LWellNames$Term;" } : Jvm.MethodName)) ∈ lw_all := lw_g (lw_at lw_m3 156 rfl) rfl
theorem q716 : (Jvm.Cond.code ({ cls := "WellNames$Reader", name := "relation", desc := "()LWellNames$Term;" } : Jvm.MethodName) prog_20_method_8_code (3 : Nat) (Option.some (Jvm.ClassFile.FieldType.object "WellNames$Term"))) ∈ lw_all := lw_g (lw_at lw_m3 157 rfl) rfl
theorem q717 : (Jvm.Cond.methodLink "WellNames$Reader" (68 : Nat) ({ cls := "WellNames$Reader", name := "sum", desc := "()LWellNames$Term;" } : Jvm.MethodName)) ∈ lw_all := lw_g (lw_at lw_m3 158 rfl) rfl
theorem q718 : (Jvm.Cond.privateMethod ({ cls := "WellNames$Reader", name := "sum", desc := "()LWellNames$Term;" } : Jvm.MethodName)) ∈ lw_tbl := lw_at lw_m3 159 rfl
theorem q719 : (Jvm.Cond.instanceMethod ({ cls := "WellNames$Reader", name := "sum", desc := "()LWellNames$Term;" } : Jvm.MethodName)) ∈ lw_all := lw_g (lw_at lw_m3 160 rfl) rfl
theorem q720 : (Jvm.Cond.code ({ cls := "WellNames$Reader", name := "sum", desc := "()LWellNames$Term;" } : Jvm.MethodName) prog_20_method_9_code (3 : Nat) (Option.some (Jvm.ClassFile.FieldType.object "WellNames$Term"))) ∈ lw_all := lw_g (lw_at lw_m3 161 rfl) rfl
theorem q721 : (Jvm.Cond.methodLink "WellNames$Reader" (73 : Nat) ({ cls := "WellNames$Reader", name := "product", desc := "()LWellNames$Term;" } : Jvm.MethodName)) ∈ lw_all := lw_g (lw_at lw_m3 162 rfl) rfl
theorem q722 : (Jvm.Cond.privateMethod ({ cls := "WellNames$Reader", name := "product", desc := "()LWellNames$Term;" } : Jvm.MethodName)) ∈ lw_tbl := lw_at lw_m3 163 rfl
theorem q723 : (Jvm.Cond.instanceMethod ({ cls := "WellNames$Reader", name := "product", desc := "()LWellNames$Term;" } : Jvm.MethodName)) ∈ lw_all := lw_g (lw_at lw_m3 164 rfl) rfl
theorem q724 : (Jvm.Cond.code ({ cls := "WellNames$Reader", name := "product", desc := "()LWellNames$Term;" } : Jvm.MethodName) prog_20_method_10_code (3 : Nat) (Option.some (Jvm.ClassFile.FieldType.object "WellNames$Term"))) ∈ lw_all := lw_g (lw_at lw_m3 165 rfl) rfl
theorem q725 : (Jvm.Cond.methodLink "WellNames$Reader" (78 : Nat) ({ cls := "WellNames$Reader", name := "single", desc := "()LWellNames$Term;" } : Jvm.MethodName)) ∈ lw_all := lw_g (lw_at lw_m3 166 rfl) rfl
theorem q726 : (Jvm.Cond.privateMethod ({ cls := "WellNames$Reader", name := "single", desc := "()LWellNames$Term;" } : Jvm.MethodName)) ∈ lw_tbl := lw_at lw_m3 167 rfl
theorem q727 : (Jvm.Cond.instanceMethod ({ cls := "WellNames$Reader", name := "single", desc := "()LWellNames$Term;" } : Jvm.MethodName)) ∈ lw_all := lw_g (lw_at lw_m3 168 rfl) rfl
theorem q728 : (Jvm.Cond.code ({ cls := "WellNames$Reader", name := "single", desc := "()LWellNames$Term;" } : Jvm.MethodName) prog_20_method_12_code (3 : Nat) (Option.some (Jvm.ClassFile.FieldType.object "WellNames$Term"))) ∈ lw_all := lw_g (lw_at lw_m3 169 rfl) rfl
theorem q729 : (Jvm.Cond.methodLink "WellNames$Reader" (54 : Nat) ({ cls := "WellNames$Reader", name := "isOne", desc := "(Ljava/lang/String;)Z" } : Jvm.MethodName)) ∈ lw_all := lw_g (lw_at lw_m3 170 rfl) rfl
theorem q730 : (Jvm.Cond.privateMethod ({ cls := "WellNames$Reader", name := "isOne", desc := "(Ljava/lang/String;)Z" } : Jvm.MethodName)) ∈ lw_tbl := lw_at lw_m3 171 rfl
theorem q731 : (Jvm.Cond.instanceMethod ({ cls := "WellNames$Reader", name := "isOne", desc := "(Ljava/lang/String;)Z" } : Jvm.MethodName)) ∈ lw_all := lw_g (lw_at lw_m3 172 rfl) rfl
theorem q732 : (Jvm.Cond.code ({ cls := "WellNames$Reader", name := "isOne", desc := "(Ljava/lang/String;)Z" } : Jvm.MethodName) prog_20_method_5_code (2 : Nat) (Option.some Jvm.ClassFile.FieldType.boolean)) ∈ lw_all := lw_g (lw_at lw_m3 173 rfl) rfl
theorem q733 : (Jvm.Cond.methodLink "WellNames$Reader" (39 : Nat) ({ cls := "WellNames$Reader", name := "look", desc := "()I" } : Jvm.MethodName)) ∈ lw_all := lw_g (lw_at lw_m3 174 rfl) rfl
theorem q734 : (Jvm.Cond.privateMethod ({ cls := "WellNames$Reader", name := "look", desc := "()I" } : Jvm.MethodName)) ∈ lw_tbl := lw_at lw_m3 175 rfl
theorem q735 : (Jvm.Cond.instanceMethod ({ cls := "WellNames$Reader", name := "look", desc := "()I" } : Jvm.MethodName)) ∈ lw_all := lw_g (lw_at lw_m3 176 rfl) rfl
theorem q736 : (Jvm.Cond.code ({ cls := "WellNames$Reader", name := "look", desc := "()I" } : Jvm.MethodName) prog_20_method_3_code (1 : Nat) (Option.some Jvm.ClassFile.FieldType.int)) ∈ lw_all := lw_g (lw_at lw_m3 177 rfl) rfl
theorem q737 : (Jvm.Cond.methodLink "WellNames$Reader" (43 : Nat) ({ cls := "java/lang/String", name := "indexOf", desc := "(I)I" } : Jvm.MethodName)) ∈ lw_all := lw_g (lw_at lw_m3 178 rfl) rfl
theorem q819 : (Jvm.Cond.classLink "WellNames$Reader" (86 : Nat) "WellNames$Named") ∈ lw_all := lw_g (lw_at lw_m4 20 rfl) rfl
theorem q821 : (Jvm.Cond.methodLink "WellNames$Reader" (88 : Nat) ({ cls := "WellNames$Named", name := "<init>", desc := "(I)V" } : Jvm.MethodName)) ∈ lw_all := lw_g (lw_at lw_m4 22 rfl) rfl
theorem q832 : (Jvm.Cond.stringRef "WellNames$Reader" (89 : Nat) "!") ∈ lw_tbl := lw_at lw_m4 33 rfl
theorem q833 : (Jvm.Cond.methodLink "WellNames$Reader" (91 : Nat) ({ cls := "WellNames$Reader", name := "opens", desc := "()V" } : Jvm.MethodName)) ∈ lw_all := lw_g (lw_at lw_m4 34 rfl) rfl
theorem q834 : (Jvm.Cond.privateMethod ({ cls := "WellNames$Reader", name := "opens", desc := "()V" } : Jvm.MethodName)) ∈ lw_tbl := lw_at lw_m4 35 rfl
theorem q835 : (Jvm.Cond.instanceMethod ({ cls := "WellNames$Reader", name := "opens", desc := "()V" } : Jvm.MethodName)) ∈ lw_all := lw_g (lw_at lw_m4 36 rfl) rfl
theorem q836 : (Jvm.Cond.code ({ cls := "WellNames$Reader", name := "opens", desc := "()V" } : Jvm.MethodName) prog_20_method_11_code (1 : Nat) (Option.none : Option Jvm.ClassFile.FieldType)) ∈ lw_all := lw_g (lw_at lw_m4 37 rfl) rfl
theorem q837 : (Jvm.Cond.methodLink "WellNames$Reader" (30 : Nat) ({ cls := "WellNames$Reader", name := "fault", desc := "(Z)V" } : Jvm.MethodName)) ∈ lw_all := lw_g (lw_at lw_m4 38 rfl) rfl
theorem q838 : (Jvm.Cond.privateMethod ({ cls := "WellNames$Reader", name := "fault", desc := "(Z)V" } : Jvm.MethodName)) ∈ lw_tbl := lw_at lw_m4 39 rfl
theorem q839 : (Jvm.Cond.instanceMethod ({ cls := "WellNames$Reader", name := "fault", desc := "(Z)V" } : Jvm.MethodName)) ∈ lw_all := lw_g (lw_at lw_m4 40 rfl) rfl
theorem q840 : (Jvm.Cond.code ({ cls := "WellNames$Reader", name := "fault", desc := "(Z)V" } : Jvm.MethodName) prog_20_method_4_code (2 : Nat) (Option.none : Option Jvm.ClassFile.FieldType)) ∈ lw_all := lw_g (lw_at lw_m4 41 rfl) rfl
theorem q841 : (Jvm.Cond.classLink "WellNames$Reader" (34 : Nat) "WellNames$Fault") ∈ lw_all := lw_g (lw_at lw_m4 42 rfl) rfl
theorem q850 : (Jvm.Cond.methodLink "WellNames$Reader" (36 : Nat) ({ cls := "WellNames$Fault", name := "<init>", desc := "(I)V" } : Jvm.MethodName)) ∈ lw_all := lw_g (lw_at lw_m4 51 rfl) rfl
theorem q860 : (Jvm.Cond.classLink "WellNames$Reader" (94 : Nat) "WellNames$Turned") ∈ lw_all := lw_g (lw_at lw_m4 61 rfl) rfl
theorem q862 : (Jvm.Cond.methodLink "WellNames$Reader" (96 : Nat) ({ cls := "WellNames$Turned", name := "<init>", desc := "(LWellNames$Term;)V" } : Jvm.MethodName)) ∈ lw_all := lw_g (lw_at lw_m4 63 rfl) rfl
theorem q870 : (Jvm.Cond.stringRef "WellNames$Reader" (99 : Nat) "(") ∈ lw_tbl := lw_at lw_m4 71 rfl
theorem q871 : (Jvm.Cond.methodLinkNest "WellNames$Reader" (101 : Nat) ({ cls := "WellNames", name := "in", desc := "(III)Z" } : Jvm.MethodName) "WellNames") ∈ lw_tbl := lw_at lw_m4 72 rfl
theorem q872 : (Jvm.Cond.classLink "WellNames$Reader" (105 : Nat) "WellNames$Figure") ∈ lw_all := lw_g (lw_at lw_m4 73 rfl) rfl
theorem q874 : (Jvm.Cond.methodLink "WellNames$Reader" (107 : Nat) ({ cls := "WellNames$Figure", name := "<init>", desc := "(I)V" } : Jvm.MethodName)) ∈ lw_all := lw_g (lw_at lw_m4 75 rfl) rfl
theorem q882 : (Jvm.Cond.stringRef "WellNames$Reader" (81 : Nat) "*/%") ∈ lw_tbl := lw_at lw_m4 83 rfl
theorem q883 : (Jvm.Cond.classLink "WellNames$Reader" (58 : Nat) "WellNames$Two") ∈ lw_all := lw_g (lw_at lw_m4 84 rfl) rfl
theorem q885 : (Jvm.Cond.methodLink "WellNames$Reader" (60 : Nat) ({ cls := "WellNames$Two", name := "<init>", desc := "(ILWellNames$Term;LWellNames$Term;)V" } : Jvm.MethodName)) ∈ lw_all := lw_g (lw_at lw_m4 86 rfl) rfl
theorem q899 : (Jvm.Cond.stringRef "WellNames$Reader" (76 : Nat) "+-") ∈ lw_tbl := lw_at lw_m4 100 rfl
theorem q900 : (Jvm.Cond.stringRef "WellNames$Reader" (71 : Nat) "<=>") ∈ lw_tbl := lw_at lw_m4 101 rfl
theorem q901 : (Jvm.Cond.stringRef "WellNames$Reader" (66 : Nat) "&") ∈ lw_tbl := lw_at lw_m4 102 rfl
theorem q902 : (Jvm.Cond.stringRef "WellNames$Reader" (52 : Nat) "|") ∈ lw_tbl := lw_at lw_m4 103 rfl
theorem in_X16 : ∀ w ∈ wsX160, w ∈ lw_all := lw_in wsX160 [690, 692, 694, 696, 698] (by decide +kernel) (by decide +kernel)

/-! WellNames$Named -/
set_option maxRecDepth 100000
def RX17 : String := "WellNames$Named"
def TX17 : u_T := fun k => match k with
  | _ => ("WellNames$Named", "name", "I", true)
def tyX17 : Nat → FieldType := fun k => match k with
  | _ => .int
abbrev wsX170 : List Cond := u_ws RX17 TX17 1
theorem nmX17 : ∀ a, a < 1 → ∀ b, b < 1 → a ≠ b → (TX17 a).2.1 ≠ (TX17 b).2.1 := by decide +kernel
theorem tyX17_ok : ∀ k, k < 1 → parseFieldDescriptor (TX17 k).2.2.1 = some (tyX17 k) := by decide +kernel
abbrev cX17_value : ByteArray := prog_18_method_2_code
def yX17_value : MethodName := ⟨RX17, "value", "(LWellNames$Facts;)I"⟩
def dkwX17_value_0 : List UInt8 := [43, 180, 0, 13, 42, 180, 0, 7, 46, 172]
abbrev dktX17_value_0 : List UInt8 := dkwX17_value_0 ++ []
theorem dksX17_value_0 : cX17_value.data.toList.drop 0 = dktX17_value_0 := by decide +kernel
theorem dX17_value_0 : decode cX17_value 0 = .ok (.aload_n 1, 1) := dk_43 (dk_at dksX17_value_0 0 rfl rfl)
theorem dX17_value_1 : decode cX17_value 1 = .ok (.getfield 13, 3) := dk_180 0 13 (dk_at dksX17_value_0 1 rfl rfl)
theorem dX17_value_4 : decode cX17_value 4 = .ok (.aload_n 0, 1) := dk_42 (dk_at dksX17_value_0 4 rfl rfl)
theorem dX17_value_5 : decode cX17_value 5 = .ok (.getfield 7, 3) := dk_180 0 7 (dk_at dksX17_value_0 5 rfl rfl)
theorem dX17_value_8 : decode cX17_value 8 = .ok (.iaload, 1) := dk_46 (dk_at dksX17_value_0 8 rfl rfl)
theorem dX17_value_9 : decode cX17_value 9 = .ok (.ireturn, 1) := dk_172 (dk_at dksX17_value_0 9 rfl rfl)
abbrev cX17_init : ByteArray := prog_18_method_1_code
def yX17_init : MethodName := ⟨RX17, "<init>", "(I)V"⟩
def dkwX17_init_0 : List UInt8 := [42, 183, 0, 1, 42, 27, 181, 0, 7, 177]
abbrev dktX17_init_0 : List UInt8 := dkwX17_init_0 ++ []
theorem dksX17_init_0 : cX17_init.data.toList.drop 0 = dktX17_init_0 := by decide +kernel
theorem dX17_init_0 : decode cX17_init 0 = .ok (.aload_n 0, 1) := dk_42 (dk_at dksX17_init_0 0 rfl rfl)
theorem dX17_init_1 : decode cX17_init 1 = .ok (.invokespecial 1, 3) := dk_183 0 1 (dk_at dksX17_init_0 1 rfl rfl)
theorem dX17_init_4 : decode cX17_init 4 = .ok (.aload_n 0, 1) := dk_42 (dk_at dksX17_init_0 4 rfl rfl)
theorem dX17_init_5 : decode cX17_init 5 = .ok (.iload_n 1, 1) := dk_27 (dk_at dksX17_init_0 5 rfl rfl)
theorem dX17_init_6 : decode cX17_init 6 = .ok (.putfield 7, 3) := dk_181 0 7 (dk_at dksX17_init_0 6 rfl rfl)
theorem dX17_init_9 : decode cX17_init 9 = .ok (.return_, 1) := dk_177 (dk_at dksX17_init_0 9 rfl rfl)
theorem q106 : (Jvm.Cond.initialized "WellNames$Named") ∈ lw_all := lw_g (lw_at lw_m1 27 rfl) rfl
theorem q210 : (Jvm.Cond.fieldLinkNest "WellNames$Named" (13 : Nat) "WellNames$Facts" "named" "[I" "WellNames") ∈ lw_tbl := lw_at lw_m1 131 rfl
theorem q602 : (Jvm.Cond.selects "WellNames$Named" ({ cls := "WellNames$Term", name := "value", desc := "(LWellNames$Facts;)I" } : Jvm.MethodName) ({ cls := "WellNames$Named", name := "value", desc := "(LWellNames$Facts;)I" } : Jvm.MethodName)) ∈ lw_all := lw_g (lw_at lw_m3 43 rfl) rfl
theorem q603 : (Jvm.Cond.instanceMethod ({ cls := "WellNames$Named", name := "value", desc := "(LWellNames$Facts;)I" } : Jvm.MethodName)) ∈ lw_all := lw_g (lw_at lw_m3 44 rfl) rfl
theorem q604 : (Jvm.Cond.code ({ cls := "WellNames$Named", name := "value", desc := "(LWellNames$Facts;)I" } : Jvm.MethodName) prog_18_method_2_code (2 : Nat) (Option.some Jvm.ClassFile.FieldType.int)) ∈ lw_all := lw_g (lw_at lw_m3 45 rfl) rfl
theorem q820 : (Jvm.Cond.instantiable "WellNames$Named" (1 : Nat)) ∈ lw_all := lw_g (lw_at lw_m4 21 rfl) rfl
theorem q822 : (Jvm.Cond.instanceMethod ({ cls := "WellNames$Named", name := "<init>", desc := "(I)V" } : Jvm.MethodName)) ∈ lw_all := lw_g (lw_at lw_m4 23 rfl) rfl
theorem q823 : (Jvm.Cond.code ({ cls := "WellNames$Named", name := "<init>", desc := "(I)V" } : Jvm.MethodName) prog_18_method_1_code (2 : Nat) (Option.none : Option Jvm.ClassFile.FieldType)) ∈ lw_all := lw_g (lw_at lw_m4 24 rfl) rfl
theorem q824 : (Jvm.Cond.methodLinkNest "WellNames$Named" (1 : Nat) ({ cls := "WellNames$Term", name := "<init>", desc := "()V" } : Jvm.MethodName) "WellNames") ∈ lw_tbl := lw_at lw_m4 25 rfl
theorem q828 : (Jvm.Cond.fieldLink "WellNames$Named" (7 : Nat) "WellNames$Named" "name" "I") ∈ lw_all := lw_g (lw_at lw_m4 29 rfl) rfl
theorem q829 : (Jvm.Cond.laysFinal "WellNames$Named" "WellNames$Named" "name" "I") ∈ lw_all := lw_g (lw_at lw_m4 30 rfl) rfl
theorem q830 : (Jvm.Cond.soleField "WellNames$Named" "name") ∈ lw_all := lw_g (lw_at lw_m4 31 rfl) rfl
theorem q831 : (Jvm.Cond.superclass "WellNames$Named" "WellNames$Term") ∈ lw_all := lw_g (lw_at lw_m4 32 rfl) rfl
theorem q1978 : (Jvm.Cond.castable "WellNames$Named" "WellNames$Term") ∈ lw_tbl := lw_at lw_m8 219 rfl
theorem in_X17 : ∀ w ∈ wsX170, w ∈ lw_all := lw_in wsX170 [829] (by decide +kernel) (by decide +kernel)

/-! WellNames$Fault -/
set_option maxRecDepth 100000
def RX18 : String := "WellNames$Fault"
def TX18 : u_T := fun k => match k with
  | 0 => ("java/lang/Throwable", "cause", "Ljava/lang/Throwable;", false)
  | 1 => ("java/lang/Throwable", "stackTrace", "[Ljava/lang/StackTraceElement;", false)
  | 2 => ("java/lang/Throwable", "suppressedExceptions", "Ljava/util/List;", false)
  | 3 => ("java/lang/Throwable", "detailMessage", "Ljava/lang/String;", false)
  | 4 => ("java/lang/Throwable", "backtrace", "Ljava/lang/Object;", false)
  | 5 => ("java/lang/Throwable", "depth", "I", false)
  | _ => ("WellNames$Fault", "place", "I", true)
def tyX18 : Nat → FieldType := fun k => match k with
  | 0 => .object "java/lang/Throwable"
  | 1 => .array (.object "java/lang/StackTraceElement")
  | 2 => .object "java/util/List"
  | 3 => .object "java/lang/String"
  | 4 => .object "java/lang/Object"
  | 5 => .int
  | _ => .int
abbrev wsX180 : List Cond := u_ws RX18 TX18 7
theorem nmX18 : ∀ a, a < 7 → ∀ b, b < 7 → a ≠ b → (TX18 a).2.1 ≠ (TX18 b).2.1 := by decide +kernel
theorem tyX18_ok : ∀ k, k < 7 → parseFieldDescriptor (TX18 k).2.2.1 = some (tyX18 k) := by decide +kernel
abbrev cX18_init : ByteArray := prog_11_method_1_code
def yX18_init : MethodName := ⟨RX18, "<init>", "(I)V"⟩
def dkwX18_init_0 : List UInt8 := [42, 1, 1, 3, 3, 183, 0, 1, 42, 27, 181, 0, 7, 177]
abbrev dktX18_init_0 : List UInt8 := dkwX18_init_0 ++ []
theorem dksX18_init_0 : cX18_init.data.toList.drop 0 = dktX18_init_0 := by decide +kernel
theorem dX18_init_0 : decode cX18_init 0 = .ok (.aload_n 0, 1) := dk_42 (dk_at dksX18_init_0 0 rfl rfl)
theorem dX18_init_1 : decode cX18_init 1 = .ok (.aconst_null, 1) := dk_1 (dk_at dksX18_init_0 1 rfl rfl)
theorem dX18_init_2 : decode cX18_init 2 = .ok (.aconst_null, 1) := dk_1 (dk_at dksX18_init_0 2 rfl rfl)
theorem dX18_init_3 : decode cX18_init 3 = .ok (.iconst 0, 1) := dk_3 (dk_at dksX18_init_0 3 rfl rfl)
theorem dX18_init_4 : decode cX18_init 4 = .ok (.iconst 0, 1) := dk_3 (dk_at dksX18_init_0 4 rfl rfl)
theorem dX18_init_5 : decode cX18_init 5 = .ok (.invokespecial 1, 3) := dk_183 0 1 (dk_at dksX18_init_0 5 rfl rfl)
theorem dX18_init_8 : decode cX18_init 8 = .ok (.aload_n 0, 1) := dk_42 (dk_at dksX18_init_0 8 rfl rfl)
theorem dX18_init_9 : decode cX18_init 9 = .ok (.iload_n 1, 1) := dk_27 (dk_at dksX18_init_0 9 rfl rfl)
theorem dX18_init_10 : decode cX18_init 10 = .ok (.putfield 7, 3) := dk_181 0 7 (dk_at dksX18_init_0 10 rfl rfl)
theorem dX18_init_13 : decode cX18_init 13 = .ok (.return_, 1) := dk_177 (dk_at dksX18_init_0 13 rfl rfl)
theorem q107 : (Jvm.Cond.initialized "WellNames$Fault") ∈ lw_all := lw_g (lw_at lw_m1 28 rfl) rfl
theorem q157 : (Jvm.Cond.selects "WellNames$Fault" ({ cls := "java/lang/Throwable", name := "fillInStackTrace", desc := "()Ljava/lang/Throwable;" } : Jvm.MethodName) ({ cls := "java/lang/Throwable", name := "fillInStackTrace", desc := "()Ljava/lang/Throwable;" } : Jvm.MethodName)) ∈ lw_all := lw_g (lw_at lw_m1 78 rfl) rfl
theorem q842 : (Jvm.Cond.instantiable "WellNames$Fault" (7 : Nat)) ∈ lw_all := lw_g (lw_at lw_m4 43 rfl) rfl
theorem q843 : (Jvm.Cond.castable "WellNames$Fault" "WellNames$Fault") ∈ lw_tbl := lw_at lw_m4 44 rfl
theorem q844 : (Jvm.Cond.selects "WellNames$Fault" ({ cls := "java/lang/Throwable", name := "fillInStackTrace", desc := "(I)Ljava/lang/Throwable;" } : Jvm.MethodName) ({ cls := "java/lang/Throwable", name := "fillInStackTrace", desc := "(I)Ljava/lang/Throwable;" } : Jvm.MethodName)) ∈ lw_all := lw_g (lw_at lw_m4 45 rfl) rfl
theorem q845 : (Jvm.Cond.lays "WellNames$Fault" "java/lang/Throwable" "cause" "Ljava/lang/Throwable;") ∈ lw_all := lw_g (lw_at lw_m4 46 rfl) rfl
theorem q846 : (Jvm.Cond.lays "WellNames$Fault" "java/lang/Throwable" "stackTrace" "[Ljava/lang/StackTraceElement;") ∈ lw_all := lw_g (lw_at lw_m4 47 rfl) rfl
theorem q847 : (Jvm.Cond.lays "WellNames$Fault" "java/lang/Throwable" "suppressedExceptions" "Ljava/util/List;") ∈ lw_all := lw_g (lw_at lw_m4 48 rfl) rfl
theorem q848 : (Jvm.Cond.lays "WellNames$Fault" "java/lang/Throwable" "detailMessage" "Ljava/lang/String;") ∈ lw_all := lw_g (lw_at lw_m4 49 rfl) rfl
theorem q849 : (Jvm.Cond.lays "WellNames$Fault" "java/lang/Throwable" "backtrace" "Ljava/lang/Object;") ∈ lw_all := lw_g (lw_at lw_m4 50 rfl) rfl
theorem q851 : (Jvm.Cond.instanceMethod ({ cls := "WellNames$Fault", name := "<init>", desc := "(I)V" } : Jvm.MethodName)) ∈ lw_all := lw_g (lw_at lw_m4 52 rfl) rfl
theorem q852 : (Jvm.Cond.code ({ cls := "WellNames$Fault", name := "<init>", desc := "(I)V" } : Jvm.MethodName) prog_11_method_1_code (2 : Nat) (Option.none : Option Jvm.ClassFile.FieldType)) ∈ lw_all := lw_g (lw_at lw_m4 53 rfl) rfl
theorem q853 : (Jvm.Cond.methodLink "WellNames$Fault" (1 : Nat) ({ cls := "java/lang/RuntimeException", name := "<init>", desc := "(Ljava/lang/String;Ljava/lang/Throwable;ZZ)V" } : Jvm.MethodName)) ∈ lw_all := lw_g (lw_at lw_m4 54 rfl) rfl
theorem q854 : (Jvm.Cond.fieldLink "WellNames$Fault" (7 : Nat) "WellNames$Fault" "place" "I") ∈ lw_all := lw_g (lw_at lw_m4 55 rfl) rfl
theorem q856 : (Jvm.Cond.laysFinal "WellNames$Fault" "WellNames$Fault" "place" "I") ∈ lw_all := lw_g (lw_at lw_m4 57 rfl) rfl
theorem q857 : (Jvm.Cond.soleField "WellNames$Fault" "place") ∈ lw_all := lw_g (lw_at lw_m4 58 rfl) rfl
theorem q858 : (Jvm.Cond.lays "WellNames$Fault" "java/lang/Throwable" "depth" "I") ∈ lw_all := lw_g (lw_at lw_m4 59 rfl) rfl
theorem q859 : (Jvm.Cond.superclass "WellNames$Fault" "java/lang/RuntimeException") ∈ lw_all := lw_g (lw_at lw_m4 60 rfl) rfl
theorem in_X18 : ∀ w ∈ wsX180, w ∈ lw_all := lw_in wsX180 [845, 846, 847, 848, 849, 858, 856] (by decide +kernel) (by decide +kernel)

/-! WellNames$Turned -/
set_option maxRecDepth 100000
def RX19 : String := "WellNames$Turned"
def TX19 : u_T := fun k => match k with
  | _ => ("WellNames$Turned", "of", "LWellNames$Term;", true)
def tyX19 : Nat → FieldType := fun k => match k with
  | _ => .object "WellNames$Term"
abbrev wsX190 : List Cond := u_ws RX19 TX19 1
theorem nmX19 : ∀ a, a < 1 → ∀ b, b < 1 → a ≠ b → (TX19 a).2.1 ≠ (TX19 b).2.1 := by decide +kernel
theorem tyX19_ok : ∀ k, k < 1 → parseFieldDescriptor (TX19 k).2.2.1 = some (tyX19 k) := by decide +kernel
abbrev cX19_value : ByteArray := prog_27_method_2_code
def yX19_value : MethodName := ⟨RX19, "value", "(LWellNames$Facts;)I"⟩
def dkwX19_value_0 : List UInt8 := [42, 180, 0, 7, 43, 182, 0, 13, 154, 0, 7, 4, 167, 0, 4, 3, 172]
abbrev dktX19_value_0 : List UInt8 := dkwX19_value_0 ++ []
theorem dksX19_value_0 : cX19_value.data.toList.drop 0 = dktX19_value_0 := by decide +kernel
theorem dX19_value_0 : decode cX19_value 0 = .ok (.aload_n 0, 1) := dk_42 (dk_at dksX19_value_0 0 rfl rfl)
theorem dX19_value_1 : decode cX19_value 1 = .ok (.getfield 7, 3) := dk_180 0 7 (dk_at dksX19_value_0 1 rfl rfl)
theorem dX19_value_4 : decode cX19_value 4 = .ok (.aload_n 1, 1) := dk_43 (dk_at dksX19_value_0 4 rfl rfl)
theorem dX19_value_5 : decode cX19_value 5 = .ok (.invokevirtual 13, 3) := dk_182 0 13 (dk_at dksX19_value_0 5 rfl rfl)
theorem dX19_value_8 : decode cX19_value 8 = .ok (.ifCond .ne 7, 3) := dk_154 0 7 (dk_at dksX19_value_0 8 rfl rfl)
theorem dX19_value_11 : decode cX19_value 11 = .ok (.iconst 1, 1) := dk_4 (dk_at dksX19_value_0 11 rfl rfl)
theorem dX19_value_12 : decode cX19_value 12 = .ok (.goto 4, 3) := dk_167 0 4 (dk_at dksX19_value_0 12 rfl rfl)
theorem dX19_value_15 : decode cX19_value 15 = .ok (.iconst 0, 1) := dk_3 (dk_at dksX19_value_0 15 rfl rfl)
theorem dX19_value_16 : decode cX19_value 16 = .ok (.ireturn, 1) := dk_172 (dk_at dksX19_value_0 16 rfl rfl)
abbrev cX19_init : ByteArray := prog_27_method_1_code
def yX19_init : MethodName := ⟨RX19, "<init>", "(LWellNames$Term;)V"⟩
def dkwX19_init_0 : List UInt8 := [42, 183, 0, 1, 42, 43, 181, 0, 7, 177]
abbrev dktX19_init_0 : List UInt8 := dkwX19_init_0 ++ []
theorem dksX19_init_0 : cX19_init.data.toList.drop 0 = dktX19_init_0 := by decide +kernel
theorem dX19_init_0 : decode cX19_init 0 = .ok (.aload_n 0, 1) := dk_42 (dk_at dksX19_init_0 0 rfl rfl)
theorem dX19_init_1 : decode cX19_init 1 = .ok (.invokespecial 1, 3) := dk_183 0 1 (dk_at dksX19_init_0 1 rfl rfl)
theorem dX19_init_4 : decode cX19_init 4 = .ok (.aload_n 0, 1) := dk_42 (dk_at dksX19_init_0 4 rfl rfl)
theorem dX19_init_5 : decode cX19_init 5 = .ok (.aload_n 1, 1) := dk_43 (dk_at dksX19_init_0 5 rfl rfl)
theorem dX19_init_6 : decode cX19_init 6 = .ok (.putfield 7, 3) := dk_181 0 7 (dk_at dksX19_init_0 6 rfl rfl)
theorem dX19_init_9 : decode cX19_init 9 = .ok (.return_, 1) := dk_177 (dk_at dksX19_init_0 9 rfl rfl)
theorem q108 : (Jvm.Cond.initialized "WellNames$Turned") ∈ lw_all := lw_g (lw_at lw_m1 29 rfl) rfl
theorem q605 : (Jvm.Cond.selects "WellNames$Turned" ({ cls := "WellNames$Term", name := "value", desc := "(LWellNames$Facts;)I" } : Jvm.MethodName) ({ cls := "WellNames$Turned", name := "value", desc := "(LWellNames$Facts;)I" } : Jvm.MethodName)) ∈ lw_all := lw_g (lw_at lw_m3 46 rfl) rfl
theorem q606 : (Jvm.Cond.instanceMethod ({ cls := "WellNames$Turned", name := "value", desc := "(LWellNames$Facts;)I" } : Jvm.MethodName)) ∈ lw_all := lw_g (lw_at lw_m3 47 rfl) rfl
theorem q607 : (Jvm.Cond.code ({ cls := "WellNames$Turned", name := "value", desc := "(LWellNames$Facts;)I" } : Jvm.MethodName) prog_27_method_2_code (2 : Nat) (Option.some Jvm.ClassFile.FieldType.int)) ∈ lw_all := lw_g (lw_at lw_m3 48 rfl) rfl
theorem q608 : (Jvm.Cond.methodLink "WellNames$Turned" (13 : Nat) ({ cls := "WellNames$Term", name := "value", desc := "(LWellNames$Facts;)I" } : Jvm.MethodName)) ∈ lw_all := lw_g (lw_at lw_m3 49 rfl) rfl
theorem q861 : (Jvm.Cond.instantiable "WellNames$Turned" (1 : Nat)) ∈ lw_all := lw_g (lw_at lw_m4 62 rfl) rfl
theorem q863 : (Jvm.Cond.instanceMethod ({ cls := "WellNames$Turned", name := "<init>", desc := "(LWellNames$Term;)V" } : Jvm.MethodName)) ∈ lw_all := lw_g (lw_at lw_m4 64 rfl) rfl
theorem q864 : (Jvm.Cond.code ({ cls := "WellNames$Turned", name := "<init>", desc := "(LWellNames$Term;)V" } : Jvm.MethodName) prog_27_method_1_code (2 : Nat) (Option.none : Option Jvm.ClassFile.FieldType)) ∈ lw_all := lw_g (lw_at lw_m4 65 rfl) rfl
theorem q865 : (Jvm.Cond.methodLinkNest "WellNames$Turned" (1 : Nat) ({ cls := "WellNames$Term", name := "<init>", desc := "()V" } : Jvm.MethodName) "WellNames") ∈ lw_tbl := lw_at lw_m4 66 rfl
theorem q866 : (Jvm.Cond.fieldLink "WellNames$Turned" (7 : Nat) "WellNames$Turned" "of" "LWellNames$Term;") ∈ lw_all := lw_g (lw_at lw_m4 67 rfl) rfl
theorem q867 : (Jvm.Cond.laysFinal "WellNames$Turned" "WellNames$Turned" "of" "LWellNames$Term;") ∈ lw_all := lw_g (lw_at lw_m4 68 rfl) rfl
theorem q868 : (Jvm.Cond.soleField "WellNames$Turned" "of") ∈ lw_all := lw_g (lw_at lw_m4 69 rfl) rfl
theorem q869 : (Jvm.Cond.superclass "WellNames$Turned" "WellNames$Term") ∈ lw_all := lw_g (lw_at lw_m4 70 rfl) rfl
theorem q1979 : (Jvm.Cond.castable "WellNames$Turned" "WellNames$Term") ∈ lw_tbl := lw_at lw_m8 220 rfl
theorem in_X19 : ∀ w ∈ wsX190, w ∈ lw_all := lw_in wsX190 [867] (by decide +kernel) (by decide +kernel)

/-! WellNames$Figure -/
set_option maxRecDepth 100000
def RX20 : String := "WellNames$Figure"
def TX20 : u_T := fun k => match k with
  | _ => ("WellNames$Figure", "v", "I", true)
def tyX20 : Nat → FieldType := fun k => match k with
  | _ => .int
abbrev wsX200 : List Cond := u_ws RX20 TX20 1
theorem nmX20 : ∀ a, a < 1 → ∀ b, b < 1 → a ≠ b → (TX20 a).2.1 ≠ (TX20 b).2.1 := by decide +kernel
theorem tyX20_ok : ∀ k, k < 1 → parseFieldDescriptor (TX20 k).2.2.1 = some (tyX20 k) := by decide +kernel
abbrev cX20_value : ByteArray := prog_12_method_2_code
def yX20_value : MethodName := ⟨RX20, "value", "(LWellNames$Facts;)I"⟩
theorem dX20_value_0 : decode cX20_value 0 = .ok (.aload_n 0, 1) := by decide +kernel
theorem dX20_value_1 : decode cX20_value 1 = .ok (.getfield 7, 3) := by decide +kernel
theorem dX20_value_4 : decode cX20_value 4 = .ok (.ireturn, 1) := by decide +kernel
abbrev cX20_init : ByteArray := prog_12_method_1_code
def yX20_init : MethodName := ⟨RX20, "<init>", "(I)V"⟩
def dkwX20_init_0 : List UInt8 := [42, 183, 0, 1, 42, 27, 181, 0, 7, 177]
abbrev dktX20_init_0 : List UInt8 := dkwX20_init_0 ++ []
theorem dksX20_init_0 : cX20_init.data.toList.drop 0 = dktX20_init_0 := by decide +kernel
theorem dX20_init_0 : decode cX20_init 0 = .ok (.aload_n 0, 1) := dk_42 (dk_at dksX20_init_0 0 rfl rfl)
theorem dX20_init_1 : decode cX20_init 1 = .ok (.invokespecial 1, 3) := dk_183 0 1 (dk_at dksX20_init_0 1 rfl rfl)
theorem dX20_init_4 : decode cX20_init 4 = .ok (.aload_n 0, 1) := dk_42 (dk_at dksX20_init_0 4 rfl rfl)
theorem dX20_init_5 : decode cX20_init 5 = .ok (.iload_n 1, 1) := dk_27 (dk_at dksX20_init_0 5 rfl rfl)
theorem dX20_init_6 : decode cX20_init 6 = .ok (.putfield 7, 3) := dk_181 0 7 (dk_at dksX20_init_0 6 rfl rfl)
theorem dX20_init_9 : decode cX20_init 9 = .ok (.return_, 1) := dk_177 (dk_at dksX20_init_0 9 rfl rfl)
theorem q109 : (Jvm.Cond.initialized "WellNames$Figure") ∈ lw_all := lw_g (lw_at lw_m1 30 rfl) rfl
theorem q599 : (Jvm.Cond.selects "WellNames$Figure" ({ cls := "WellNames$Term", name := "value", desc := "(LWellNames$Facts;)I" } : Jvm.MethodName) ({ cls := "WellNames$Figure", name := "value", desc := "(LWellNames$Facts;)I" } : Jvm.MethodName)) ∈ lw_all := lw_g (lw_at lw_m3 40 rfl) rfl
theorem q600 : (Jvm.Cond.instanceMethod ({ cls := "WellNames$Figure", name := "value", desc := "(LWellNames$Facts;)I" } : Jvm.MethodName)) ∈ lw_all := lw_g (lw_at lw_m3 41 rfl) rfl
theorem q601 : (Jvm.Cond.code ({ cls := "WellNames$Figure", name := "value", desc := "(LWellNames$Facts;)I" } : Jvm.MethodName) prog_12_method_2_code (2 : Nat) (Option.some Jvm.ClassFile.FieldType.int)) ∈ lw_all := lw_g (lw_at lw_m3 42 rfl) rfl
theorem q873 : (Jvm.Cond.instantiable "WellNames$Figure" (1 : Nat)) ∈ lw_all := lw_g (lw_at lw_m4 74 rfl) rfl
theorem q875 : (Jvm.Cond.instanceMethod ({ cls := "WellNames$Figure", name := "<init>", desc := "(I)V" } : Jvm.MethodName)) ∈ lw_all := lw_g (lw_at lw_m4 76 rfl) rfl
theorem q876 : (Jvm.Cond.code ({ cls := "WellNames$Figure", name := "<init>", desc := "(I)V" } : Jvm.MethodName) prog_12_method_1_code (2 : Nat) (Option.none : Option Jvm.ClassFile.FieldType)) ∈ lw_all := lw_g (lw_at lw_m4 77 rfl) rfl
theorem q877 : (Jvm.Cond.methodLinkNest "WellNames$Figure" (1 : Nat) ({ cls := "WellNames$Term", name := "<init>", desc := "()V" } : Jvm.MethodName) "WellNames") ∈ lw_tbl := lw_at lw_m4 78 rfl
theorem q878 : (Jvm.Cond.fieldLink "WellNames$Figure" (7 : Nat) "WellNames$Figure" "v" "I") ∈ lw_all := lw_g (lw_at lw_m4 79 rfl) rfl
theorem q879 : (Jvm.Cond.laysFinal "WellNames$Figure" "WellNames$Figure" "v" "I") ∈ lw_all := lw_g (lw_at lw_m4 80 rfl) rfl
theorem q880 : (Jvm.Cond.soleField "WellNames$Figure" "v") ∈ lw_all := lw_g (lw_at lw_m4 81 rfl) rfl
theorem q881 : (Jvm.Cond.superclass "WellNames$Figure" "WellNames$Term") ∈ lw_all := lw_g (lw_at lw_m4 82 rfl) rfl
theorem q1980 : (Jvm.Cond.castable "WellNames$Figure" "WellNames$Term") ∈ lw_tbl := lw_at lw_m8 221 rfl
theorem in_X20 : ∀ w ∈ wsX200, w ∈ lw_all := lw_in wsX200 [879] (by decide +kernel) (by decide +kernel)

/-! WellNames$Sheet -/
set_option maxRecDepth 100000
def RX21 : String := "WellNames$Sheet"
abbrev cX21_init : ByteArray := prog_21_method_1_code
def yX21_init : MethodName := ⟨RX21, "<init>", "()V"⟩
theorem dX21_init_0 : decode cX21_init 0 = .ok (.aload_n 0, 1) := by decide +kernel
theorem dX21_init_1 : decode cX21_init 1 = .ok (.invokespecial 1, 3) := by decide +kernel
theorem dX21_init_4 : decode cX21_init 4 = .ok (.return_, 1) := by decide +kernel
abbrev cX21_row : ByteArray := prog_21_method_6_code
def yX21_row : MethodName := ⟨RX21, "row", "()[I"⟩
def dkwX21_row_1 : List UInt8 := [132, 2, 1, 167, 255, 239, 43, 176]
abbrev dktX21_row_1 : List UInt8 := dkwX21_row_1 ++ []
def dkwX21_row_0 : List UInt8 := [42, 182, 0, 7, 188, 10, 76, 3, 61, 28, 43, 190, 162, 0, 17, 43, 28, 42, 28, 182, 0, 13, 79]
abbrev dktX21_row_0 : List UInt8 := dkwX21_row_0 ++ dktX21_row_1
theorem dksX21_row_0 : cX21_row.data.toList.drop 0 = dktX21_row_0 := by decide +kernel
theorem dksX21_row_1 : cX21_row.data.toList.drop 23 = dktX21_row_1 := dk_seg dksX21_row_0 23 rfl rfl
theorem dX21_row_0 : decode cX21_row 0 = .ok (.aload_n 0, 1) := dk_42 (dk_at dksX21_row_0 0 rfl rfl)
theorem dX21_row_1 : decode cX21_row 1 = .ok (.invokevirtual 7, 3) := dk_182 0 7 (dk_at dksX21_row_0 1 rfl rfl)
theorem dX21_row_4 : decode cX21_row 4 = .ok (.newarray .int, 2) := dk_188_10 (dk_at dksX21_row_0 4 rfl rfl)
theorem dX21_row_6 : decode cX21_row 6 = .ok (.astore_n 1, 1) := dk_76 (dk_at dksX21_row_0 6 rfl rfl)
theorem dX21_row_7 : decode cX21_row 7 = .ok (.iconst 0, 1) := dk_3 (dk_at dksX21_row_0 7 rfl rfl)
theorem dX21_row_8 : decode cX21_row 8 = .ok (.istore_n 2, 1) := dk_61 (dk_at dksX21_row_0 8 rfl rfl)
theorem dX21_row_9 : decode cX21_row 9 = .ok (.iload_n 2, 1) := dk_28 (dk_at dksX21_row_0 9 rfl rfl)
theorem dX21_row_10 : decode cX21_row 10 = .ok (.aload_n 1, 1) := dk_43 (dk_at dksX21_row_0 10 rfl rfl)
theorem dX21_row_11 : decode cX21_row 11 = .ok (.arraylength, 1) := dk_190 (dk_at dksX21_row_0 11 rfl rfl)
theorem dX21_row_12 : decode cX21_row 12 = .ok (.if_icmp .ge 17, 3) := dk_162 0 17 (dk_at dksX21_row_0 12 rfl rfl)
theorem dX21_row_15 : decode cX21_row 15 = .ok (.aload_n 1, 1) := dk_43 (dk_at dksX21_row_0 15 rfl rfl)
theorem dX21_row_16 : decode cX21_row 16 = .ok (.iload_n 2, 1) := dk_28 (dk_at dksX21_row_0 16 rfl rfl)
theorem dX21_row_17 : decode cX21_row 17 = .ok (.aload_n 0, 1) := dk_42 (dk_at dksX21_row_0 17 rfl rfl)
theorem dX21_row_18 : decode cX21_row 18 = .ok (.iload_n 2, 1) := dk_28 (dk_at dksX21_row_0 18 rfl rfl)
theorem dX21_row_19 : decode cX21_row 19 = .ok (.invokevirtual 13, 3) := dk_182 0 13 (dk_at dksX21_row_0 19 rfl rfl)
theorem dX21_row_22 : decode cX21_row 22 = .ok (.iastore, 1) := dk_79 (dk_at dksX21_row_0 22 rfl rfl)
theorem dX21_row_23 : decode cX21_row 23 = .ok (.iinc 2 1, 3) := dk_132 2 1 (dk_at dksX21_row_1 0 rfl rfl)
theorem dX21_row_26 : decode cX21_row 26 = .ok (.goto (-17), 3) := dk_167 255 239 (dk_at dksX21_row_1 3 rfl rfl)
theorem dX21_row_29 : decode cX21_row 29 = .ok (.aload_n 1, 1) := dk_43 (dk_at dksX21_row_1 6 rfl rfl)
theorem dX21_row_30 : decode cX21_row 30 = .ok (.areturn, 1) := dk_176 (dk_at dksX21_row_1 7 rfl rfl)
theorem q111 : (Jvm.Cond.initialized "WellNames$Sheet") ∈ lw_all := lw_g (lw_at lw_m1 32 rfl) rfl
theorem q1091 : (Jvm.Cond.declares ({ cls := "WellNames$Sheet", name := "size", desc := "()I" } : Jvm.MethodName)) ∈ lw_tbl := lw_at lw_m5 52 rfl
theorem q1092 : (Jvm.Cond.sameMethod "WellNames$Sheet" "WellNames$Sheet" "size" "()I") ∈ lw_all := lw_g (lw_at lw_m5 53 rfl) rfl
theorem q1103 : (Jvm.Cond.declares ({ cls := "WellNames$Sheet", name := "get", desc := "(I)I" } : Jvm.MethodName)) ∈ lw_tbl := lw_at lw_m5 64 rfl
theorem q1104 : (Jvm.Cond.sameMethod "WellNames$Sheet" "WellNames$Sheet" "get" "(I)I") ∈ lw_all := lw_g (lw_at lw_m5 65 rfl) rfl
theorem q1324 : (Jvm.Cond.instanceMethod ({ cls := "WellNames$Sheet", name := "<init>", desc := "()V" } : Jvm.MethodName)) ∈ lw_all := lw_g (lw_at lw_m6 45 rfl) rfl
theorem q1325 : (Jvm.Cond.code ({ cls := "WellNames$Sheet", name := "<init>", desc := "()V" } : Jvm.MethodName) prog_21_method_1_code (1 : Nat) (Option.none : Option Jvm.ClassFile.FieldType)) ∈ lw_all := lw_g (lw_at lw_m6 46 rfl) rfl
theorem q1326 : (Jvm.Cond.methodLink "WellNames$Sheet" (1 : Nat) ({ cls := "java/lang/Object", name := "<init>", desc := "()V" } : Jvm.MethodName)) ∈ lw_all := lw_g (lw_at lw_m6 47 rfl) rfl
theorem q1357 : (Jvm.Cond.declares ({ cls := "WellNames$Sheet", name := "put", desc := "(II)V" } : Jvm.MethodName)) ∈ lw_tbl := lw_at lw_m6 78 rfl
theorem q1358 : (Jvm.Cond.sameMethod "WellNames$Sheet" "WellNames$Sheet" "put" "(II)V") ∈ lw_all := lw_g (lw_at lw_m6 79 rfl) rfl
theorem q1373 : (Jvm.Cond.declares ({ cls := "WellNames$Sheet", name := "width", desc := "()I" } : Jvm.MethodName)) ∈ lw_tbl := lw_at lw_m6 94 rfl
theorem q1374 : (Jvm.Cond.sameMethod "WellNames$Sheet" "WellNames$Sheet" "width" "()I") ∈ lw_all := lw_g (lw_at lw_m6 95 rfl) rfl
theorem q1385 : (Jvm.Cond.instanceMethod ({ cls := "WellNames$Sheet", name := "row", desc := "()[I" } : Jvm.MethodName)) ∈ lw_all := lw_g (lw_at lw_m6 106 rfl) rfl
theorem q1386 : (Jvm.Cond.sameMethod "WellNames$Sheet" "WellNames$Sheet" "row" "()[I") ∈ lw_all := lw_g (lw_at lw_m6 107 rfl) rfl
theorem q1390 : (Jvm.Cond.code ({ cls := "WellNames$Sheet", name := "row", desc := "()[I" } : Jvm.MethodName) prog_21_method_6_code (3 : Nat) (Option.some (Jvm.ClassFile.FieldType.array Jvm.ClassFile.FieldType.int))) ∈ lw_all := lw_g (lw_at lw_m6 111 rfl) rfl
theorem q1391 : (Jvm.Cond.methodLink "WellNames$Sheet" (7 : Nat) ({ cls := "WellNames$Sheet", name := "size", desc := "()I" } : Jvm.MethodName)) ∈ lw_all := lw_g (lw_at lw_m6 112 rfl) rfl
theorem q1392 : (Jvm.Cond.methodLink "WellNames$Sheet" (13 : Nat) ({ cls := "WellNames$Sheet", name := "get", desc := "(I)I" } : Jvm.MethodName)) ∈ lw_all := lw_g (lw_at lw_m6 113 rfl) rfl

/-! WellNames$Bytes -/
set_option maxRecDepth 100000
def RX22 : String := "WellNames$Bytes"
def TX22 : u_T := fun k => match k with
  | _ => ("WellNames$Bytes", "row", "[B", true)
def tyX22 : Nat → FieldType := fun k => match k with
  | _ => .array .byte
abbrev wsX220 : List Cond := u_ws RX22 TX22 1
theorem nmX22 : ∀ a, a < 1 → ∀ b, b < 1 → a ≠ b → (TX22 a).2.1 ≠ (TX22 b).2.1 := by decide +kernel
theorem tyX22_ok : ∀ k, k < 1 → parseFieldDescriptor (TX22 k).2.2.1 = some (tyX22 k) := by decide +kernel
abbrev cX22_size : ByteArray := prog_3_method_2_code
def yX22_size : MethodName := ⟨RX22, "size", "()I"⟩
def dkwX22_size_0 : List UInt8 := [42, 180, 0, 7, 190, 172]
abbrev dktX22_size_0 : List UInt8 := dkwX22_size_0 ++ []
theorem dksX22_size_0 : cX22_size.data.toList.drop 0 = dktX22_size_0 := by decide +kernel
theorem dX22_size_0 : decode cX22_size 0 = .ok (.aload_n 0, 1) := dk_42 (dk_at dksX22_size_0 0 rfl rfl)
theorem dX22_size_1 : decode cX22_size 1 = .ok (.getfield 7, 3) := dk_180 0 7 (dk_at dksX22_size_0 1 rfl rfl)
theorem dX22_size_4 : decode cX22_size 4 = .ok (.arraylength, 1) := dk_190 (dk_at dksX22_size_0 4 rfl rfl)
theorem dX22_size_5 : decode cX22_size 5 = .ok (.ireturn, 1) := dk_172 (dk_at dksX22_size_0 5 rfl rfl)
abbrev cX22_get : ByteArray := prog_3_method_3_code
def yX22_get : MethodName := ⟨RX22, "get", "(I)I"⟩
def dkwX22_get_0 : List UInt8 := [42, 180, 0, 7, 27, 51, 172]
abbrev dktX22_get_0 : List UInt8 := dkwX22_get_0 ++ []
theorem dksX22_get_0 : cX22_get.data.toList.drop 0 = dktX22_get_0 := by decide +kernel
theorem dX22_get_0 : decode cX22_get 0 = .ok (.aload_n 0, 1) := dk_42 (dk_at dksX22_get_0 0 rfl rfl)
theorem dX22_get_1 : decode cX22_get 1 = .ok (.getfield 7, 3) := dk_180 0 7 (dk_at dksX22_get_0 1 rfl rfl)
theorem dX22_get_4 : decode cX22_get 4 = .ok (.iload_n 1, 1) := dk_27 (dk_at dksX22_get_0 4 rfl rfl)
theorem dX22_get_5 : decode cX22_get 5 = .ok (.baload, 1) := dk_51 (dk_at dksX22_get_0 5 rfl rfl)
theorem dX22_get_6 : decode cX22_get 6 = .ok (.ireturn, 1) := dk_172 (dk_at dksX22_get_0 6 rfl rfl)
abbrev cX22_init : ByteArray := prog_3_method_1_code
def yX22_init : MethodName := ⟨RX22, "<init>", "(I)V"⟩
def dkwX22_init_0 : List UInt8 := [42, 183, 0, 1, 42, 27, 188, 8, 181, 0, 7, 177]
abbrev dktX22_init_0 : List UInt8 := dkwX22_init_0 ++ []
theorem dksX22_init_0 : cX22_init.data.toList.drop 0 = dktX22_init_0 := by decide +kernel
theorem dX22_init_0 : decode cX22_init 0 = .ok (.aload_n 0, 1) := dk_42 (dk_at dksX22_init_0 0 rfl rfl)
theorem dX22_init_1 : decode cX22_init 1 = .ok (.invokespecial 1, 3) := dk_183 0 1 (dk_at dksX22_init_0 1 rfl rfl)
theorem dX22_init_4 : decode cX22_init 4 = .ok (.aload_n 0, 1) := dk_42 (dk_at dksX22_init_0 4 rfl rfl)
theorem dX22_init_5 : decode cX22_init 5 = .ok (.iload_n 1, 1) := dk_27 (dk_at dksX22_init_0 5 rfl rfl)
theorem dX22_init_6 : decode cX22_init 6 = .ok (.newarray .byte, 2) := dk_188_8 (dk_at dksX22_init_0 6 rfl rfl)
theorem dX22_init_8 : decode cX22_init 8 = .ok (.putfield 7, 3) := dk_181 0 7 (dk_at dksX22_init_0 8 rfl rfl)
theorem dX22_init_11 : decode cX22_init 11 = .ok (.return_, 1) := dk_177 (dk_at dksX22_init_0 11 rfl rfl)
abbrev cX22_put : ByteArray := prog_3_method_4_code
def yX22_put : MethodName := ⟨RX22, "put", "(II)V"⟩
def dkwX22_put_0 : List UInt8 := [42, 180, 0, 7, 27, 28, 145, 84, 177]
abbrev dktX22_put_0 : List UInt8 := dkwX22_put_0 ++ []
theorem dksX22_put_0 : cX22_put.data.toList.drop 0 = dktX22_put_0 := by decide +kernel
theorem dX22_put_0 : decode cX22_put 0 = .ok (.aload_n 0, 1) := dk_42 (dk_at dksX22_put_0 0 rfl rfl)
theorem dX22_put_1 : decode cX22_put 1 = .ok (.getfield 7, 3) := dk_180 0 7 (dk_at dksX22_put_0 1 rfl rfl)
theorem dX22_put_4 : decode cX22_put 4 = .ok (.iload_n 1, 1) := dk_27 (dk_at dksX22_put_0 4 rfl rfl)
theorem dX22_put_5 : decode cX22_put 5 = .ok (.iload_n 2, 1) := dk_28 (dk_at dksX22_put_0 5 rfl rfl)
theorem dX22_put_6 : decode cX22_put 6 = .ok (.i2b, 1) := dk_145 (dk_at dksX22_put_0 6 rfl rfl)
theorem dX22_put_7 : decode cX22_put 7 = .ok (.bastore, 1) := dk_84 (dk_at dksX22_put_0 7 rfl rfl)
theorem dX22_put_8 : decode cX22_put 8 = .ok (.return_, 1) := dk_177 (dk_at dksX22_put_0 8 rfl rfl)
abbrev cX22_width : ByteArray := prog_3_method_5_code
def yX22_width : MethodName := ⟨RX22, "width", "()I"⟩
theorem dX22_width_0 : decode cX22_width 0 = .ok (.bipush 8, 2) := by decide +kernel
theorem dX22_width_2 : decode cX22_width 2 = .ok (.ireturn, 1) := by decide +kernel
theorem q112 : (Jvm.Cond.initialized "WellNames$Bytes") ∈ lw_all := lw_g (lw_at lw_m1 33 rfl) rfl
theorem q1093 : (Jvm.Cond.selects "WellNames$Bytes" ({ cls := "WellNames$Sheet", name := "size", desc := "()I" } : Jvm.MethodName) ({ cls := "WellNames$Bytes", name := "size", desc := "()I" } : Jvm.MethodName)) ∈ lw_all := lw_g (lw_at lw_m5 54 rfl) rfl
theorem q1094 : (Jvm.Cond.instanceMethod ({ cls := "WellNames$Bytes", name := "size", desc := "()I" } : Jvm.MethodName)) ∈ lw_all := lw_g (lw_at lw_m5 55 rfl) rfl
theorem q1095 : (Jvm.Cond.code ({ cls := "WellNames$Bytes", name := "size", desc := "()I" } : Jvm.MethodName) prog_3_method_2_code (1 : Nat) (Option.some Jvm.ClassFile.FieldType.int)) ∈ lw_all := lw_g (lw_at lw_m5 56 rfl) rfl
theorem q1105 : (Jvm.Cond.selects "WellNames$Bytes" ({ cls := "WellNames$Sheet", name := "get", desc := "(I)I" } : Jvm.MethodName) ({ cls := "WellNames$Bytes", name := "get", desc := "(I)I" } : Jvm.MethodName)) ∈ lw_all := lw_g (lw_at lw_m5 66 rfl) rfl
theorem q1106 : (Jvm.Cond.instanceMethod ({ cls := "WellNames$Bytes", name := "get", desc := "(I)I" } : Jvm.MethodName)) ∈ lw_all := lw_g (lw_at lw_m5 67 rfl) rfl
theorem q1107 : (Jvm.Cond.code ({ cls := "WellNames$Bytes", name := "get", desc := "(I)I" } : Jvm.MethodName) prog_3_method_3_code (2 : Nat) (Option.some Jvm.ClassFile.FieldType.int)) ∈ lw_all := lw_g (lw_at lw_m5 68 rfl) rfl
theorem q1319 : (Jvm.Cond.instantiable "WellNames$Bytes" (1 : Nat)) ∈ lw_all := lw_g (lw_at lw_m6 40 rfl) rfl
theorem q1321 : (Jvm.Cond.instanceMethod ({ cls := "WellNames$Bytes", name := "<init>", desc := "(I)V" } : Jvm.MethodName)) ∈ lw_all := lw_g (lw_at lw_m6 42 rfl) rfl
theorem q1322 : (Jvm.Cond.code ({ cls := "WellNames$Bytes", name := "<init>", desc := "(I)V" } : Jvm.MethodName) prog_3_method_1_code (2 : Nat) (Option.none : Option Jvm.ClassFile.FieldType)) ∈ lw_all := lw_g (lw_at lw_m6 43 rfl) rfl
theorem q1323 : (Jvm.Cond.methodLinkNest "WellNames$Bytes" (1 : Nat) ({ cls := "WellNames$Sheet", name := "<init>", desc := "()V" } : Jvm.MethodName) "WellNames") ∈ lw_tbl := lw_at lw_m6 44 rfl
theorem q1327 : (Jvm.Cond.fieldLink "WellNames$Bytes" (7 : Nat) "WellNames$Bytes" "row" "[B") ∈ lw_all := lw_g (lw_at lw_m6 48 rfl) rfl
theorem q1328 : (Jvm.Cond.laysFinal "WellNames$Bytes" "WellNames$Bytes" "row" "[B") ∈ lw_all := lw_g (lw_at lw_m6 49 rfl) rfl
theorem q1329 : (Jvm.Cond.soleField "WellNames$Bytes" "row") ∈ lw_all := lw_g (lw_at lw_m6 50 rfl) rfl
theorem q1330 : (Jvm.Cond.superclass "WellNames$Bytes" "WellNames$Sheet") ∈ lw_all := lw_g (lw_at lw_m6 51 rfl) rfl
theorem q1359 : (Jvm.Cond.selects "WellNames$Bytes" ({ cls := "WellNames$Sheet", name := "put", desc := "(II)V" } : Jvm.MethodName) ({ cls := "WellNames$Bytes", name := "put", desc := "(II)V" } : Jvm.MethodName)) ∈ lw_all := lw_g (lw_at lw_m6 80 rfl) rfl
theorem q1360 : (Jvm.Cond.instanceMethod ({ cls := "WellNames$Bytes", name := "put", desc := "(II)V" } : Jvm.MethodName)) ∈ lw_all := lw_g (lw_at lw_m6 81 rfl) rfl
theorem q1361 : (Jvm.Cond.code ({ cls := "WellNames$Bytes", name := "put", desc := "(II)V" } : Jvm.MethodName) prog_3_method_4_code (3 : Nat) (Option.none : Option Jvm.ClassFile.FieldType)) ∈ lw_all := lw_g (lw_at lw_m6 82 rfl) rfl
theorem q1375 : (Jvm.Cond.selects "WellNames$Bytes" ({ cls := "WellNames$Sheet", name := "width", desc := "()I" } : Jvm.MethodName) ({ cls := "WellNames$Bytes", name := "width", desc := "()I" } : Jvm.MethodName)) ∈ lw_all := lw_g (lw_at lw_m6 96 rfl) rfl
theorem q1376 : (Jvm.Cond.instanceMethod ({ cls := "WellNames$Bytes", name := "width", desc := "()I" } : Jvm.MethodName)) ∈ lw_all := lw_g (lw_at lw_m6 97 rfl) rfl
theorem q1377 : (Jvm.Cond.code ({ cls := "WellNames$Bytes", name := "width", desc := "()I" } : Jvm.MethodName) prog_3_method_5_code (1 : Nat) (Option.some Jvm.ClassFile.FieldType.int)) ∈ lw_all := lw_g (lw_at lw_m6 98 rfl) rfl
theorem q1387 : (Jvm.Cond.selects "WellNames$Bytes" ({ cls := "WellNames$Sheet", name := "row", desc := "()[I" } : Jvm.MethodName) ({ cls := "WellNames$Sheet", name := "row", desc := "()[I" } : Jvm.MethodName)) ∈ lw_all := lw_g (lw_at lw_m6 108 rfl) rfl
theorem q1969 : (Jvm.Cond.castable "WellNames$Bytes" "WellNames$Sheet") ∈ lw_tbl := lw_at lw_m8 210 rfl
theorem in_X22 : ∀ w ∈ wsX220, w ∈ lw_all := lw_in wsX220 [1328] (by decide +kernel) (by decide +kernel)

/-! WellNames$Shorts -/
set_option maxRecDepth 100000
def RX23 : String := "WellNames$Shorts"
def TX23 : u_T := fun k => match k with
  | _ => ("WellNames$Shorts", "row", "[S", true)
def tyX23 : Nat → FieldType := fun k => match k with
  | _ => .array .short
abbrev wsX230 : List Cond := u_ws RX23 TX23 1
theorem nmX23 : ∀ a, a < 1 → ∀ b, b < 1 → a ≠ b → (TX23 a).2.1 ≠ (TX23 b).2.1 := by decide +kernel
theorem tyX23_ok : ∀ k, k < 1 → parseFieldDescriptor (TX23 k).2.2.1 = some (tyX23 k) := by decide +kernel
abbrev cX23_size : ByteArray := prog_23_method_2_code
def yX23_size : MethodName := ⟨RX23, "size", "()I"⟩
def dkwX23_size_0 : List UInt8 := [42, 180, 0, 7, 190, 172]
abbrev dktX23_size_0 : List UInt8 := dkwX23_size_0 ++ []
theorem dksX23_size_0 : cX23_size.data.toList.drop 0 = dktX23_size_0 := by decide +kernel
theorem dX23_size_0 : decode cX23_size 0 = .ok (.aload_n 0, 1) := dk_42 (dk_at dksX23_size_0 0 rfl rfl)
theorem dX23_size_1 : decode cX23_size 1 = .ok (.getfield 7, 3) := dk_180 0 7 (dk_at dksX23_size_0 1 rfl rfl)
theorem dX23_size_4 : decode cX23_size 4 = .ok (.arraylength, 1) := dk_190 (dk_at dksX23_size_0 4 rfl rfl)
theorem dX23_size_5 : decode cX23_size 5 = .ok (.ireturn, 1) := dk_172 (dk_at dksX23_size_0 5 rfl rfl)
abbrev cX23_get : ByteArray := prog_23_method_3_code
def yX23_get : MethodName := ⟨RX23, "get", "(I)I"⟩
def dkwX23_get_0 : List UInt8 := [42, 180, 0, 7, 27, 53, 172]
abbrev dktX23_get_0 : List UInt8 := dkwX23_get_0 ++ []
theorem dksX23_get_0 : cX23_get.data.toList.drop 0 = dktX23_get_0 := by decide +kernel
theorem dX23_get_0 : decode cX23_get 0 = .ok (.aload_n 0, 1) := dk_42 (dk_at dksX23_get_0 0 rfl rfl)
theorem dX23_get_1 : decode cX23_get 1 = .ok (.getfield 7, 3) := dk_180 0 7 (dk_at dksX23_get_0 1 rfl rfl)
theorem dX23_get_4 : decode cX23_get 4 = .ok (.iload_n 1, 1) := dk_27 (dk_at dksX23_get_0 4 rfl rfl)
theorem dX23_get_5 : decode cX23_get 5 = .ok (.saload, 1) := dk_53 (dk_at dksX23_get_0 5 rfl rfl)
theorem dX23_get_6 : decode cX23_get 6 = .ok (.ireturn, 1) := dk_172 (dk_at dksX23_get_0 6 rfl rfl)
abbrev cX23_init : ByteArray := prog_23_method_1_code
def yX23_init : MethodName := ⟨RX23, "<init>", "(I)V"⟩
def dkwX23_init_0 : List UInt8 := [42, 183, 0, 1, 42, 27, 188, 9, 181, 0, 7, 177]
abbrev dktX23_init_0 : List UInt8 := dkwX23_init_0 ++ []
theorem dksX23_init_0 : cX23_init.data.toList.drop 0 = dktX23_init_0 := by decide +kernel
theorem dX23_init_0 : decode cX23_init 0 = .ok (.aload_n 0, 1) := dk_42 (dk_at dksX23_init_0 0 rfl rfl)
theorem dX23_init_1 : decode cX23_init 1 = .ok (.invokespecial 1, 3) := dk_183 0 1 (dk_at dksX23_init_0 1 rfl rfl)
theorem dX23_init_4 : decode cX23_init 4 = .ok (.aload_n 0, 1) := dk_42 (dk_at dksX23_init_0 4 rfl rfl)
theorem dX23_init_5 : decode cX23_init 5 = .ok (.iload_n 1, 1) := dk_27 (dk_at dksX23_init_0 5 rfl rfl)
theorem dX23_init_6 : decode cX23_init 6 = .ok (.newarray .short, 2) := dk_188_9 (dk_at dksX23_init_0 6 rfl rfl)
theorem dX23_init_8 : decode cX23_init 8 = .ok (.putfield 7, 3) := dk_181 0 7 (dk_at dksX23_init_0 8 rfl rfl)
theorem dX23_init_11 : decode cX23_init 11 = .ok (.return_, 1) := dk_177 (dk_at dksX23_init_0 11 rfl rfl)
abbrev cX23_put : ByteArray := prog_23_method_4_code
def yX23_put : MethodName := ⟨RX23, "put", "(II)V"⟩
def dkwX23_put_0 : List UInt8 := [42, 180, 0, 7, 27, 28, 147, 86, 177]
abbrev dktX23_put_0 : List UInt8 := dkwX23_put_0 ++ []
theorem dksX23_put_0 : cX23_put.data.toList.drop 0 = dktX23_put_0 := by decide +kernel
theorem dX23_put_0 : decode cX23_put 0 = .ok (.aload_n 0, 1) := dk_42 (dk_at dksX23_put_0 0 rfl rfl)
theorem dX23_put_1 : decode cX23_put 1 = .ok (.getfield 7, 3) := dk_180 0 7 (dk_at dksX23_put_0 1 rfl rfl)
theorem dX23_put_4 : decode cX23_put 4 = .ok (.iload_n 1, 1) := dk_27 (dk_at dksX23_put_0 4 rfl rfl)
theorem dX23_put_5 : decode cX23_put 5 = .ok (.iload_n 2, 1) := dk_28 (dk_at dksX23_put_0 5 rfl rfl)
theorem dX23_put_6 : decode cX23_put 6 = .ok (.i2s, 1) := dk_147 (dk_at dksX23_put_0 6 rfl rfl)
theorem dX23_put_7 : decode cX23_put 7 = .ok (.sastore, 1) := dk_86 (dk_at dksX23_put_0 7 rfl rfl)
theorem dX23_put_8 : decode cX23_put 8 = .ok (.return_, 1) := dk_177 (dk_at dksX23_put_0 8 rfl rfl)
abbrev cX23_width : ByteArray := prog_23_method_5_code
def yX23_width : MethodName := ⟨RX23, "width", "()I"⟩
theorem dX23_width_0 : decode cX23_width 0 = .ok (.bipush 16, 2) := by decide +kernel
theorem dX23_width_2 : decode cX23_width 2 = .ok (.ireturn, 1) := by decide +kernel
theorem q113 : (Jvm.Cond.initialized "WellNames$Shorts") ∈ lw_all := lw_g (lw_at lw_m1 34 rfl) rfl
theorem q1099 : (Jvm.Cond.selects "WellNames$Shorts" ({ cls := "WellNames$Sheet", name := "size", desc := "()I" } : Jvm.MethodName) ({ cls := "WellNames$Shorts", name := "size", desc := "()I" } : Jvm.MethodName)) ∈ lw_all := lw_g (lw_at lw_m5 60 rfl) rfl
theorem q1100 : (Jvm.Cond.instanceMethod ({ cls := "WellNames$Shorts", name := "size", desc := "()I" } : Jvm.MethodName)) ∈ lw_all := lw_g (lw_at lw_m5 61 rfl) rfl
theorem q1101 : (Jvm.Cond.code ({ cls := "WellNames$Shorts", name := "size", desc := "()I" } : Jvm.MethodName) prog_23_method_2_code (1 : Nat) (Option.some Jvm.ClassFile.FieldType.int)) ∈ lw_all := lw_g (lw_at lw_m5 62 rfl) rfl
theorem q1111 : (Jvm.Cond.selects "WellNames$Shorts" ({ cls := "WellNames$Sheet", name := "get", desc := "(I)I" } : Jvm.MethodName) ({ cls := "WellNames$Shorts", name := "get", desc := "(I)I" } : Jvm.MethodName)) ∈ lw_all := lw_g (lw_at lw_m5 72 rfl) rfl
theorem q1112 : (Jvm.Cond.instanceMethod ({ cls := "WellNames$Shorts", name := "get", desc := "(I)I" } : Jvm.MethodName)) ∈ lw_all := lw_g (lw_at lw_m5 73 rfl) rfl
theorem q1113 : (Jvm.Cond.code ({ cls := "WellNames$Shorts", name := "get", desc := "(I)I" } : Jvm.MethodName) prog_23_method_3_code (2 : Nat) (Option.some Jvm.ClassFile.FieldType.int)) ∈ lw_all := lw_g (lw_at lw_m5 74 rfl) rfl
theorem q1332 : (Jvm.Cond.instantiable "WellNames$Shorts" (1 : Nat)) ∈ lw_all := lw_g (lw_at lw_m6 53 rfl) rfl
theorem q1334 : (Jvm.Cond.instanceMethod ({ cls := "WellNames$Shorts", name := "<init>", desc := "(I)V" } : Jvm.MethodName)) ∈ lw_all := lw_g (lw_at lw_m6 55 rfl) rfl
theorem q1335 : (Jvm.Cond.code ({ cls := "WellNames$Shorts", name := "<init>", desc := "(I)V" } : Jvm.MethodName) prog_23_method_1_code (2 : Nat) (Option.none : Option Jvm.ClassFile.FieldType)) ∈ lw_all := lw_g (lw_at lw_m6 56 rfl) rfl
theorem q1336 : (Jvm.Cond.methodLinkNest "WellNames$Shorts" (1 : Nat) ({ cls := "WellNames$Sheet", name := "<init>", desc := "()V" } : Jvm.MethodName) "WellNames") ∈ lw_tbl := lw_at lw_m6 57 rfl
theorem q1337 : (Jvm.Cond.fieldLink "WellNames$Shorts" (7 : Nat) "WellNames$Shorts" "row" "[S") ∈ lw_all := lw_g (lw_at lw_m6 58 rfl) rfl
theorem q1338 : (Jvm.Cond.laysFinal "WellNames$Shorts" "WellNames$Shorts" "row" "[S") ∈ lw_all := lw_g (lw_at lw_m6 59 rfl) rfl
theorem q1339 : (Jvm.Cond.soleField "WellNames$Shorts" "row") ∈ lw_all := lw_g (lw_at lw_m6 60 rfl) rfl
theorem q1340 : (Jvm.Cond.superclass "WellNames$Shorts" "WellNames$Sheet") ∈ lw_all := lw_g (lw_at lw_m6 61 rfl) rfl
theorem q1365 : (Jvm.Cond.selects "WellNames$Shorts" ({ cls := "WellNames$Sheet", name := "put", desc := "(II)V" } : Jvm.MethodName) ({ cls := "WellNames$Shorts", name := "put", desc := "(II)V" } : Jvm.MethodName)) ∈ lw_all := lw_g (lw_at lw_m6 86 rfl) rfl
theorem q1366 : (Jvm.Cond.instanceMethod ({ cls := "WellNames$Shorts", name := "put", desc := "(II)V" } : Jvm.MethodName)) ∈ lw_all := lw_g (lw_at lw_m6 87 rfl) rfl
theorem q1367 : (Jvm.Cond.code ({ cls := "WellNames$Shorts", name := "put", desc := "(II)V" } : Jvm.MethodName) prog_23_method_4_code (3 : Nat) (Option.none : Option Jvm.ClassFile.FieldType)) ∈ lw_all := lw_g (lw_at lw_m6 88 rfl) rfl
theorem q1381 : (Jvm.Cond.selects "WellNames$Shorts" ({ cls := "WellNames$Sheet", name := "width", desc := "()I" } : Jvm.MethodName) ({ cls := "WellNames$Shorts", name := "width", desc := "()I" } : Jvm.MethodName)) ∈ lw_all := lw_g (lw_at lw_m6 102 rfl) rfl
theorem q1382 : (Jvm.Cond.instanceMethod ({ cls := "WellNames$Shorts", name := "width", desc := "()I" } : Jvm.MethodName)) ∈ lw_all := lw_g (lw_at lw_m6 103 rfl) rfl
theorem q1383 : (Jvm.Cond.code ({ cls := "WellNames$Shorts", name := "width", desc := "()I" } : Jvm.MethodName) prog_23_method_5_code (1 : Nat) (Option.some Jvm.ClassFile.FieldType.int)) ∈ lw_all := lw_g (lw_at lw_m6 104 rfl) rfl
theorem q1389 : (Jvm.Cond.selects "WellNames$Shorts" ({ cls := "WellNames$Sheet", name := "row", desc := "()[I" } : Jvm.MethodName) ({ cls := "WellNames$Sheet", name := "row", desc := "()[I" } : Jvm.MethodName)) ∈ lw_all := lw_g (lw_at lw_m6 110 rfl) rfl
theorem q1971 : (Jvm.Cond.castable "WellNames$Shorts" "WellNames$Sheet") ∈ lw_tbl := lw_at lw_m8 212 rfl
theorem in_X23 : ∀ w ∈ wsX230, w ∈ lw_all := lw_in wsX230 [1338] (by decide +kernel) (by decide +kernel)

/-! WellNames$Ints -/
set_option maxRecDepth 100000
def RX24 : String := "WellNames$Ints"
def TX24 : u_T := fun k => match k with
  | _ => ("WellNames$Ints", "row", "[I", true)
def tyX24 : Nat → FieldType := fun k => match k with
  | _ => .array .int
abbrev wsX240 : List Cond := u_ws RX24 TX24 1
theorem nmX24 : ∀ a, a < 1 → ∀ b, b < 1 → a ≠ b → (TX24 a).2.1 ≠ (TX24 b).2.1 := by decide +kernel
theorem tyX24_ok : ∀ k, k < 1 → parseFieldDescriptor (TX24 k).2.2.1 = some (tyX24 k) := by decide +kernel
abbrev cX24_size : ByteArray := prog_16_method_2_code
def yX24_size : MethodName := ⟨RX24, "size", "()I"⟩
def dkwX24_size_0 : List UInt8 := [42, 180, 0, 7, 190, 172]
abbrev dktX24_size_0 : List UInt8 := dkwX24_size_0 ++ []
theorem dksX24_size_0 : cX24_size.data.toList.drop 0 = dktX24_size_0 := by decide +kernel
theorem dX24_size_0 : decode cX24_size 0 = .ok (.aload_n 0, 1) := dk_42 (dk_at dksX24_size_0 0 rfl rfl)
theorem dX24_size_1 : decode cX24_size 1 = .ok (.getfield 7, 3) := dk_180 0 7 (dk_at dksX24_size_0 1 rfl rfl)
theorem dX24_size_4 : decode cX24_size 4 = .ok (.arraylength, 1) := dk_190 (dk_at dksX24_size_0 4 rfl rfl)
theorem dX24_size_5 : decode cX24_size 5 = .ok (.ireturn, 1) := dk_172 (dk_at dksX24_size_0 5 rfl rfl)
abbrev cX24_get : ByteArray := prog_16_method_3_code
def yX24_get : MethodName := ⟨RX24, "get", "(I)I"⟩
def dkwX24_get_0 : List UInt8 := [42, 180, 0, 7, 27, 46, 172]
abbrev dktX24_get_0 : List UInt8 := dkwX24_get_0 ++ []
theorem dksX24_get_0 : cX24_get.data.toList.drop 0 = dktX24_get_0 := by decide +kernel
theorem dX24_get_0 : decode cX24_get 0 = .ok (.aload_n 0, 1) := dk_42 (dk_at dksX24_get_0 0 rfl rfl)
theorem dX24_get_1 : decode cX24_get 1 = .ok (.getfield 7, 3) := dk_180 0 7 (dk_at dksX24_get_0 1 rfl rfl)
theorem dX24_get_4 : decode cX24_get 4 = .ok (.iload_n 1, 1) := dk_27 (dk_at dksX24_get_0 4 rfl rfl)
theorem dX24_get_5 : decode cX24_get 5 = .ok (.iaload, 1) := dk_46 (dk_at dksX24_get_0 5 rfl rfl)
theorem dX24_get_6 : decode cX24_get 6 = .ok (.ireturn, 1) := dk_172 (dk_at dksX24_get_0 6 rfl rfl)
abbrev cX24_init : ByteArray := prog_16_method_1_code
def yX24_init : MethodName := ⟨RX24, "<init>", "(I)V"⟩
def dkwX24_init_0 : List UInt8 := [42, 183, 0, 1, 42, 27, 188, 10, 181, 0, 7, 177]
abbrev dktX24_init_0 : List UInt8 := dkwX24_init_0 ++ []
theorem dksX24_init_0 : cX24_init.data.toList.drop 0 = dktX24_init_0 := by decide +kernel
theorem dX24_init_0 : decode cX24_init 0 = .ok (.aload_n 0, 1) := dk_42 (dk_at dksX24_init_0 0 rfl rfl)
theorem dX24_init_1 : decode cX24_init 1 = .ok (.invokespecial 1, 3) := dk_183 0 1 (dk_at dksX24_init_0 1 rfl rfl)
theorem dX24_init_4 : decode cX24_init 4 = .ok (.aload_n 0, 1) := dk_42 (dk_at dksX24_init_0 4 rfl rfl)
theorem dX24_init_5 : decode cX24_init 5 = .ok (.iload_n 1, 1) := dk_27 (dk_at dksX24_init_0 5 rfl rfl)
theorem dX24_init_6 : decode cX24_init 6 = .ok (.newarray .int, 2) := dk_188_10 (dk_at dksX24_init_0 6 rfl rfl)
theorem dX24_init_8 : decode cX24_init 8 = .ok (.putfield 7, 3) := dk_181 0 7 (dk_at dksX24_init_0 8 rfl rfl)
theorem dX24_init_11 : decode cX24_init 11 = .ok (.return_, 1) := dk_177 (dk_at dksX24_init_0 11 rfl rfl)
abbrev cX24_put : ByteArray := prog_16_method_4_code
def yX24_put : MethodName := ⟨RX24, "put", "(II)V"⟩
def dkwX24_put_0 : List UInt8 := [42, 180, 0, 7, 27, 28, 79, 177]
abbrev dktX24_put_0 : List UInt8 := dkwX24_put_0 ++ []
theorem dksX24_put_0 : cX24_put.data.toList.drop 0 = dktX24_put_0 := by decide +kernel
theorem dX24_put_0 : decode cX24_put 0 = .ok (.aload_n 0, 1) := dk_42 (dk_at dksX24_put_0 0 rfl rfl)
theorem dX24_put_1 : decode cX24_put 1 = .ok (.getfield 7, 3) := dk_180 0 7 (dk_at dksX24_put_0 1 rfl rfl)
theorem dX24_put_4 : decode cX24_put 4 = .ok (.iload_n 1, 1) := dk_27 (dk_at dksX24_put_0 4 rfl rfl)
theorem dX24_put_5 : decode cX24_put 5 = .ok (.iload_n 2, 1) := dk_28 (dk_at dksX24_put_0 5 rfl rfl)
theorem dX24_put_6 : decode cX24_put 6 = .ok (.iastore, 1) := dk_79 (dk_at dksX24_put_0 6 rfl rfl)
theorem dX24_put_7 : decode cX24_put 7 = .ok (.return_, 1) := dk_177 (dk_at dksX24_put_0 7 rfl rfl)
abbrev cX24_width : ByteArray := prog_16_method_5_code
def yX24_width : MethodName := ⟨RX24, "width", "()I"⟩
theorem dX24_width_0 : decode cX24_width 0 = .ok (.bipush 32, 2) := by decide +kernel
theorem dX24_width_2 : decode cX24_width 2 = .ok (.ireturn, 1) := by decide +kernel
theorem q114 : (Jvm.Cond.initialized "WellNames$Ints") ∈ lw_all := lw_g (lw_at lw_m1 35 rfl) rfl
theorem q1096 : (Jvm.Cond.selects "WellNames$Ints" ({ cls := "WellNames$Sheet", name := "size", desc := "()I" } : Jvm.MethodName) ({ cls := "WellNames$Ints", name := "size", desc := "()I" } : Jvm.MethodName)) ∈ lw_all := lw_g (lw_at lw_m5 57 rfl) rfl
theorem q1097 : (Jvm.Cond.instanceMethod ({ cls := "WellNames$Ints", name := "size", desc := "()I" } : Jvm.MethodName)) ∈ lw_all := lw_g (lw_at lw_m5 58 rfl) rfl
theorem q1098 : (Jvm.Cond.code ({ cls := "WellNames$Ints", name := "size", desc := "()I" } : Jvm.MethodName) prog_16_method_2_code (1 : Nat) (Option.some Jvm.ClassFile.FieldType.int)) ∈ lw_all := lw_g (lw_at lw_m5 59 rfl) rfl
theorem q1108 : (Jvm.Cond.selects "WellNames$Ints" ({ cls := "WellNames$Sheet", name := "get", desc := "(I)I" } : Jvm.MethodName) ({ cls := "WellNames$Ints", name := "get", desc := "(I)I" } : Jvm.MethodName)) ∈ lw_all := lw_g (lw_at lw_m5 69 rfl) rfl
theorem q1109 : (Jvm.Cond.instanceMethod ({ cls := "WellNames$Ints", name := "get", desc := "(I)I" } : Jvm.MethodName)) ∈ lw_all := lw_g (lw_at lw_m5 70 rfl) rfl
theorem q1110 : (Jvm.Cond.code ({ cls := "WellNames$Ints", name := "get", desc := "(I)I" } : Jvm.MethodName) prog_16_method_3_code (2 : Nat) (Option.some Jvm.ClassFile.FieldType.int)) ∈ lw_all := lw_g (lw_at lw_m5 71 rfl) rfl
theorem q1343 : (Jvm.Cond.instantiable "WellNames$Ints" (1 : Nat)) ∈ lw_all := lw_g (lw_at lw_m6 64 rfl) rfl
theorem q1345 : (Jvm.Cond.instanceMethod ({ cls := "WellNames$Ints", name := "<init>", desc := "(I)V" } : Jvm.MethodName)) ∈ lw_all := lw_g (lw_at lw_m6 66 rfl) rfl
theorem q1346 : (Jvm.Cond.code ({ cls := "WellNames$Ints", name := "<init>", desc := "(I)V" } : Jvm.MethodName) prog_16_method_1_code (2 : Nat) (Option.none : Option Jvm.ClassFile.FieldType)) ∈ lw_all := lw_g (lw_at lw_m6 67 rfl) rfl
theorem q1347 : (Jvm.Cond.methodLinkNest "WellNames$Ints" (1 : Nat) ({ cls := "WellNames$Sheet", name := "<init>", desc := "()V" } : Jvm.MethodName) "WellNames") ∈ lw_tbl := lw_at lw_m6 68 rfl
theorem q1348 : (Jvm.Cond.fieldLink "WellNames$Ints" (7 : Nat) "WellNames$Ints" "row" "[I") ∈ lw_all := lw_g (lw_at lw_m6 69 rfl) rfl
theorem q1349 : (Jvm.Cond.laysFinal "WellNames$Ints" "WellNames$Ints" "row" "[I") ∈ lw_all := lw_g (lw_at lw_m6 70 rfl) rfl
theorem q1350 : (Jvm.Cond.soleField "WellNames$Ints" "row") ∈ lw_all := lw_g (lw_at lw_m6 71 rfl) rfl
theorem q1351 : (Jvm.Cond.superclass "WellNames$Ints" "WellNames$Sheet") ∈ lw_all := lw_g (lw_at lw_m6 72 rfl) rfl
theorem q1362 : (Jvm.Cond.selects "WellNames$Ints" ({ cls := "WellNames$Sheet", name := "put", desc := "(II)V" } : Jvm.MethodName) ({ cls := "WellNames$Ints", name := "put", desc := "(II)V" } : Jvm.MethodName)) ∈ lw_all := lw_g (lw_at lw_m6 83 rfl) rfl
theorem q1363 : (Jvm.Cond.instanceMethod ({ cls := "WellNames$Ints", name := "put", desc := "(II)V" } : Jvm.MethodName)) ∈ lw_all := lw_g (lw_at lw_m6 84 rfl) rfl
theorem q1364 : (Jvm.Cond.code ({ cls := "WellNames$Ints", name := "put", desc := "(II)V" } : Jvm.MethodName) prog_16_method_4_code (3 : Nat) (Option.none : Option Jvm.ClassFile.FieldType)) ∈ lw_all := lw_g (lw_at lw_m6 85 rfl) rfl
theorem q1378 : (Jvm.Cond.selects "WellNames$Ints" ({ cls := "WellNames$Sheet", name := "width", desc := "()I" } : Jvm.MethodName) ({ cls := "WellNames$Ints", name := "width", desc := "()I" } : Jvm.MethodName)) ∈ lw_all := lw_g (lw_at lw_m6 99 rfl) rfl
theorem q1379 : (Jvm.Cond.instanceMethod ({ cls := "WellNames$Ints", name := "width", desc := "()I" } : Jvm.MethodName)) ∈ lw_all := lw_g (lw_at lw_m6 100 rfl) rfl
theorem q1380 : (Jvm.Cond.code ({ cls := "WellNames$Ints", name := "width", desc := "()I" } : Jvm.MethodName) prog_16_method_5_code (1 : Nat) (Option.some Jvm.ClassFile.FieldType.int)) ∈ lw_all := lw_g (lw_at lw_m6 101 rfl) rfl
theorem q1388 : (Jvm.Cond.selects "WellNames$Ints" ({ cls := "WellNames$Sheet", name := "row", desc := "()[I" } : Jvm.MethodName) ({ cls := "WellNames$Sheet", name := "row", desc := "()[I" } : Jvm.MethodName)) ∈ lw_all := lw_g (lw_at lw_m6 109 rfl) rfl
theorem q1970 : (Jvm.Cond.castable "WellNames$Ints" "WellNames$Sheet") ∈ lw_tbl := lw_at lw_m8 211 rfl
theorem in_X24 : ∀ w ∈ wsX240, w ∈ lw_all := lw_in wsX240 [1349] (by decide +kernel) (by decide +kernel)

theorem q1169 : (Jvm.Cond.interfaceMethod "WellNames$Calls" "WellNames$Calls" "calls" "(I)I") ∈ lw_tbl := lw_at lw_m5 130 rfl
set_option maxRecDepth 100000
theorem q1170 : (Jvm.Cond.declares ({ cls := "WellNames$Calls", name := "calls", desc := "(I)I" } : Jvm.MethodName)) ∈ lw_tbl := lw_at lw_m5 131 rfl

theorem q1132 : (Jvm.Cond.interfaceMethod "WellNames$Drinks" "WellNames$Drinks" "drinks" "(I)I") ∈ lw_tbl := lw_at lw_m5 93 rfl
set_option maxRecDepth 100000
theorem q1133 : (Jvm.Cond.declares ({ cls := "WellNames$Drinks", name := "drinks", desc := "(I)I" } : Jvm.MethodName)) ∈ lw_tbl := lw_at lw_m5 94 rfl

theorem q1215 : (Jvm.Cond.interfaceMethod "WellNames$Owes" "WellNames$Owes" "owes" "(I)I") ∈ lw_tbl := lw_at lw_m5 176 rfl
set_option maxRecDepth 100000
theorem q1216 : (Jvm.Cond.declares ({ cls := "WellNames$Owes", name := "owes", desc := "(I)I" } : Jvm.MethodName)) ∈ lw_tbl := lw_at lw_m5 177 rfl

theorem q1251 : (Jvm.Cond.interfaceMethod "WellNames$Tells" "WellNames$Tells" "tells" "(I)I") ∈ lw_tbl := lw_at lw_m5 212 rfl
set_option maxRecDepth 100000
theorem q1252 : (Jvm.Cond.declares ({ cls := "WellNames$Tells", name := "tells", desc := "(I)I" } : Jvm.MethodName)) ∈ lw_tbl := lw_at lw_m5 213 rfl

theorem q115 : (Jvm.Cond.initialized "java/lang/System") ∈ lw_all := lw_g (lw_at lw_m1 36 rfl) rfl
set_option maxRecDepth 100000
theorem q1402 : (Jvm.Cond.static ({ cls := "java/lang/System", name := "arraycopy", desc := "(Ljava/lang/Object;ILjava/lang/Object;II)V" } : Jvm.MethodName)) ∈ lw_all := lw_g (lw_at lw_m6 123 rfl) rfl
theorem q1403 : (Jvm.Cond.native ({ cls := "java/lang/System", name := "arraycopy", desc := "(Ljava/lang/Object;ILjava/lang/Object;II)V" } : Jvm.MethodName)) ∈ lw_all := lw_g (lw_at lw_m6 124 rfl) rfl

theorem q200 : (Jvm.Cond.arrayOver (Jvm.ClassFile.FieldType.object "WellNames$Drinker")) ∈ lw_tbl := lw_at lw_m1 121 rfl
set_option maxRecDepth 100000
theorem q202 : (Jvm.Cond.arrayOver (Jvm.ClassFile.FieldType.object "WellNames$Term")) ∈ lw_tbl := lw_at lw_m1 123 rfl
theorem q214 : (Jvm.Cond.arrayClass Jvm.ClassFile.FieldType.int) ∈ lw_all := lw_g (lw_at lw_m1 135 rfl) rfl
theorem q215 : (Jvm.Cond.arrayClass Jvm.ClassFile.FieldType.boolean) ∈ lw_all := lw_g (lw_at lw_m1 136 rfl) rfl
theorem q216 : (Jvm.Cond.arrayClass Jvm.ClassFile.FieldType.byte) ∈ lw_all := lw_g (lw_at lw_m1 137 rfl) rfl
theorem q310 : (Jvm.Cond.arrayOver (Jvm.ClassFile.FieldType.object "WellNames$Shelf")) ∈ lw_tbl := lw_at lw_m1 231 rfl
theorem q1341 : (Jvm.Cond.arrayClass Jvm.ClassFile.FieldType.short) ∈ lw_all := lw_g (lw_at lw_m6 62 rfl) rfl
