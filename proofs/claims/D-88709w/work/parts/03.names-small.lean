theorem q652 : (Jvm.Cond.declares ({ cls := "PennyJudge$Done", name := "does", desc := "(LPennyJudge$Run;)I" } : Jvm.MethodName)) ∈ lw_tbl := lw_at lw_m3 115 rfl
set_option maxRecDepth 100000
theorem q830 : (Jvm.Cond.declares ({ cls := "PennyJudge$Done", name := "loosely", desc := "(LPennyJudge$Run;)V" } : Jvm.MethodName)) ∈ lw_tbl := lw_at lw_m4 53 rfl

theorem q84 : (Jvm.Cond.initialized "java/lang/Double") ∈ lw_all := lw_g (lw_at lw_m1 27 rfl) rfl
set_option maxRecDepth 100000
theorem q857 : (Jvm.Cond.static ({ cls := "java/lang/Double", name := "doubleToRawLongBits", desc := "(D)J" } : Jvm.MethodName)) ∈ lw_all := lw_g (lw_at lw_m4 80 rfl) rfl
theorem q858 : (Jvm.Cond.native ({ cls := "java/lang/Double", name := "doubleToRawLongBits", desc := "(D)J" } : Jvm.MethodName)) ∈ lw_all := lw_g (lw_at lw_m4 81 rfl) rfl
theorem q867 : (Jvm.Cond.static ({ cls := "java/lang/Double", name := "longBitsToDouble", desc := "(J)D" } : Jvm.MethodName)) ∈ lw_all := lw_g (lw_at lw_m4 90 rfl) rfl
theorem q868 : (Jvm.Cond.native ({ cls := "java/lang/Double", name := "longBitsToDouble", desc := "(J)D" } : Jvm.MethodName)) ∈ lw_all := lw_g (lw_at lw_m4 91 rfl) rfl

theorem q83 : (Jvm.Cond.initialized "java/lang/Number") ∈ lw_all := lw_g (lw_at lw_m1 26 rfl) rfl
set_option maxRecDepth 100000

theorem q94 : (Jvm.Cond.initialized "java/lang/System") ∈ lw_all := lw_g (lw_at lw_m1 37 rfl) rfl
set_option maxRecDepth 100000
theorem q1288 : (Jvm.Cond.static ({ cls := "java/lang/System", name := "arraycopy", desc := "(Ljava/lang/Object;ILjava/lang/Object;II)V" } : Jvm.MethodName)) ∈ lw_all := lw_g (lw_at lw_m6 31 rfl) rfl
theorem q1289 : (Jvm.Cond.native ({ cls := "java/lang/System", name := "arraycopy", desc := "(Ljava/lang/Object;ILjava/lang/Object;II)V" } : Jvm.MethodName)) ∈ lw_all := lw_g (lw_at lw_m6 32 rfl) rfl

theorem q104 : (Jvm.Cond.arrayOver (Jvm.ClassFile.FieldType.object "PennyJudge$Program")) ∈ lw_tbl := lw_at lw_m1 47 rfl
set_option maxRecDepth 100000
theorem q239 : (Jvm.Cond.arrayClass Jvm.ClassFile.FieldType.int) ∈ lw_all := lw_g (lw_at lw_m1 182 rfl) rfl
theorem q240 : (Jvm.Cond.arrayClass Jvm.ClassFile.FieldType.long) ∈ lw_all := lw_g (lw_at lw_m1 183 rfl) rfl
theorem q241 : (Jvm.Cond.arrayClass Jvm.ClassFile.FieldType.boolean) ∈ lw_all := lw_g (lw_at lw_m1 184 rfl) rfl
theorem q242 : (Jvm.Cond.arrayClass Jvm.ClassFile.FieldType.double) ∈ lw_all := lw_g (lw_at lw_m1 185 rfl) rfl
theorem q244 : (Jvm.Cond.arrayOver (Jvm.ClassFile.FieldType.object "PennyJudge$Tape")) ∈ lw_tbl := lw_at lw_m1 187 rfl
theorem q375 : (Jvm.Cond.arrayOver (Jvm.ClassFile.FieldType.object "PennyJudge$Act")) ∈ lw_tbl := lw_at lw_m2 78 rfl
theorem q1114 : (Jvm.Cond.arrayClass Jvm.ClassFile.FieldType.byte) ∈ lw_all := lw_g (lw_at lw_m5 97 rfl) rfl
theorem q1127 : (Jvm.Cond.arrayClass Jvm.ClassFile.FieldType.short) ∈ lw_all := lw_g (lw_at lw_m5 110 rfl) rfl

/-! java/lang/Throwable -/
set_option maxRecDepth 100000
def RJ0 : String := "java/lang/Throwable"
def TJ0 : u_T := fun k => match k with
  | 0 => ("java/lang/Throwable", "cause", "Ljava/lang/Throwable;", false)
  | 1 => ("java/lang/Throwable", "stackTrace", "[Ljava/lang/StackTraceElement;", false)
  | 2 => ("java/lang/Throwable", "suppressedExceptions", "Ljava/util/List;", false)
  | 3 => ("java/lang/Throwable", "detailMessage", "Ljava/lang/String;", false)
  | _ => ("java/lang/Throwable", "backtrace", "Ljava/lang/Object;", false)
def tyJ0 : Nat → FieldType := fun k => match k with
  | 0 => .object "java/lang/Throwable"
  | 1 => .array (.object "java/lang/StackTraceElement")
  | 2 => .object "java/util/List"
  | 3 => .object "java/lang/String"
  | _ => .object "java/lang/Object"
abbrev wsJ00 : List Cond := u_ws RJ0 TJ0 5
theorem nmJ0 : ∀ a, a < 5 → ∀ b, b < 5 → a ≠ b → (TJ0 a).2.1 ≠ (TJ0 b).2.1 := by decide +kernel
theorem tyJ0_ok : ∀ k, k < 5 → parseFieldDescriptor (TJ0 k).2.2.1 = some (tyJ0 k) := by decide +kernel
abbrev cJ0_init : ByteArray := prog_39_method_2_code
def yJ0_init : MethodName := ⟨RJ0, "<init>", "(Ljava/lang/String;)V"⟩
def dkwJ0_init_1 : List UInt8 := [182, 0, 27, 87, 42, 43, 181, 0, 31, 177]
abbrev dktJ0_init_1 : List UInt8 := dkwJ0_init_1 ++ []
def dkwJ0_init_0 : List UInt8 := [42, 183, 0, 1, 42, 42, 181, 0, 7, 42, 178, 0, 13, 181, 0, 17, 42, 178, 0, 20, 181, 0, 24, 42]
abbrev dktJ0_init_0 : List UInt8 := dkwJ0_init_0 ++ dktJ0_init_1
theorem dksJ0_init_0 : cJ0_init.data.toList.drop 0 = dktJ0_init_0 := by decide +kernel
theorem dksJ0_init_1 : cJ0_init.data.toList.drop 24 = dktJ0_init_1 := dk_seg dksJ0_init_0 24 rfl rfl
theorem dJ0_init_0 : decode cJ0_init 0 = .ok (.aload_n 0, 1) := dk_42 (dk_at dksJ0_init_0 0 rfl rfl)
theorem dJ0_init_1 : decode cJ0_init 1 = .ok (.invokespecial 1, 3) := dk_183 0 1 (dk_at dksJ0_init_0 1 rfl rfl)
theorem dJ0_init_4 : decode cJ0_init 4 = .ok (.aload_n 0, 1) := dk_42 (dk_at dksJ0_init_0 4 rfl rfl)
theorem dJ0_init_5 : decode cJ0_init 5 = .ok (.aload_n 0, 1) := dk_42 (dk_at dksJ0_init_0 5 rfl rfl)
theorem dJ0_init_6 : decode cJ0_init 6 = .ok (.putfield 7, 3) := dk_181 0 7 (dk_at dksJ0_init_0 6 rfl rfl)
theorem dJ0_init_9 : decode cJ0_init 9 = .ok (.aload_n 0, 1) := dk_42 (dk_at dksJ0_init_0 9 rfl rfl)
theorem dJ0_init_10 : decode cJ0_init 10 = .ok (.getstatic 13, 3) := dk_178 0 13 (dk_at dksJ0_init_0 10 rfl rfl)
theorem dJ0_init_13 : decode cJ0_init 13 = .ok (.putfield 17, 3) := dk_181 0 17 (dk_at dksJ0_init_0 13 rfl rfl)
theorem dJ0_init_16 : decode cJ0_init 16 = .ok (.aload_n 0, 1) := dk_42 (dk_at dksJ0_init_0 16 rfl rfl)
theorem dJ0_init_17 : decode cJ0_init 17 = .ok (.getstatic 20, 3) := dk_178 0 20 (dk_at dksJ0_init_0 17 rfl rfl)
theorem dJ0_init_20 : decode cJ0_init 20 = .ok (.putfield 24, 3) := dk_181 0 24 (dk_at dksJ0_init_0 20 rfl rfl)
theorem dJ0_init_23 : decode cJ0_init 23 = .ok (.aload_n 0, 1) := dk_42 (dk_at dksJ0_init_0 23 rfl rfl)
theorem dJ0_init_24 : decode cJ0_init 24 = .ok (.invokevirtual 27, 3) := dk_182 0 27 (dk_at dksJ0_init_1 0 rfl rfl)
theorem dJ0_init_27 : decode cJ0_init 27 = .ok (.pop, 1) := dk_87 (dk_at dksJ0_init_1 3 rfl rfl)
theorem dJ0_init_28 : decode cJ0_init 28 = .ok (.aload_n 0, 1) := dk_42 (dk_at dksJ0_init_1 4 rfl rfl)
theorem dJ0_init_29 : decode cJ0_init 29 = .ok (.aload_n 1, 1) := dk_43 (dk_at dksJ0_init_1 5 rfl rfl)
theorem dJ0_init_30 : decode cJ0_init 30 = .ok (.putfield 31, 3) := dk_181 0 31 (dk_at dksJ0_init_1 6 rfl rfl)
theorem dJ0_init_33 : decode cJ0_init 33 = .ok (.return_, 1) := dk_177 (dk_at dksJ0_init_1 9 rfl rfl)
abbrev cJ0_init_2 : ByteArray := prog_39_method_1_code
def yJ0_init_2 : MethodName := ⟨RJ0, "<init>", "()V"⟩
def dkwJ0_init_2_1 : List UInt8 := [182, 0, 27, 87, 177]
abbrev dktJ0_init_2_1 : List UInt8 := dkwJ0_init_2_1 ++ []
def dkwJ0_init_2_0 : List UInt8 := [42, 183, 0, 1, 42, 42, 181, 0, 7, 42, 178, 0, 13, 181, 0, 17, 42, 178, 0, 20, 181, 0, 24, 42]
abbrev dktJ0_init_2_0 : List UInt8 := dkwJ0_init_2_0 ++ dktJ0_init_2_1
theorem dksJ0_init_2_0 : cJ0_init_2.data.toList.drop 0 = dktJ0_init_2_0 := by decide +kernel
theorem dksJ0_init_2_1 : cJ0_init_2.data.toList.drop 24 = dktJ0_init_2_1 := dk_seg dksJ0_init_2_0 24 rfl rfl
theorem dJ0_init_2_0 : decode cJ0_init_2 0 = .ok (.aload_n 0, 1) := dk_42 (dk_at dksJ0_init_2_0 0 rfl rfl)
theorem dJ0_init_2_1 : decode cJ0_init_2 1 = .ok (.invokespecial 1, 3) := dk_183 0 1 (dk_at dksJ0_init_2_0 1 rfl rfl)
theorem dJ0_init_2_4 : decode cJ0_init_2 4 = .ok (.aload_n 0, 1) := dk_42 (dk_at dksJ0_init_2_0 4 rfl rfl)
theorem dJ0_init_2_5 : decode cJ0_init_2 5 = .ok (.aload_n 0, 1) := dk_42 (dk_at dksJ0_init_2_0 5 rfl rfl)
theorem dJ0_init_2_6 : decode cJ0_init_2 6 = .ok (.putfield 7, 3) := dk_181 0 7 (dk_at dksJ0_init_2_0 6 rfl rfl)
theorem dJ0_init_2_9 : decode cJ0_init_2 9 = .ok (.aload_n 0, 1) := dk_42 (dk_at dksJ0_init_2_0 9 rfl rfl)
theorem dJ0_init_2_10 : decode cJ0_init_2 10 = .ok (.getstatic 13, 3) := dk_178 0 13 (dk_at dksJ0_init_2_0 10 rfl rfl)
theorem dJ0_init_2_13 : decode cJ0_init_2 13 = .ok (.putfield 17, 3) := dk_181 0 17 (dk_at dksJ0_init_2_0 13 rfl rfl)
theorem dJ0_init_2_16 : decode cJ0_init_2 16 = .ok (.aload_n 0, 1) := dk_42 (dk_at dksJ0_init_2_0 16 rfl rfl)
theorem dJ0_init_2_17 : decode cJ0_init_2 17 = .ok (.getstatic 20, 3) := dk_178 0 20 (dk_at dksJ0_init_2_0 17 rfl rfl)
theorem dJ0_init_2_20 : decode cJ0_init_2 20 = .ok (.putfield 24, 3) := dk_181 0 24 (dk_at dksJ0_init_2_0 20 rfl rfl)
theorem dJ0_init_2_23 : decode cJ0_init_2 23 = .ok (.aload_n 0, 1) := dk_42 (dk_at dksJ0_init_2_0 23 rfl rfl)
theorem dJ0_init_2_24 : decode cJ0_init_2 24 = .ok (.invokevirtual 27, 3) := dk_182 0 27 (dk_at dksJ0_init_2_1 0 rfl rfl)
theorem dJ0_init_2_27 : decode cJ0_init_2 27 = .ok (.pop, 1) := dk_87 (dk_at dksJ0_init_2_1 3 rfl rfl)
theorem dJ0_init_2_28 : decode cJ0_init_2 28 = .ok (.return_, 1) := dk_177 (dk_at dksJ0_init_2_1 4 rfl rfl)
theorem q77 : (Jvm.Cond.initialized "java/lang/Throwable") ∈ lw_all := lw_g (lw_at lw_m1 20 rfl) rfl
theorem q1042 : (Jvm.Cond.instanceMethod ({ cls := "java/lang/Throwable", name := "<init>", desc := "(Ljava/lang/String;)V" } : Jvm.MethodName)) ∈ lw_all := lw_g (lw_at lw_m5 25 rfl) rfl
theorem q1043 : (Jvm.Cond.code ({ cls := "java/lang/Throwable", name := "<init>", desc := "(Ljava/lang/String;)V" } : Jvm.MethodName) prog_39_method_2_code (2 : Nat) (Option.none : Option Jvm.ClassFile.FieldType)) ∈ lw_all := lw_g (lw_at lw_m5 26 rfl) rfl
theorem q1044 : (Jvm.Cond.methodLink "java/lang/Throwable" (1 : Nat) ({ cls := "java/lang/Object", name := "<init>", desc := "()V" } : Jvm.MethodName)) ∈ lw_all := lw_g (lw_at lw_m5 27 rfl) rfl
theorem q1045 : (Jvm.Cond.fieldLink "java/lang/Throwable" (13 : Nat) "java/lang/Throwable" "UNASSIGNED_STACK" "[Ljava/lang/StackTraceElement;") ∈ lw_all := lw_g (lw_at lw_m5 28 rfl) rfl
theorem q1046 : (Jvm.Cond.laysStatic "java/lang/Throwable" "UNASSIGNED_STACK" "[Ljava/lang/StackTraceElement;") ∈ lw_tbl := lw_at lw_m5 29 rfl
theorem q1047 : (Jvm.Cond.fieldLink "java/lang/Throwable" (20 : Nat) "java/lang/Throwable" "SUPPRESSED_SENTINEL" "Ljava/util/List;") ∈ lw_all := lw_g (lw_at lw_m5 30 rfl) rfl
theorem q1048 : (Jvm.Cond.laysStatic "java/lang/Throwable" "SUPPRESSED_SENTINEL" "Ljava/util/List;") ∈ lw_tbl := lw_at lw_m5 31 rfl
theorem q1049 : (Jvm.Cond.methodLink "java/lang/Throwable" (27 : Nat) ({ cls := "java/lang/Throwable", name := "fillInStackTrace", desc := "()Ljava/lang/Throwable;" } : Jvm.MethodName)) ∈ lw_all := lw_g (lw_at lw_m5 32 rfl) rfl
theorem q1050 : (Jvm.Cond.instanceMethod ({ cls := "java/lang/Throwable", name := "fillInStackTrace", desc := "()Ljava/lang/Throwable;" } : Jvm.MethodName)) ∈ lw_all := lw_g (lw_at lw_m5 33 rfl) rfl
theorem q1051 : (Jvm.Cond.sameMethod "java/lang/Throwable" "java/lang/Throwable" "fillInStackTrace" "()Ljava/lang/Throwable;") ∈ lw_all := lw_g (lw_at lw_m5 34 rfl) rfl
theorem q1068 : (Jvm.Cond.declares ({ cls := "java/lang/Throwable", name := "fillInStackTrace", desc := "()Ljava/lang/Throwable;" } : Jvm.MethodName)) ∈ lw_tbl := lw_at lw_m5 51 rfl
theorem q1072 : (Jvm.Cond.codeSync ({ cls := "java/lang/Throwable", name := "fillInStackTrace", desc := "()Ljava/lang/Throwable;" } : Jvm.MethodName) prog_39_method_18_code (1 : Nat) (Option.some (Jvm.ClassFile.FieldType.object "java/lang/Throwable"))) ∈ lw_all := lw_g (lw_at lw_m5 55 rfl) rfl
theorem q1073 : (Jvm.Cond.methodLink "java/lang/Throwable" (202 : Nat) ({ cls := "java/lang/Throwable", name := "fillInStackTrace", desc := "(I)Ljava/lang/Throwable;" } : Jvm.MethodName)) ∈ lw_all := lw_g (lw_at lw_m5 56 rfl) rfl
theorem q1074 : (Jvm.Cond.privateMethod ({ cls := "java/lang/Throwable", name := "fillInStackTrace", desc := "(I)Ljava/lang/Throwable;" } : Jvm.MethodName)) ∈ lw_tbl := lw_at lw_m5 57 rfl
theorem q1075 : (Jvm.Cond.instanceMethod ({ cls := "java/lang/Throwable", name := "fillInStackTrace", desc := "(I)Ljava/lang/Throwable;" } : Jvm.MethodName)) ∈ lw_all := lw_g (lw_at lw_m5 58 rfl) rfl
theorem q1076 : (Jvm.Cond.instantiable "java/lang/Throwable" (6 : Nat)) ∈ lw_all := lw_g (lw_at lw_m5 59 rfl) rfl
theorem q1077 : (Jvm.Cond.native ({ cls := "java/lang/Throwable", name := "fillInStackTrace", desc := "(I)Ljava/lang/Throwable;" } : Jvm.MethodName)) ∈ lw_all := lw_g (lw_at lw_m5 60 rfl) rfl
theorem q1078 : (Jvm.Cond.fieldLink "java/lang/Throwable" (198 : Nat) "java/lang/Throwable" "backtrace" "Ljava/lang/Object;") ∈ lw_all := lw_g (lw_at lw_m5 61 rfl) rfl
theorem q1079 : (Jvm.Cond.fieldLink "java/lang/Throwable" (31 : Nat) "java/lang/Throwable" "detailMessage" "Ljava/lang/String;") ∈ lw_all := lw_g (lw_at lw_m5 62 rfl) rfl
theorem q1080 : (Jvm.Cond.fieldLink "java/lang/Throwable" (7 : Nat) "java/lang/Throwable" "cause" "Ljava/lang/Throwable;") ∈ lw_all := lw_g (lw_at lw_m5 63 rfl) rfl
theorem q1081 : (Jvm.Cond.fieldLink "java/lang/Throwable" (17 : Nat) "java/lang/Throwable" "stackTrace" "[Ljava/lang/StackTraceElement;") ∈ lw_all := lw_g (lw_at lw_m5 64 rfl) rfl
theorem q1082 : (Jvm.Cond.fieldLink "java/lang/Throwable" (24 : Nat) "java/lang/Throwable" "suppressedExceptions" "Ljava/util/List;") ∈ lw_all := lw_g (lw_at lw_m5 65 rfl) rfl
theorem q1084 : (Jvm.Cond.soleField "java/lang/Throwable" "backtrace") ∈ lw_all := lw_g (lw_at lw_m5 67 rfl) rfl
theorem q1086 : (Jvm.Cond.soleField "java/lang/Throwable" "detailMessage") ∈ lw_all := lw_g (lw_at lw_m5 69 rfl) rfl
theorem q1088 : (Jvm.Cond.soleField "java/lang/Throwable" "cause") ∈ lw_all := lw_g (lw_at lw_m5 71 rfl) rfl
theorem q1090 : (Jvm.Cond.soleField "java/lang/Throwable" "stackTrace") ∈ lw_all := lw_g (lw_at lw_m5 73 rfl) rfl
theorem q1092 : (Jvm.Cond.soleField "java/lang/Throwable" "depth") ∈ lw_all := lw_g (lw_at lw_m5 75 rfl) rfl
theorem q1094 : (Jvm.Cond.soleField "java/lang/Throwable" "suppressedExceptions") ∈ lw_all := lw_g (lw_at lw_m5 77 rfl) rfl
theorem q1101 : (Jvm.Cond.declares ({ cls := "java/lang/Throwable", name := "<init>", desc := "()V" } : Jvm.MethodName)) ∈ lw_tbl := lw_at lw_m5 84 rfl
theorem q1102 : (Jvm.Cond.declares ({ cls := "java/lang/Throwable", name := "<init>", desc := "(Ljava/lang/String;)V" } : Jvm.MethodName)) ∈ lw_tbl := lw_at lw_m5 85 rfl
theorem q1104 : (Jvm.Cond.lays "java/lang/Throwable" "java/lang/Throwable" "cause" "Ljava/lang/Throwable;") ∈ lw_all := lw_g (lw_at lw_m5 87 rfl) rfl
theorem q1105 : (Jvm.Cond.lays "java/lang/Throwable" "java/lang/Throwable" "stackTrace" "[Ljava/lang/StackTraceElement;") ∈ lw_all := lw_g (lw_at lw_m5 88 rfl) rfl
theorem q1106 : (Jvm.Cond.lays "java/lang/Throwable" "java/lang/Throwable" "suppressedExceptions" "Ljava/util/List;") ∈ lw_all := lw_g (lw_at lw_m5 89 rfl) rfl
theorem q1107 : (Jvm.Cond.lays "java/lang/Throwable" "java/lang/Throwable" "detailMessage" "Ljava/lang/String;") ∈ lw_all := lw_g (lw_at lw_m5 90 rfl) rfl
theorem q1108 : (Jvm.Cond.lays "java/lang/Throwable" "java/lang/Throwable" "backtrace" "Ljava/lang/Object;") ∈ lw_all := lw_g (lw_at lw_m5 91 rfl) rfl
theorem q1109 : (Jvm.Cond.fieldLink "java/lang/Throwable" (198 : Nat) "java/lang/Throwable" "backtrace" "Ljava/lang/Object;") ∈ lw_all := lw_g (lw_at lw_m5 92 rfl) rfl
theorem q1110 : (Jvm.Cond.superclass "java/lang/Throwable" "java/lang/Object") ∈ lw_all := lw_g (lw_at lw_m5 93 rfl) rfl
theorem q1111 : (Jvm.Cond.instanceMethod ({ cls := "java/lang/Throwable", name := "<init>", desc := "()V" } : Jvm.MethodName)) ∈ lw_all := lw_g (lw_at lw_m5 94 rfl) rfl
theorem q1112 : (Jvm.Cond.code ({ cls := "java/lang/Throwable", name := "<init>", desc := "()V" } : Jvm.MethodName) prog_39_method_1_code (1 : Nat) (Option.none : Option Jvm.ClassFile.FieldType)) ∈ lw_all := lw_g (lw_at lw_m5 95 rfl) rfl
theorem q1909 : (Jvm.Cond.sameMethod "java/lang/Throwable" "java/lang/Throwable" "fillInStackTrace" "(I)Ljava/lang/Throwable;") ∈ lw_all := lw_g (lw_at lw_m8 172 rfl) rfl
theorem in_J0 : ∀ w ∈ wsJ00, w ∈ lw_all := lw_in wsJ00 [1104, 1105, 1106, 1107, 1108] (by decide +kernel) (by decide +kernel)

/-! java/lang/Exception -/
set_option maxRecDepth 100000
def RJ1 : String := "java/lang/Exception"
abbrev cJ1_init : ByteArray := prog_27_method_2_code
def yJ1_init : MethodName := ⟨RJ1, "<init>", "(Ljava/lang/String;)V"⟩
def dkwJ1_init_0 : List UInt8 := [42, 43, 183, 0, 7, 177]
abbrev dktJ1_init_0 : List UInt8 := dkwJ1_init_0 ++ []
theorem dksJ1_init_0 : cJ1_init.data.toList.drop 0 = dktJ1_init_0 := by decide +kernel
theorem dJ1_init_0 : decode cJ1_init 0 = .ok (.aload_n 0, 1) := dk_42 (dk_at dksJ1_init_0 0 rfl rfl)
theorem dJ1_init_1 : decode cJ1_init 1 = .ok (.aload_n 1, 1) := dk_43 (dk_at dksJ1_init_0 1 rfl rfl)
theorem dJ1_init_2 : decode cJ1_init 2 = .ok (.invokespecial 7, 3) := dk_183 0 7 (dk_at dksJ1_init_0 2 rfl rfl)
theorem dJ1_init_5 : decode cJ1_init 5 = .ok (.return_, 1) := dk_177 (dk_at dksJ1_init_0 5 rfl rfl)
abbrev cJ1_init_2 : ByteArray := prog_27_method_1_code
def yJ1_init_2 : MethodName := ⟨RJ1, "<init>", "()V"⟩
theorem dJ1_init_2_0 : decode cJ1_init_2 0 = .ok (.aload_n 0, 1) := by decide +kernel
theorem dJ1_init_2_1 : decode cJ1_init_2 1 = .ok (.invokespecial 1, 3) := by decide +kernel
theorem dJ1_init_2_4 : decode cJ1_init_2 4 = .ok (.return_, 1) := by decide +kernel
theorem q78 : (Jvm.Cond.initialized "java/lang/Exception") ∈ lw_all := lw_g (lw_at lw_m1 21 rfl) rfl
theorem q1039 : (Jvm.Cond.instanceMethod ({ cls := "java/lang/Exception", name := "<init>", desc := "(Ljava/lang/String;)V" } : Jvm.MethodName)) ∈ lw_all := lw_g (lw_at lw_m5 22 rfl) rfl
theorem q1040 : (Jvm.Cond.code ({ cls := "java/lang/Exception", name := "<init>", desc := "(Ljava/lang/String;)V" } : Jvm.MethodName) prog_27_method_2_code (2 : Nat) (Option.none : Option Jvm.ClassFile.FieldType)) ∈ lw_all := lw_g (lw_at lw_m5 23 rfl) rfl
theorem q1041 : (Jvm.Cond.methodLink "java/lang/Exception" (7 : Nat) ({ cls := "java/lang/Throwable", name := "<init>", desc := "(Ljava/lang/String;)V" } : Jvm.MethodName)) ∈ lw_all := lw_g (lw_at lw_m5 24 rfl) rfl
theorem q1071 : (Jvm.Cond.superclass "java/lang/Exception" "java/lang/Throwable") ∈ lw_all := lw_g (lw_at lw_m5 54 rfl) rfl
theorem q1099 : (Jvm.Cond.declares ({ cls := "java/lang/Exception", name := "<init>", desc := "()V" } : Jvm.MethodName)) ∈ lw_tbl := lw_at lw_m5 82 rfl
theorem q1100 : (Jvm.Cond.declares ({ cls := "java/lang/Exception", name := "<init>", desc := "(Ljava/lang/String;)V" } : Jvm.MethodName)) ∈ lw_tbl := lw_at lw_m5 83 rfl
theorem q1169 : (Jvm.Cond.instanceMethod ({ cls := "java/lang/Exception", name := "<init>", desc := "()V" } : Jvm.MethodName)) ∈ lw_all := lw_g (lw_at lw_m5 152 rfl) rfl
theorem q1170 : (Jvm.Cond.code ({ cls := "java/lang/Exception", name := "<init>", desc := "()V" } : Jvm.MethodName) prog_27_method_1_code (1 : Nat) (Option.none : Option Jvm.ClassFile.FieldType)) ∈ lw_all := lw_g (lw_at lw_m5 153 rfl) rfl
theorem q1171 : (Jvm.Cond.methodLink "java/lang/Exception" (1 : Nat) ({ cls := "java/lang/Throwable", name := "<init>", desc := "()V" } : Jvm.MethodName)) ∈ lw_all := lw_g (lw_at lw_m5 154 rfl) rfl

/-! java/lang/RuntimeException -/
set_option maxRecDepth 100000
def RJ2 : String := "java/lang/RuntimeException"
abbrev cJ2_init : ByteArray := prog_35_method_2_code
def yJ2_init : MethodName := ⟨RJ2, "<init>", "(Ljava/lang/String;)V"⟩
def dkwJ2_init_0 : List UInt8 := [42, 43, 183, 0, 7, 177]
abbrev dktJ2_init_0 : List UInt8 := dkwJ2_init_0 ++ []
theorem dksJ2_init_0 : cJ2_init.data.toList.drop 0 = dktJ2_init_0 := by decide +kernel
theorem dJ2_init_0 : decode cJ2_init 0 = .ok (.aload_n 0, 1) := dk_42 (dk_at dksJ2_init_0 0 rfl rfl)
theorem dJ2_init_1 : decode cJ2_init 1 = .ok (.aload_n 1, 1) := dk_43 (dk_at dksJ2_init_0 1 rfl rfl)
theorem dJ2_init_2 : decode cJ2_init 2 = .ok (.invokespecial 7, 3) := dk_183 0 7 (dk_at dksJ2_init_0 2 rfl rfl)
theorem dJ2_init_5 : decode cJ2_init 5 = .ok (.return_, 1) := dk_177 (dk_at dksJ2_init_0 5 rfl rfl)
abbrev cJ2_init_2 : ByteArray := prog_35_method_1_code
def yJ2_init_2 : MethodName := ⟨RJ2, "<init>", "()V"⟩
theorem dJ2_init_2_0 : decode cJ2_init_2 0 = .ok (.aload_n 0, 1) := by decide +kernel
theorem dJ2_init_2_1 : decode cJ2_init_2 1 = .ok (.invokespecial 1, 3) := by decide +kernel
theorem dJ2_init_2_4 : decode cJ2_init_2 4 = .ok (.return_, 1) := by decide +kernel
theorem q79 : (Jvm.Cond.initialized "java/lang/RuntimeException") ∈ lw_all := lw_g (lw_at lw_m1 22 rfl) rfl
theorem q1036 : (Jvm.Cond.instanceMethod ({ cls := "java/lang/RuntimeException", name := "<init>", desc := "(Ljava/lang/String;)V" } : Jvm.MethodName)) ∈ lw_all := lw_g (lw_at lw_m5 19 rfl) rfl
theorem q1037 : (Jvm.Cond.code ({ cls := "java/lang/RuntimeException", name := "<init>", desc := "(Ljava/lang/String;)V" } : Jvm.MethodName) prog_35_method_2_code (2 : Nat) (Option.none : Option Jvm.ClassFile.FieldType)) ∈ lw_all := lw_g (lw_at lw_m5 20 rfl) rfl
theorem q1038 : (Jvm.Cond.methodLink "java/lang/RuntimeException" (7 : Nat) ({ cls := "java/lang/Exception", name := "<init>", desc := "(Ljava/lang/String;)V" } : Jvm.MethodName)) ∈ lw_all := lw_g (lw_at lw_m5 21 rfl) rfl
theorem q1067 : (Jvm.Cond.sameMethod "java/lang/RuntimeException" "java/lang/Throwable" "fillInStackTrace" "()Ljava/lang/Throwable;") ∈ lw_all := lw_g (lw_at lw_m5 50 rfl) rfl
theorem q1070 : (Jvm.Cond.superclass "java/lang/RuntimeException" "java/lang/Exception") ∈ lw_all := lw_g (lw_at lw_m5 53 rfl) rfl
theorem q1097 : (Jvm.Cond.declares ({ cls := "java/lang/RuntimeException", name := "<init>", desc := "()V" } : Jvm.MethodName)) ∈ lw_tbl := lw_at lw_m5 80 rfl
theorem q1098 : (Jvm.Cond.declares ({ cls := "java/lang/RuntimeException", name := "<init>", desc := "(Ljava/lang/String;)V" } : Jvm.MethodName)) ∈ lw_tbl := lw_at lw_m5 81 rfl
theorem q1166 : (Jvm.Cond.instanceMethod ({ cls := "java/lang/RuntimeException", name := "<init>", desc := "()V" } : Jvm.MethodName)) ∈ lw_all := lw_g (lw_at lw_m5 149 rfl) rfl
theorem q1167 : (Jvm.Cond.code ({ cls := "java/lang/RuntimeException", name := "<init>", desc := "()V" } : Jvm.MethodName) prog_35_method_1_code (1 : Nat) (Option.none : Option Jvm.ClassFile.FieldType)) ∈ lw_all := lw_g (lw_at lw_m5 150 rfl) rfl
theorem q1168 : (Jvm.Cond.methodLink "java/lang/RuntimeException" (1 : Nat) ({ cls := "java/lang/Exception", name := "<init>", desc := "()V" } : Jvm.MethodName)) ∈ lw_all := lw_g (lw_at lw_m5 151 rfl) rfl
theorem q1186 : (Jvm.Cond.castable "java/lang/RuntimeException" "java/lang/Throwable") ∈ lw_tbl := lw_at lw_m5 169 rfl

/-! java/lang/IllegalArgumentException -/
set_option maxRecDepth 100000
def RJ3 : String := "java/lang/IllegalArgumentException"
def TJ3 : u_T := fun k => match k with
  | 0 => ("java/lang/Throwable", "cause", "Ljava/lang/Throwable;", false)
  | 1 => ("java/lang/Throwable", "stackTrace", "[Ljava/lang/StackTraceElement;", false)
  | 2 => ("java/lang/Throwable", "suppressedExceptions", "Ljava/util/List;", false)
  | 3 => ("java/lang/Throwable", "detailMessage", "Ljava/lang/String;", false)
  | 4 => ("java/lang/Throwable", "backtrace", "Ljava/lang/Object;", false)
  | _ => ("java/lang/Throwable", "depth", "I", false)
def tyJ3 : Nat → FieldType := fun k => match k with
  | 0 => .object "java/lang/Throwable"
  | 1 => .array (.object "java/lang/StackTraceElement")
  | 2 => .object "java/util/List"
  | 3 => .object "java/lang/String"
  | 4 => .object "java/lang/Object"
  | _ => .int
abbrev wsJ30 : List Cond := u_ws RJ3 TJ3 6
theorem nmJ3 : ∀ a, a < 6 → ∀ b, b < 6 → a ≠ b → (TJ3 a).2.1 ≠ (TJ3 b).2.1 := by decide +kernel
theorem tyJ3_ok : ∀ k, k < 6 → parseFieldDescriptor (TJ3 k).2.2.1 = some (tyJ3 k) := by decide +kernel
abbrev cJ3_init : ByteArray := prog_28_method_1_code
def yJ3_init : MethodName := ⟨RJ3, "<init>", "()V"⟩
theorem dJ3_init_0 : decode cJ3_init 0 = .ok (.aload_n 0, 1) := by decide +kernel
theorem dJ3_init_1 : decode cJ3_init 1 = .ok (.invokespecial 1, 3) := by decide +kernel
theorem dJ3_init_4 : decode cJ3_init 4 = .ok (.return_, 1) := by decide +kernel
theorem q80 : (Jvm.Cond.initialized "java/lang/IllegalArgumentException") ∈ lw_all := lw_g (lw_at lw_m1 23 rfl) rfl
theorem q1055 : (Jvm.Cond.selects "java/lang/IllegalArgumentException" ({ cls := "java/lang/Throwable", name := "fillInStackTrace", desc := "()Ljava/lang/Throwable;" } : Jvm.MethodName) ({ cls := "java/lang/Throwable", name := "fillInStackTrace", desc := "()Ljava/lang/Throwable;" } : Jvm.MethodName)) ∈ lw_all := lw_g (lw_at lw_m5 38 rfl) rfl
theorem q1306 : (Jvm.Cond.instantiable "java/lang/IllegalArgumentException" (6 : Nat)) ∈ lw_all := lw_g (lw_at lw_m6 49 rfl) rfl
theorem q1307 : (Jvm.Cond.castable "java/lang/IllegalArgumentException" "java/lang/IllegalArgumentException") ∈ lw_tbl := lw_at lw_m6 50 rfl
theorem q1308 : (Jvm.Cond.selects "java/lang/IllegalArgumentException" ({ cls := "java/lang/Throwable", name := "fillInStackTrace", desc := "(I)Ljava/lang/Throwable;" } : Jvm.MethodName) ({ cls := "java/lang/Throwable", name := "fillInStackTrace", desc := "(I)Ljava/lang/Throwable;" } : Jvm.MethodName)) ∈ lw_all := lw_g (lw_at lw_m6 51 rfl) rfl
theorem q1309 : (Jvm.Cond.lays "java/lang/IllegalArgumentException" "java/lang/Throwable" "cause" "Ljava/lang/Throwable;") ∈ lw_all := lw_g (lw_at lw_m6 52 rfl) rfl
theorem q1310 : (Jvm.Cond.lays "java/lang/IllegalArgumentException" "java/lang/Throwable" "stackTrace" "[Ljava/lang/StackTraceElement;") ∈ lw_all := lw_g (lw_at lw_m6 53 rfl) rfl
theorem q1311 : (Jvm.Cond.lays "java/lang/IllegalArgumentException" "java/lang/Throwable" "suppressedExceptions" "Ljava/util/List;") ∈ lw_all := lw_g (lw_at lw_m6 54 rfl) rfl
theorem q1312 : (Jvm.Cond.lays "java/lang/IllegalArgumentException" "java/lang/Throwable" "detailMessage" "Ljava/lang/String;") ∈ lw_all := lw_g (lw_at lw_m6 55 rfl) rfl
theorem q1313 : (Jvm.Cond.lays "java/lang/IllegalArgumentException" "java/lang/Throwable" "backtrace" "Ljava/lang/Object;") ∈ lw_all := lw_g (lw_at lw_m6 56 rfl) rfl
theorem q1315 : (Jvm.Cond.instanceMethod ({ cls := "java/lang/IllegalArgumentException", name := "<init>", desc := "()V" } : Jvm.MethodName)) ∈ lw_all := lw_g (lw_at lw_m6 58 rfl) rfl
theorem q1316 : (Jvm.Cond.code ({ cls := "java/lang/IllegalArgumentException", name := "<init>", desc := "()V" } : Jvm.MethodName) prog_28_method_1_code (1 : Nat) (Option.none : Option Jvm.ClassFile.FieldType)) ∈ lw_all := lw_g (lw_at lw_m6 59 rfl) rfl
theorem q1317 : (Jvm.Cond.methodLink "java/lang/IllegalArgumentException" (1 : Nat) ({ cls := "java/lang/RuntimeException", name := "<init>", desc := "()V" } : Jvm.MethodName)) ∈ lw_all := lw_g (lw_at lw_m6 60 rfl) rfl
theorem q1318 : (Jvm.Cond.lays "java/lang/IllegalArgumentException" "java/lang/Throwable" "depth" "I") ∈ lw_all := lw_g (lw_at lw_m6 61 rfl) rfl
theorem q1319 : (Jvm.Cond.superclass "java/lang/IllegalArgumentException" "java/lang/RuntimeException") ∈ lw_all := lw_g (lw_at lw_m6 62 rfl) rfl
theorem in_J3 : ∀ w ∈ wsJ30, w ∈ lw_all := lw_in wsJ30 [1309, 1310, 1311, 1312, 1313, 1318] (by decide +kernel) (by decide +kernel)

/-! java/lang/Math -/
set_option maxRecDepth 100000
def RJ4 : String := "java/lang/Math"
abbrev cJ4_floor : ByteArray := prog_31_method_17_code
def yJ4_floor : MethodName := ⟨RJ4, "floor", "(D)D"⟩
theorem dJ4_floor_0 : decode cJ4_floor 0 = .ok (.dload_n 0, 1) := by decide +kernel
theorem dJ4_floor_1 : decode cJ4_floor 1 = .ok (.invokestatic 56, 3) := by decide +kernel
theorem dJ4_floor_4 : decode cJ4_floor 4 = .ok (.dreturn, 1) := by decide +kernel
abbrev cJ4_getExponent : ByteArray := prog_31_method_92_code
def yJ4_getExponent : MethodName := ⟨RJ4, "getExponent", "(D)I"⟩
def dkwJ4_getExponent_0 : List UInt8 := [38, 184, 0, 79, 20, 0, 87, 127, 16, 52, 123, 20, 1, 66, 101, 136, 172]
abbrev dktJ4_getExponent_0 : List UInt8 := dkwJ4_getExponent_0 ++ []
theorem dksJ4_getExponent_0 : cJ4_getExponent.data.toList.drop 0 = dktJ4_getExponent_0 := by decide +kernel
theorem dJ4_getExponent_0 : decode cJ4_getExponent 0 = .ok (.dload_n 0, 1) := dk_38 (dk_at dksJ4_getExponent_0 0 rfl rfl)
theorem dJ4_getExponent_1 : decode cJ4_getExponent 1 = .ok (.invokestatic 79, 3) := dk_184 0 79 (dk_at dksJ4_getExponent_0 1 rfl rfl)
theorem dJ4_getExponent_4 : decode cJ4_getExponent 4 = .ok (.ldc2_w 87, 3) := dk_20 0 87 (dk_at dksJ4_getExponent_0 4 rfl rfl)
theorem dJ4_getExponent_7 : decode cJ4_getExponent 7 = .ok (.land, 1) := dk_127 (dk_at dksJ4_getExponent_0 7 rfl rfl)
theorem dJ4_getExponent_8 : decode cJ4_getExponent 8 = .ok (.bipush 52, 2) := dk_16 52 (dk_at dksJ4_getExponent_0 8 rfl rfl)
theorem dJ4_getExponent_10 : decode cJ4_getExponent 10 = .ok (.lshr, 1) := dk_123 (dk_at dksJ4_getExponent_0 10 rfl rfl)
theorem dJ4_getExponent_11 : decode cJ4_getExponent 11 = .ok (.ldc2_w 322, 3) := dk_20 1 66 (dk_at dksJ4_getExponent_0 11 rfl rfl)
theorem dJ4_getExponent_14 : decode cJ4_getExponent 14 = .ok (.lsub, 1) := dk_101 (dk_at dksJ4_getExponent_0 14 rfl rfl)
theorem dJ4_getExponent_15 : decode cJ4_getExponent 15 = .ok (.l2i, 1) := dk_136 (dk_at dksJ4_getExponent_0 15 rfl rfl)
theorem dJ4_getExponent_16 : decode cJ4_getExponent 16 = .ok (.ireturn, 1) := dk_172 (dk_at dksJ4_getExponent_0 16 rfl rfl)
abbrev cJ4_ceil : ByteArray := prog_31_method_16_code
def yJ4_ceil : MethodName := ⟨RJ4, "ceil", "(D)D"⟩
theorem dJ4_ceil_0 : decode cJ4_ceil 0 = .ok (.dload_n 0, 1) := by decide +kernel
theorem dJ4_ceil_1 : decode cJ4_ceil 1 = .ok (.invokestatic 53, 3) := by decide +kernel
theorem dJ4_ceil_4 : decode cJ4_ceil 4 = .ok (.dreturn, 1) := by decide +kernel
abbrev cJ4_rint : ByteArray := prog_31_method_18_code
def yJ4_rint : MethodName := ⟨RJ4, "rint", "(D)D"⟩
theorem dJ4_rint_0 : decode cJ4_rint 0 = .ok (.dload_n 0, 1) := by decide +kernel
theorem dJ4_rint_1 : decode cJ4_rint 1 = .ok (.invokestatic 59, 3) := by decide +kernel
theorem dJ4_rint_4 : decode cJ4_rint 4 = .ok (.dreturn, 1) := by decide +kernel
abbrev cJ4_copySign : ByteArray := prog_31_method_89_code
def yJ4_copySign : MethodName := ⟨RJ4, "copySign", "(DD)D"⟩
def dkwJ4_copySign_0 : List UInt8 := [40, 184, 0, 79, 20, 0, 128, 127, 38, 184, 0, 79, 20, 0, 135, 127, 129, 184, 0, 166, 175]
abbrev dktJ4_copySign_0 : List UInt8 := dkwJ4_copySign_0 ++ []
theorem dksJ4_copySign_0 : cJ4_copySign.data.toList.drop 0 = dktJ4_copySign_0 := by decide +kernel
theorem dJ4_copySign_0 : decode cJ4_copySign 0 = .ok (.dload_n 2, 1) := dk_40 (dk_at dksJ4_copySign_0 0 rfl rfl)
theorem dJ4_copySign_1 : decode cJ4_copySign 1 = .ok (.invokestatic 79, 3) := dk_184 0 79 (dk_at dksJ4_copySign_0 1 rfl rfl)
theorem dJ4_copySign_4 : decode cJ4_copySign 4 = .ok (.ldc2_w 128, 3) := dk_20 0 128 (dk_at dksJ4_copySign_0 4 rfl rfl)
theorem dJ4_copySign_7 : decode cJ4_copySign 7 = .ok (.land, 1) := dk_127 (dk_at dksJ4_copySign_0 7 rfl rfl)
theorem dJ4_copySign_8 : decode cJ4_copySign 8 = .ok (.dload_n 0, 1) := dk_38 (dk_at dksJ4_copySign_0 8 rfl rfl)
theorem dJ4_copySign_9 : decode cJ4_copySign 9 = .ok (.invokestatic 79, 3) := dk_184 0 79 (dk_at dksJ4_copySign_0 9 rfl rfl)
theorem dJ4_copySign_12 : decode cJ4_copySign 12 = .ok (.ldc2_w 135, 3) := dk_20 0 135 (dk_at dksJ4_copySign_0 12 rfl rfl)
theorem dJ4_copySign_15 : decode cJ4_copySign 15 = .ok (.land, 1) := dk_127 (dk_at dksJ4_copySign_0 15 rfl rfl)
theorem dJ4_copySign_16 : decode cJ4_copySign 16 = .ok (.lor, 1) := dk_129 (dk_at dksJ4_copySign_0 16 rfl rfl)
theorem dJ4_copySign_17 : decode cJ4_copySign 17 = .ok (.invokestatic 166, 3) := dk_184 0 166 (dk_at dksJ4_copySign_0 17 rfl rfl)
theorem dJ4_copySign_20 : decode cJ4_copySign 20 = .ok (.dreturn, 1) := dk_175 (dk_at dksJ4_copySign_0 20 rfl rfl)
abbrev cJ4_abs : ByteArray := prog_31_method_64_code
def yJ4_abs : MethodName := ⟨RJ4, "abs", "(D)D"⟩
def dkwJ4_abs_0 : List UInt8 := [38, 184, 0, 79, 20, 0, 135, 127, 184, 0, 166, 175]
abbrev dktJ4_abs_0 : List UInt8 := dkwJ4_abs_0 ++ []
theorem dksJ4_abs_0 : cJ4_abs.data.toList.drop 0 = dktJ4_abs_0 := by decide +kernel
theorem dJ4_abs_0 : decode cJ4_abs 0 = .ok (.dload_n 0, 1) := dk_38 (dk_at dksJ4_abs_0 0 rfl rfl)
theorem dJ4_abs_1 : decode cJ4_abs 1 = .ok (.invokestatic 79, 3) := dk_184 0 79 (dk_at dksJ4_abs_0 1 rfl rfl)
theorem dJ4_abs_4 : decode cJ4_abs 4 = .ok (.ldc2_w 135, 3) := dk_20 0 135 (dk_at dksJ4_abs_0 4 rfl rfl)
theorem dJ4_abs_7 : decode cJ4_abs 7 = .ok (.land, 1) := dk_127 (dk_at dksJ4_abs_0 7 rfl rfl)
theorem dJ4_abs_8 : decode cJ4_abs 8 = .ok (.invokestatic 166, 3) := dk_184 0 166 (dk_at dksJ4_abs_0 8 rfl rfl)
theorem dJ4_abs_11 : decode cJ4_abs 11 = .ok (.dreturn, 1) := dk_175 (dk_at dksJ4_abs_0 11 rfl rfl)
theorem q81 : (Jvm.Cond.initialized "java/lang/Math") ∈ lw_all := lw_g (lw_at lw_m1 24 rfl) rfl
theorem q844 : (Jvm.Cond.static ({ cls := "java/lang/Math", name := "floor", desc := "(D)D" } : Jvm.MethodName)) ∈ lw_all := lw_g (lw_at lw_m4 67 rfl) rfl
theorem q845 : (Jvm.Cond.code ({ cls := "java/lang/Math", name := "floor", desc := "(D)D" } : Jvm.MethodName) prog_31_method_17_code (2 : Nat) (Option.some Jvm.ClassFile.FieldType.double)) ∈ lw_all := lw_g (lw_at lw_m4 68 rfl) rfl
theorem q846 : (Jvm.Cond.methodLink "java/lang/Math" (56 : Nat) ({ cls := "java/lang/StrictMath", name := "floor", desc := "(D)D" } : Jvm.MethodName)) ∈ lw_all := lw_g (lw_at lw_m4 69 rfl) rfl
theorem q854 : (Jvm.Cond.static ({ cls := "java/lang/Math", name := "getExponent", desc := "(D)I" } : Jvm.MethodName)) ∈ lw_all := lw_g (lw_at lw_m4 77 rfl) rfl
theorem q855 : (Jvm.Cond.code ({ cls := "java/lang/Math", name := "getExponent", desc := "(D)I" } : Jvm.MethodName) prog_31_method_92_code (2 : Nat) (Option.some Jvm.ClassFile.FieldType.int)) ∈ lw_all := lw_g (lw_at lw_m4 78 rfl) rfl
theorem q856 : (Jvm.Cond.methodLink "java/lang/Math" (79 : Nat) ({ cls := "java/lang/Double", name := "doubleToRawLongBits", desc := "(D)J" } : Jvm.MethodName)) ∈ lw_all := lw_g (lw_at lw_m4 79 rfl) rfl
theorem q859 : (Jvm.Cond.constantLong "java/lang/Math" (87 : Nat) (9218868437227405312 : Int64)) ∈ lw_all := lw_g (lw_at lw_m4 82 rfl) rfl
theorem q860 : (Jvm.Cond.constantLong "java/lang/Math" (322 : Nat) (1023 : Int64)) ∈ lw_all := lw_g (lw_at lw_m4 83 rfl) rfl
theorem q877 : (Jvm.Cond.static ({ cls := "java/lang/Math", name := "ceil", desc := "(D)D" } : Jvm.MethodName)) ∈ lw_all := lw_g (lw_at lw_m4 100 rfl) rfl
theorem q878 : (Jvm.Cond.code ({ cls := "java/lang/Math", name := "ceil", desc := "(D)D" } : Jvm.MethodName) prog_31_method_16_code (2 : Nat) (Option.some Jvm.ClassFile.FieldType.double)) ∈ lw_all := lw_g (lw_at lw_m4 101 rfl) rfl
theorem q879 : (Jvm.Cond.methodLink "java/lang/Math" (53 : Nat) ({ cls := "java/lang/StrictMath", name := "ceil", desc := "(D)D" } : Jvm.MethodName)) ∈ lw_all := lw_g (lw_at lw_m4 102 rfl) rfl
theorem q885 : (Jvm.Cond.static ({ cls := "java/lang/Math", name := "rint", desc := "(D)D" } : Jvm.MethodName)) ∈ lw_all := lw_g (lw_at lw_m4 108 rfl) rfl
theorem q886 : (Jvm.Cond.code ({ cls := "java/lang/Math", name := "rint", desc := "(D)D" } : Jvm.MethodName) prog_31_method_18_code (2 : Nat) (Option.some Jvm.ClassFile.FieldType.double)) ∈ lw_all := lw_g (lw_at lw_m4 109 rfl) rfl
theorem q887 : (Jvm.Cond.methodLink "java/lang/Math" (59 : Nat) ({ cls := "java/lang/StrictMath", name := "rint", desc := "(D)D" } : Jvm.MethodName)) ∈ lw_all := lw_g (lw_at lw_m4 110 rfl) rfl
theorem q892 : (Jvm.Cond.static ({ cls := "java/lang/Math", name := "copySign", desc := "(DD)D" } : Jvm.MethodName)) ∈ lw_all := lw_g (lw_at lw_m4 115 rfl) rfl
theorem q893 : (Jvm.Cond.code ({ cls := "java/lang/Math", name := "copySign", desc := "(DD)D" } : Jvm.MethodName) prog_31_method_89_code (4 : Nat) (Option.some Jvm.ClassFile.FieldType.double)) ∈ lw_all := lw_g (lw_at lw_m4 116 rfl) rfl
theorem q894 : (Jvm.Cond.constantLong "java/lang/Math" (128 : Nat) (-9223372036854775808 : Int64)) ∈ lw_all := lw_g (lw_at lw_m4 117 rfl) rfl
theorem q895 : (Jvm.Cond.constantLong "java/lang/Math" (135 : Nat) (9223372036854775807 : Int64)) ∈ lw_all := lw_g (lw_at lw_m4 118 rfl) rfl
theorem q896 : (Jvm.Cond.methodLink "java/lang/Math" (166 : Nat) ({ cls := "java/lang/Double", name := "longBitsToDouble", desc := "(J)D" } : Jvm.MethodName)) ∈ lw_all := lw_g (lw_at lw_m4 119 rfl) rfl
theorem q898 : (Jvm.Cond.static ({ cls := "java/lang/Math", name := "abs", desc := "(D)D" } : Jvm.MethodName)) ∈ lw_all := lw_g (lw_at lw_m4 121 rfl) rfl
theorem q899 : (Jvm.Cond.code ({ cls := "java/lang/Math", name := "abs", desc := "(D)D" } : Jvm.MethodName) prog_31_method_64_code (2 : Nat) (Option.some Jvm.ClassFile.FieldType.double)) ∈ lw_all := lw_g (lw_at lw_m4 122 rfl) rfl

/-! java/lang/StrictMath -/
set_option maxRecDepth 100000
def RJ5 : String := "java/lang/StrictMath"
abbrev cJ5_floor : ByteArray := prog_36_method_17_code
def yJ5_floor : MethodName := ⟨RJ5, "floor", "(D)D"⟩
def dkwJ5_floor_0 : List UInt8 := [38, 20, 0, 64, 14, 20, 0, 64, 184, 0, 60, 175]
abbrev dktJ5_floor_0 : List UInt8 := dkwJ5_floor_0 ++ []
theorem dksJ5_floor_0 : cJ5_floor.data.toList.drop 0 = dktJ5_floor_0 := by decide +kernel
theorem dJ5_floor_0 : decode cJ5_floor 0 = .ok (.dload_n 0, 1) := dk_38 (dk_at dksJ5_floor_0 0 rfl rfl)
theorem dJ5_floor_1 : decode cJ5_floor 1 = .ok (.ldc2_w 64, 3) := dk_20 0 64 (dk_at dksJ5_floor_0 1 rfl rfl)
theorem dJ5_floor_4 : decode cJ5_floor 4 = .ok (.dconst 0, 1) := dk_14 (dk_at dksJ5_floor_0 4 rfl rfl)
theorem dJ5_floor_5 : decode cJ5_floor 5 = .ok (.ldc2_w 64, 3) := dk_20 0 64 (dk_at dksJ5_floor_0 5 rfl rfl)
theorem dJ5_floor_8 : decode cJ5_floor 8 = .ok (.invokestatic 60, 3) := dk_184 0 60 (dk_at dksJ5_floor_0 8 rfl rfl)
theorem dJ5_floor_11 : decode cJ5_floor 11 = .ok (.dreturn, 1) := dk_175 (dk_at dksJ5_floor_0 11 rfl rfl)
abbrev cJ5_floorOrCeil : ByteArray := prog_36_method_18_code
def yJ5_floorOrCeil : MethodName := ⟨RJ5, "floorOrCeil", "(DDDD)D"⟩
def dkwJ5_floorOrCeil_5 : List UInt8 := [24, 13, 24, 6, 99, 57, 13, 24, 13, 175]
abbrev dktJ5_floorOrCeil_5 : List UInt8 := dkwJ5_floorOrCeil_5 ++ []
def dkwJ5_floorOrCeil_4 : List UInt8 := [175, 22, 9, 22, 11, 20, 0, 87, 131, 127, 184, 0, 89, 57, 13, 24, 6, 38, 107, 14, 151, 158, 0, 10]
abbrev dktJ5_floorOrCeil_4 : List UInt8 := dkwJ5_floorOrCeil_4 ++ dktJ5_floorOrCeil_5
def dkwJ5_floorOrCeil_3 : List UInt8 := [184, 0, 77, 55, 9, 20, 0, 85, 21, 8, 123, 55, 11, 22, 11, 22, 9, 127, 9, 148, 154, 0, 5, 38]
abbrev dktJ5_floorOrCeil_3 : List UInt8 := dkwJ5_floorOrCeil_3 ++ dktJ5_floorOrCeil_4
def dkwJ5_floorOrCeil_2 : List UInt8 := [154, 0, 23, 21, 8, 155, 0, 10, 21, 8, 16, 51, 164, 0, 11, 187, 0, 74, 89, 183, 0, 76, 191, 38]
abbrev dktJ5_floorOrCeil_2 : List UInt8 := dkwJ5_floorOrCeil_2 ++ dktJ5_floorOrCeil_3
def dkwJ5_floorOrCeil_1 : List UInt8 := [156, 0, 7, 40, 167, 0, 5, 24, 4, 175, 21, 8, 16, 52, 161, 0, 5, 38, 175, 178, 0, 70]
abbrev dktJ5_floorOrCeil_1 : List UInt8 := dkwJ5_floorOrCeil_1 ++ dktJ5_floorOrCeil_2
def dkwJ5_floorOrCeil_0 : List UInt8 := [38, 184, 0, 66, 54, 8, 21, 8, 156, 0, 26, 38, 14, 151, 154, 0, 7, 38, 167, 0, 15, 38, 14, 152]
abbrev dktJ5_floorOrCeil_0 : List UInt8 := dkwJ5_floorOrCeil_0 ++ dktJ5_floorOrCeil_1
theorem dksJ5_floorOrCeil_0 : cJ5_floorOrCeil.data.toList.drop 0 = dktJ5_floorOrCeil_0 := by decide +kernel
theorem dksJ5_floorOrCeil_1 : cJ5_floorOrCeil.data.toList.drop 24 = dktJ5_floorOrCeil_1 := dk_seg dksJ5_floorOrCeil_0 24 rfl rfl
theorem dksJ5_floorOrCeil_2 : cJ5_floorOrCeil.data.toList.drop 46 = dktJ5_floorOrCeil_2 := dk_seg dksJ5_floorOrCeil_1 22 rfl rfl
theorem dksJ5_floorOrCeil_3 : cJ5_floorOrCeil.data.toList.drop 70 = dktJ5_floorOrCeil_3 := dk_seg dksJ5_floorOrCeil_2 24 rfl rfl
theorem dksJ5_floorOrCeil_4 : cJ5_floorOrCeil.data.toList.drop 94 = dktJ5_floorOrCeil_4 := dk_seg dksJ5_floorOrCeil_3 24 rfl rfl
theorem dksJ5_floorOrCeil_5 : cJ5_floorOrCeil.data.toList.drop 118 = dktJ5_floorOrCeil_5 := dk_seg dksJ5_floorOrCeil_4 24 rfl rfl
theorem dJ5_floorOrCeil_0 : decode cJ5_floorOrCeil 0 = .ok (.dload_n 0, 1) := dk_38 (dk_at dksJ5_floorOrCeil_0 0 rfl rfl)
theorem dJ5_floorOrCeil_1 : decode cJ5_floorOrCeil 1 = .ok (.invokestatic 66, 3) := dk_184 0 66 (dk_at dksJ5_floorOrCeil_0 1 rfl rfl)
theorem dJ5_floorOrCeil_4 : decode cJ5_floorOrCeil 4 = .ok (.istore 8, 2) := dk_54 8 (dk_at dksJ5_floorOrCeil_0 4 rfl rfl)
theorem dJ5_floorOrCeil_6 : decode cJ5_floorOrCeil 6 = .ok (.iload 8, 2) := dk_21 8 (dk_at dksJ5_floorOrCeil_0 6 rfl rfl)
theorem dJ5_floorOrCeil_8 : decode cJ5_floorOrCeil 8 = .ok (.ifCond .ge 26, 3) := dk_156 0 26 (dk_at dksJ5_floorOrCeil_0 8 rfl rfl)
theorem dJ5_floorOrCeil_11 : decode cJ5_floorOrCeil 11 = .ok (.dload_n 0, 1) := dk_38 (dk_at dksJ5_floorOrCeil_0 11 rfl rfl)
theorem dJ5_floorOrCeil_12 : decode cJ5_floorOrCeil 12 = .ok (.dconst 0, 1) := dk_14 (dk_at dksJ5_floorOrCeil_0 12 rfl rfl)
theorem dJ5_floorOrCeil_13 : decode cJ5_floorOrCeil 13 = .ok (.dcmp .l, 1) := dk_151 (dk_at dksJ5_floorOrCeil_0 13 rfl rfl)
theorem dJ5_floorOrCeil_14 : decode cJ5_floorOrCeil 14 = .ok (.ifCond .ne 7, 3) := dk_154 0 7 (dk_at dksJ5_floorOrCeil_0 14 rfl rfl)
theorem dJ5_floorOrCeil_17 : decode cJ5_floorOrCeil 17 = .ok (.dload_n 0, 1) := dk_38 (dk_at dksJ5_floorOrCeil_0 17 rfl rfl)
theorem dJ5_floorOrCeil_18 : decode cJ5_floorOrCeil 18 = .ok (.goto 15, 3) := dk_167 0 15 (dk_at dksJ5_floorOrCeil_0 18 rfl rfl)
theorem dJ5_floorOrCeil_21 : decode cJ5_floorOrCeil 21 = .ok (.dload_n 0, 1) := dk_38 (dk_at dksJ5_floorOrCeil_0 21 rfl rfl)
theorem dJ5_floorOrCeil_22 : decode cJ5_floorOrCeil 22 = .ok (.dconst 0, 1) := dk_14 (dk_at dksJ5_floorOrCeil_0 22 rfl rfl)
theorem dJ5_floorOrCeil_23 : decode cJ5_floorOrCeil 23 = .ok (.dcmp .g, 1) := dk_152 (dk_at dksJ5_floorOrCeil_0 23 rfl rfl)
theorem dJ5_floorOrCeil_24 : decode cJ5_floorOrCeil 24 = .ok (.ifCond .ge 7, 3) := dk_156 0 7 (dk_at dksJ5_floorOrCeil_1 0 rfl rfl)
theorem dJ5_floorOrCeil_27 : decode cJ5_floorOrCeil 27 = .ok (.dload_n 2, 1) := dk_40 (dk_at dksJ5_floorOrCeil_1 3 rfl rfl)
theorem dJ5_floorOrCeil_28 : decode cJ5_floorOrCeil 28 = .ok (.goto 5, 3) := dk_167 0 5 (dk_at dksJ5_floorOrCeil_1 4 rfl rfl)
theorem dJ5_floorOrCeil_31 : decode cJ5_floorOrCeil 31 = .ok (.dload 4, 2) := dk_24 4 (dk_at dksJ5_floorOrCeil_1 7 rfl rfl)
theorem dJ5_floorOrCeil_33 : decode cJ5_floorOrCeil 33 = .ok (.dreturn, 1) := dk_175 (dk_at dksJ5_floorOrCeil_1 9 rfl rfl)
theorem dJ5_floorOrCeil_34 : decode cJ5_floorOrCeil 34 = .ok (.iload 8, 2) := dk_21 8 (dk_at dksJ5_floorOrCeil_1 10 rfl rfl)
theorem dJ5_floorOrCeil_36 : decode cJ5_floorOrCeil 36 = .ok (.bipush 52, 2) := dk_16 52 (dk_at dksJ5_floorOrCeil_1 12 rfl rfl)
theorem dJ5_floorOrCeil_38 : decode cJ5_floorOrCeil 38 = .ok (.if_icmp .lt 5, 3) := dk_161 0 5 (dk_at dksJ5_floorOrCeil_1 14 rfl rfl)
theorem dJ5_floorOrCeil_41 : decode cJ5_floorOrCeil 41 = .ok (.dload_n 0, 1) := dk_38 (dk_at dksJ5_floorOrCeil_1 17 rfl rfl)
theorem dJ5_floorOrCeil_42 : decode cJ5_floorOrCeil 42 = .ok (.dreturn, 1) := dk_175 (dk_at dksJ5_floorOrCeil_1 18 rfl rfl)
theorem dJ5_floorOrCeil_43 : decode cJ5_floorOrCeil 43 = .ok (.getstatic 70, 3) := dk_178 0 70 (dk_at dksJ5_floorOrCeil_1 19 rfl rfl)
theorem dJ5_floorOrCeil_46 : decode cJ5_floorOrCeil 46 = .ok (.ifCond .ne 23, 3) := dk_154 0 23 (dk_at dksJ5_floorOrCeil_2 0 rfl rfl)
theorem dJ5_floorOrCeil_49 : decode cJ5_floorOrCeil 49 = .ok (.iload 8, 2) := dk_21 8 (dk_at dksJ5_floorOrCeil_2 3 rfl rfl)
theorem dJ5_floorOrCeil_51 : decode cJ5_floorOrCeil 51 = .ok (.ifCond .lt 10, 3) := dk_155 0 10 (dk_at dksJ5_floorOrCeil_2 5 rfl rfl)
theorem dJ5_floorOrCeil_54 : decode cJ5_floorOrCeil 54 = .ok (.iload 8, 2) := dk_21 8 (dk_at dksJ5_floorOrCeil_2 8 rfl rfl)
theorem dJ5_floorOrCeil_56 : decode cJ5_floorOrCeil 56 = .ok (.bipush 51, 2) := dk_16 51 (dk_at dksJ5_floorOrCeil_2 10 rfl rfl)
theorem dJ5_floorOrCeil_58 : decode cJ5_floorOrCeil 58 = .ok (.if_icmp .le 11, 3) := dk_164 0 11 (dk_at dksJ5_floorOrCeil_2 12 rfl rfl)
theorem dJ5_floorOrCeil_61 : decode cJ5_floorOrCeil 61 = .ok (.new 74, 3) := dk_187 0 74 (dk_at dksJ5_floorOrCeil_2 15 rfl rfl)
theorem dJ5_floorOrCeil_64 : decode cJ5_floorOrCeil 64 = .ok (.dup, 1) := dk_89 (dk_at dksJ5_floorOrCeil_2 18 rfl rfl)
theorem dJ5_floorOrCeil_65 : decode cJ5_floorOrCeil 65 = .ok (.invokespecial 76, 3) := dk_183 0 76 (dk_at dksJ5_floorOrCeil_2 19 rfl rfl)
theorem dJ5_floorOrCeil_68 : decode cJ5_floorOrCeil 68 = .ok (.athrow, 1) := dk_191 (dk_at dksJ5_floorOrCeil_2 22 rfl rfl)
theorem dJ5_floorOrCeil_69 : decode cJ5_floorOrCeil 69 = .ok (.dload_n 0, 1) := dk_38 (dk_at dksJ5_floorOrCeil_2 23 rfl rfl)
theorem dJ5_floorOrCeil_70 : decode cJ5_floorOrCeil 70 = .ok (.invokestatic 77, 3) := dk_184 0 77 (dk_at dksJ5_floorOrCeil_3 0 rfl rfl)
theorem dJ5_floorOrCeil_73 : decode cJ5_floorOrCeil 73 = .ok (.lstore 9, 2) := dk_55 9 (dk_at dksJ5_floorOrCeil_3 3 rfl rfl)
theorem dJ5_floorOrCeil_75 : decode cJ5_floorOrCeil 75 = .ok (.ldc2_w 85, 3) := dk_20 0 85 (dk_at dksJ5_floorOrCeil_3 5 rfl rfl)
theorem dJ5_floorOrCeil_78 : decode cJ5_floorOrCeil 78 = .ok (.iload 8, 2) := dk_21 8 (dk_at dksJ5_floorOrCeil_3 8 rfl rfl)
theorem dJ5_floorOrCeil_80 : decode cJ5_floorOrCeil 80 = .ok (.lshr, 1) := dk_123 (dk_at dksJ5_floorOrCeil_3 10 rfl rfl)
theorem dJ5_floorOrCeil_81 : decode cJ5_floorOrCeil 81 = .ok (.lstore 11, 2) := dk_55 11 (dk_at dksJ5_floorOrCeil_3 11 rfl rfl)
theorem dJ5_floorOrCeil_83 : decode cJ5_floorOrCeil 83 = .ok (.lload 11, 2) := dk_22 11 (dk_at dksJ5_floorOrCeil_3 13 rfl rfl)
theorem dJ5_floorOrCeil_85 : decode cJ5_floorOrCeil 85 = .ok (.lload 9, 2) := dk_22 9 (dk_at dksJ5_floorOrCeil_3 15 rfl rfl)
theorem dJ5_floorOrCeil_87 : decode cJ5_floorOrCeil 87 = .ok (.land, 1) := dk_127 (dk_at dksJ5_floorOrCeil_3 17 rfl rfl)
theorem dJ5_floorOrCeil_88 : decode cJ5_floorOrCeil 88 = .ok (.lconst 0, 1) := dk_9 (dk_at dksJ5_floorOrCeil_3 18 rfl rfl)
theorem dJ5_floorOrCeil_89 : decode cJ5_floorOrCeil 89 = .ok (.lcmp, 1) := dk_148 (dk_at dksJ5_floorOrCeil_3 19 rfl rfl)
theorem dJ5_floorOrCeil_90 : decode cJ5_floorOrCeil 90 = .ok (.ifCond .ne 5, 3) := dk_154 0 5 (dk_at dksJ5_floorOrCeil_3 20 rfl rfl)
theorem dJ5_floorOrCeil_93 : decode cJ5_floorOrCeil 93 = .ok (.dload_n 0, 1) := dk_38 (dk_at dksJ5_floorOrCeil_3 23 rfl rfl)
theorem dJ5_floorOrCeil_94 : decode cJ5_floorOrCeil 94 = .ok (.dreturn, 1) := dk_175 (dk_at dksJ5_floorOrCeil_4 0 rfl rfl)
theorem dJ5_floorOrCeil_95 : decode cJ5_floorOrCeil 95 = .ok (.lload 9, 2) := dk_22 9 (dk_at dksJ5_floorOrCeil_4 1 rfl rfl)
theorem dJ5_floorOrCeil_97 : decode cJ5_floorOrCeil 97 = .ok (.lload 11, 2) := dk_22 11 (dk_at dksJ5_floorOrCeil_4 3 rfl rfl)
theorem dJ5_floorOrCeil_99 : decode cJ5_floorOrCeil 99 = .ok (.ldc2_w 87, 3) := dk_20 0 87 (dk_at dksJ5_floorOrCeil_4 5 rfl rfl)
theorem dJ5_floorOrCeil_102 : decode cJ5_floorOrCeil 102 = .ok (.lxor, 1) := dk_131 (dk_at dksJ5_floorOrCeil_4 8 rfl rfl)
theorem dJ5_floorOrCeil_103 : decode cJ5_floorOrCeil 103 = .ok (.land, 1) := dk_127 (dk_at dksJ5_floorOrCeil_4 9 rfl rfl)
theorem dJ5_floorOrCeil_104 : decode cJ5_floorOrCeil 104 = .ok (.invokestatic 89, 3) := dk_184 0 89 (dk_at dksJ5_floorOrCeil_4 10 rfl rfl)
theorem dJ5_floorOrCeil_107 : decode cJ5_floorOrCeil 107 = .ok (.dstore 13, 2) := dk_57 13 (dk_at dksJ5_floorOrCeil_4 13 rfl rfl)
theorem dJ5_floorOrCeil_109 : decode cJ5_floorOrCeil 109 = .ok (.dload 6, 2) := dk_24 6 (dk_at dksJ5_floorOrCeil_4 15 rfl rfl)
theorem dJ5_floorOrCeil_111 : decode cJ5_floorOrCeil 111 = .ok (.dload_n 0, 1) := dk_38 (dk_at dksJ5_floorOrCeil_4 17 rfl rfl)
theorem dJ5_floorOrCeil_112 : decode cJ5_floorOrCeil 112 = .ok (.dmul, 1) := dk_107 (dk_at dksJ5_floorOrCeil_4 18 rfl rfl)
theorem dJ5_floorOrCeil_113 : decode cJ5_floorOrCeil 113 = .ok (.dconst 0, 1) := dk_14 (dk_at dksJ5_floorOrCeil_4 19 rfl rfl)
theorem dJ5_floorOrCeil_114 : decode cJ5_floorOrCeil 114 = .ok (.dcmp .l, 1) := dk_151 (dk_at dksJ5_floorOrCeil_4 20 rfl rfl)
theorem dJ5_floorOrCeil_115 : decode cJ5_floorOrCeil 115 = .ok (.ifCond .le 10, 3) := dk_158 0 10 (dk_at dksJ5_floorOrCeil_4 21 rfl rfl)
theorem dJ5_floorOrCeil_118 : decode cJ5_floorOrCeil 118 = .ok (.dload 13, 2) := dk_24 13 (dk_at dksJ5_floorOrCeil_5 0 rfl rfl)
theorem dJ5_floorOrCeil_120 : decode cJ5_floorOrCeil 120 = .ok (.dload 6, 2) := dk_24 6 (dk_at dksJ5_floorOrCeil_5 2 rfl rfl)
theorem dJ5_floorOrCeil_122 : decode cJ5_floorOrCeil 122 = .ok (.dadd, 1) := dk_99 (dk_at dksJ5_floorOrCeil_5 4 rfl rfl)
theorem dJ5_floorOrCeil_123 : decode cJ5_floorOrCeil 123 = .ok (.dstore 13, 2) := dk_57 13 (dk_at dksJ5_floorOrCeil_5 5 rfl rfl)
theorem dJ5_floorOrCeil_125 : decode cJ5_floorOrCeil 125 = .ok (.dload 13, 2) := dk_24 13 (dk_at dksJ5_floorOrCeil_5 7 rfl rfl)
theorem dJ5_floorOrCeil_127 : decode cJ5_floorOrCeil 127 = .ok (.dreturn, 1) := dk_175 (dk_at dksJ5_floorOrCeil_5 9 rfl rfl)
abbrev cJ5_ceil : ByteArray := prog_36_method_16_code
def yJ5_ceil : MethodName := ⟨RJ5, "ceil", "(D)D"⟩
def dkwJ5_ceil_0 : List UInt8 := [38, 20, 0, 58, 15, 15, 184, 0, 60, 175]
abbrev dktJ5_ceil_0 : List UInt8 := dkwJ5_ceil_0 ++ []
theorem dksJ5_ceil_0 : cJ5_ceil.data.toList.drop 0 = dktJ5_ceil_0 := by decide +kernel
theorem dJ5_ceil_0 : decode cJ5_ceil 0 = .ok (.dload_n 0, 1) := dk_38 (dk_at dksJ5_ceil_0 0 rfl rfl)
theorem dJ5_ceil_1 : decode cJ5_ceil 1 = .ok (.ldc2_w 58, 3) := dk_20 0 58 (dk_at dksJ5_ceil_0 1 rfl rfl)
theorem dJ5_ceil_4 : decode cJ5_ceil 4 = .ok (.dconst 1, 1) := dk_15 (dk_at dksJ5_ceil_0 4 rfl rfl)
theorem dJ5_ceil_5 : decode cJ5_ceil 5 = .ok (.dconst 1, 1) := dk_15 (dk_at dksJ5_ceil_0 5 rfl rfl)
theorem dJ5_ceil_6 : decode cJ5_ceil 6 = .ok (.invokestatic 60, 3) := dk_184 0 60 (dk_at dksJ5_ceil_0 6 rfl rfl)
theorem dJ5_ceil_9 : decode cJ5_ceil 9 = .ok (.dreturn, 1) := dk_175 (dk_at dksJ5_ceil_0 9 rfl rfl)
abbrev cJ5_rint : ByteArray := prog_36_method_19_code
def yJ5_rint : MethodName := ⟨RJ5, "rint", "(D)D"⟩
def dkwJ5_rint_1 : List UInt8 := [99, 40, 103, 71, 24, 4, 38, 107, 175]
abbrev dktJ5_rint_1 : List UInt8 := dkwJ5_rint_1 ++ []
def dkwJ5_rint_0 : List UInt8 := [20, 0, 93, 73, 15, 38, 184, 0, 95, 57, 4, 38, 184, 0, 98, 71, 38, 40, 152, 156, 0, 9, 40, 38]
abbrev dktJ5_rint_0 : List UInt8 := dkwJ5_rint_0 ++ dktJ5_rint_1
theorem dksJ5_rint_0 : cJ5_rint.data.toList.drop 0 = dktJ5_rint_0 := by decide +kernel
theorem dksJ5_rint_1 : cJ5_rint.data.toList.drop 24 = dktJ5_rint_1 := dk_seg dksJ5_rint_0 24 rfl rfl
theorem dJ5_rint_0 : decode cJ5_rint 0 = .ok (.ldc2_w 93, 3) := dk_20 0 93 (dk_at dksJ5_rint_0 0 rfl rfl)
theorem dJ5_rint_3 : decode cJ5_rint 3 = .ok (.dstore_n 2, 1) := dk_73 (dk_at dksJ5_rint_0 3 rfl rfl)
theorem dJ5_rint_4 : decode cJ5_rint 4 = .ok (.dconst 1, 1) := dk_15 (dk_at dksJ5_rint_0 4 rfl rfl)
theorem dJ5_rint_5 : decode cJ5_rint 5 = .ok (.dload_n 0, 1) := dk_38 (dk_at dksJ5_rint_0 5 rfl rfl)
theorem dJ5_rint_6 : decode cJ5_rint 6 = .ok (.invokestatic 95, 3) := dk_184 0 95 (dk_at dksJ5_rint_0 6 rfl rfl)
theorem dJ5_rint_9 : decode cJ5_rint 9 = .ok (.dstore 4, 2) := dk_57 4 (dk_at dksJ5_rint_0 9 rfl rfl)
theorem dJ5_rint_11 : decode cJ5_rint 11 = .ok (.dload_n 0, 1) := dk_38 (dk_at dksJ5_rint_0 11 rfl rfl)
theorem dJ5_rint_12 : decode cJ5_rint 12 = .ok (.invokestatic 98, 3) := dk_184 0 98 (dk_at dksJ5_rint_0 12 rfl rfl)
theorem dJ5_rint_15 : decode cJ5_rint 15 = .ok (.dstore_n 0, 1) := dk_71 (dk_at dksJ5_rint_0 15 rfl rfl)
theorem dJ5_rint_16 : decode cJ5_rint 16 = .ok (.dload_n 0, 1) := dk_38 (dk_at dksJ5_rint_0 16 rfl rfl)
theorem dJ5_rint_17 : decode cJ5_rint 17 = .ok (.dload_n 2, 1) := dk_40 (dk_at dksJ5_rint_0 17 rfl rfl)
theorem dJ5_rint_18 : decode cJ5_rint 18 = .ok (.dcmp .g, 1) := dk_152 (dk_at dksJ5_rint_0 18 rfl rfl)
theorem dJ5_rint_19 : decode cJ5_rint 19 = .ok (.ifCond .ge 9, 3) := dk_156 0 9 (dk_at dksJ5_rint_0 19 rfl rfl)
theorem dJ5_rint_22 : decode cJ5_rint 22 = .ok (.dload_n 2, 1) := dk_40 (dk_at dksJ5_rint_0 22 rfl rfl)
theorem dJ5_rint_23 : decode cJ5_rint 23 = .ok (.dload_n 0, 1) := dk_38 (dk_at dksJ5_rint_0 23 rfl rfl)
theorem dJ5_rint_24 : decode cJ5_rint 24 = .ok (.dadd, 1) := dk_99 (dk_at dksJ5_rint_1 0 rfl rfl)
theorem dJ5_rint_25 : decode cJ5_rint 25 = .ok (.dload_n 2, 1) := dk_40 (dk_at dksJ5_rint_1 1 rfl rfl)
theorem dJ5_rint_26 : decode cJ5_rint 26 = .ok (.dsub, 1) := dk_103 (dk_at dksJ5_rint_1 2 rfl rfl)
theorem dJ5_rint_27 : decode cJ5_rint 27 = .ok (.dstore_n 0, 1) := dk_71 (dk_at dksJ5_rint_1 3 rfl rfl)
theorem dJ5_rint_28 : decode cJ5_rint 28 = .ok (.dload 4, 2) := dk_24 4 (dk_at dksJ5_rint_1 4 rfl rfl)
theorem dJ5_rint_30 : decode cJ5_rint 30 = .ok (.dload_n 0, 1) := dk_38 (dk_at dksJ5_rint_1 6 rfl rfl)
theorem dJ5_rint_31 : decode cJ5_rint 31 = .ok (.dmul, 1) := dk_107 (dk_at dksJ5_rint_1 7 rfl rfl)
theorem dJ5_rint_32 : decode cJ5_rint 32 = .ok (.dreturn, 1) := dk_175 (dk_at dksJ5_rint_1 8 rfl rfl)
theorem q82 : (Jvm.Cond.initialized "java/lang/StrictMath") ∈ lw_all := lw_g (lw_at lw_m1 25 rfl) rfl
theorem q847 : (Jvm.Cond.static ({ cls := "java/lang/StrictMath", name := "floor", desc := "(D)D" } : Jvm.MethodName)) ∈ lw_all := lw_g (lw_at lw_m4 70 rfl) rfl
theorem q848 : (Jvm.Cond.code ({ cls := "java/lang/StrictMath", name := "floor", desc := "(D)D" } : Jvm.MethodName) prog_36_method_17_code (2 : Nat) (Option.some Jvm.ClassFile.FieldType.double)) ∈ lw_all := lw_g (lw_at lw_m4 71 rfl) rfl
theorem q849 : (Jvm.Cond.constantDouble "java/lang/StrictMath" (64 : Nat) (13830554455654793216 : UInt64)) ∈ lw_all := lw_g (lw_at lw_m4 72 rfl) rfl
theorem q850 : (Jvm.Cond.methodLink "java/lang/StrictMath" (60 : Nat) ({ cls := "java/lang/StrictMath", name := "floorOrCeil", desc := "(DDDD)D" } : Jvm.MethodName)) ∈ lw_all := lw_g (lw_at lw_m4 73 rfl) rfl
theorem q851 : (Jvm.Cond.static ({ cls := "java/lang/StrictMath", name := "floorOrCeil", desc := "(DDDD)D" } : Jvm.MethodName)) ∈ lw_all := lw_g (lw_at lw_m4 74 rfl) rfl
theorem q852 : (Jvm.Cond.code ({ cls := "java/lang/StrictMath", name := "floorOrCeil", desc := "(DDDD)D" } : Jvm.MethodName) prog_36_method_18_code (15 : Nat) (Option.some Jvm.ClassFile.FieldType.double)) ∈ lw_all := lw_g (lw_at lw_m4 75 rfl) rfl
theorem q853 : (Jvm.Cond.methodLink "java/lang/StrictMath" (66 : Nat) ({ cls := "java/lang/Math", name := "getExponent", desc := "(D)I" } : Jvm.MethodName)) ∈ lw_all := lw_g (lw_at lw_m4 76 rfl) rfl
theorem q861 : (Jvm.Cond.fieldLink "java/lang/StrictMath" (70 : Nat) "java/lang/StrictMath" "$assertionsDisabled" "Z") ∈ lw_all := lw_g (lw_at lw_m4 84 rfl) rfl
theorem q862 : (Jvm.Cond.laysStatic "java/lang/StrictMath" "$assertionsDisabled" "Z") ∈ lw_tbl := lw_at lw_m4 85 rfl
theorem q863 : (Jvm.Cond.methodLink "java/lang/StrictMath" (77 : Nat) ({ cls := "java/lang/Double", name := "doubleToRawLongBits", desc := "(D)J" } : Jvm.MethodName)) ∈ lw_all := lw_g (lw_at lw_m4 86 rfl) rfl
theorem q864 : (Jvm.Cond.constantLong "java/lang/StrictMath" (85 : Nat) (4503599627370495 : Int64)) ∈ lw_all := lw_g (lw_at lw_m4 87 rfl) rfl
theorem q865 : (Jvm.Cond.constantLong "java/lang/StrictMath" (87 : Nat) (-1 : Int64)) ∈ lw_all := lw_g (lw_at lw_m4 88 rfl) rfl
theorem q866 : (Jvm.Cond.methodLink "java/lang/StrictMath" (89 : Nat) ({ cls := "java/lang/Double", name := "longBitsToDouble", desc := "(J)D" } : Jvm.MethodName)) ∈ lw_all := lw_g (lw_at lw_m4 89 rfl) rfl
theorem q880 : (Jvm.Cond.static ({ cls := "java/lang/StrictMath", name := "ceil", desc := "(D)D" } : Jvm.MethodName)) ∈ lw_all := lw_g (lw_at lw_m4 103 rfl) rfl
theorem q881 : (Jvm.Cond.code ({ cls := "java/lang/StrictMath", name := "ceil", desc := "(D)D" } : Jvm.MethodName) prog_36_method_16_code (2 : Nat) (Option.some Jvm.ClassFile.FieldType.double)) ∈ lw_all := lw_g (lw_at lw_m4 104 rfl) rfl
theorem q882 : (Jvm.Cond.constantDouble "java/lang/StrictMath" (58 : Nat) (9223372036854775808 : UInt64)) ∈ lw_all := lw_g (lw_at lw_m4 105 rfl) rfl
theorem q888 : (Jvm.Cond.static ({ cls := "java/lang/StrictMath", name := "rint", desc := "(D)D" } : Jvm.MethodName)) ∈ lw_all := lw_g (lw_at lw_m4 111 rfl) rfl
theorem q889 : (Jvm.Cond.code ({ cls := "java/lang/StrictMath", name := "rint", desc := "(D)D" } : Jvm.MethodName) prog_36_method_19_code (6 : Nat) (Option.some Jvm.ClassFile.FieldType.double)) ∈ lw_all := lw_g (lw_at lw_m4 112 rfl) rfl
theorem q890 : (Jvm.Cond.constantDouble "java/lang/StrictMath" (93 : Nat) (4841369599423283200 : UInt64)) ∈ lw_all := lw_g (lw_at lw_m4 113 rfl) rfl
theorem q891 : (Jvm.Cond.methodLink "java/lang/StrictMath" (95 : Nat) ({ cls := "java/lang/Math", name := "copySign", desc := "(DD)D" } : Jvm.MethodName)) ∈ lw_all := lw_g (lw_at lw_m4 114 rfl) rfl
theorem q897 : (Jvm.Cond.methodLink "java/lang/StrictMath" (98 : Nat) ({ cls := "java/lang/Math", name := "abs", desc := "(D)D" } : Jvm.MethodName)) ∈ lw_all := lw_g (lw_at lw_m4 120 rfl) rfl

/-! java/lang/NegativeArraySizeException -/
set_option maxRecDepth 100000
def RJ6 : String := "java/lang/NegativeArraySizeException"
def TJ6 : u_T := fun k => match k with
  | 0 => ("java/lang/Throwable", "backtrace", "Ljava/lang/Object;", false)
  | 1 => ("java/lang/Throwable", "detailMessage", "Ljava/lang/String;", false)
  | 2 => ("java/lang/Throwable", "cause", "Ljava/lang/Throwable;", false)
  | 3 => ("java/lang/Throwable", "stackTrace", "[Ljava/lang/StackTraceElement;", false)
  | 4 => ("java/lang/Throwable", "depth", "I", false)
  | _ => ("java/lang/Throwable", "suppressedExceptions", "Ljava/util/List;", false)
def tyJ6 : Nat → FieldType := fun k => match k with
  | 0 => .object "java/lang/Object"
  | 1 => .object "java/lang/String"
  | 2 => .object "java/lang/Throwable"
  | 3 => .array (.object "java/lang/StackTraceElement")
  | 4 => .int
  | _ => .object "java/util/List"
abbrev wsJ60 : List Cond := u_ws RJ6 TJ6 6
theorem nmJ6 : ∀ a, a < 6 → ∀ b, b < 6 → a ≠ b → (TJ6 a).2.1 ≠ (TJ6 b).2.1 := by decide +kernel
theorem tyJ6_ok : ∀ k, k < 6 → parseFieldDescriptor (TJ6 k).2.2.1 = some (tyJ6 k) := by decide +kernel
abbrev cJ6_init : ByteArray := prog_32_method_2_code
def yJ6_init : MethodName := ⟨RJ6, "<init>", "(Ljava/lang/String;)V"⟩
def dkwJ6_init_0 : List UInt8 := [42, 43, 183, 0, 7, 177]
abbrev dktJ6_init_0 : List UInt8 := dkwJ6_init_0 ++ []
theorem dksJ6_init_0 : cJ6_init.data.toList.drop 0 = dktJ6_init_0 := by decide +kernel
theorem dJ6_init_0 : decode cJ6_init 0 = .ok (.aload_n 0, 1) := dk_42 (dk_at dksJ6_init_0 0 rfl rfl)
theorem dJ6_init_1 : decode cJ6_init 1 = .ok (.aload_n 1, 1) := dk_43 (dk_at dksJ6_init_0 1 rfl rfl)
theorem dJ6_init_2 : decode cJ6_init 2 = .ok (.invokespecial 7, 3) := dk_183 0 7 (dk_at dksJ6_init_0 2 rfl rfl)
theorem dJ6_init_5 : decode cJ6_init 5 = .ok (.return_, 1) := dk_177 (dk_at dksJ6_init_0 5 rfl rfl)
theorem q85 : (Jvm.Cond.initialized "java/lang/NegativeArraySizeException") ∈ lw_all := lw_g (lw_at lw_m1 28 rfl) rfl
theorem q1032 : (Jvm.Cond.instantiable "java/lang/NegativeArraySizeException" (6 : Nat)) ∈ lw_all := lw_g (lw_at lw_m5 15 rfl) rfl
theorem q1033 : (Jvm.Cond.instanceMethod ({ cls := "java/lang/NegativeArraySizeException", name := "<init>", desc := "(Ljava/lang/String;)V" } : Jvm.MethodName)) ∈ lw_all := lw_g (lw_at lw_m5 16 rfl) rfl
theorem q1034 : (Jvm.Cond.code ({ cls := "java/lang/NegativeArraySizeException", name := "<init>", desc := "(Ljava/lang/String;)V" } : Jvm.MethodName) prog_32_method_2_code (2 : Nat) (Option.none : Option Jvm.ClassFile.FieldType)) ∈ lw_all := lw_g (lw_at lw_m5 17 rfl) rfl
theorem q1035 : (Jvm.Cond.methodLink "java/lang/NegativeArraySizeException" (7 : Nat) ({ cls := "java/lang/RuntimeException", name := "<init>", desc := "(Ljava/lang/String;)V" } : Jvm.MethodName)) ∈ lw_all := lw_g (lw_at lw_m5 18 rfl) rfl
theorem q1057 : (Jvm.Cond.selects "java/lang/NegativeArraySizeException" ({ cls := "java/lang/Throwable", name := "fillInStackTrace", desc := "()Ljava/lang/Throwable;" } : Jvm.MethodName) ({ cls := "java/lang/Throwable", name := "fillInStackTrace", desc := "()Ljava/lang/Throwable;" } : Jvm.MethodName)) ∈ lw_all := lw_g (lw_at lw_m5 40 rfl) rfl
theorem q1083 : (Jvm.Cond.lays "java/lang/NegativeArraySizeException" "java/lang/Throwable" "backtrace" "Ljava/lang/Object;") ∈ lw_all := lw_g (lw_at lw_m5 66 rfl) rfl
theorem q1085 : (Jvm.Cond.lays "java/lang/NegativeArraySizeException" "java/lang/Throwable" "detailMessage" "Ljava/lang/String;") ∈ lw_all := lw_g (lw_at lw_m5 68 rfl) rfl
theorem q1087 : (Jvm.Cond.lays "java/lang/NegativeArraySizeException" "java/lang/Throwable" "cause" "Ljava/lang/Throwable;") ∈ lw_all := lw_g (lw_at lw_m5 70 rfl) rfl
theorem q1089 : (Jvm.Cond.lays "java/lang/NegativeArraySizeException" "java/lang/Throwable" "stackTrace" "[Ljava/lang/StackTraceElement;") ∈ lw_all := lw_g (lw_at lw_m5 72 rfl) rfl
theorem q1091 : (Jvm.Cond.lays "java/lang/NegativeArraySizeException" "java/lang/Throwable" "depth" "I") ∈ lw_all := lw_g (lw_at lw_m5 74 rfl) rfl
theorem q1093 : (Jvm.Cond.lays "java/lang/NegativeArraySizeException" "java/lang/Throwable" "suppressedExceptions" "Ljava/util/List;") ∈ lw_all := lw_g (lw_at lw_m5 76 rfl) rfl
theorem q1095 : (Jvm.Cond.superclass "java/lang/NegativeArraySizeException" "java/lang/RuntimeException") ∈ lw_all := lw_g (lw_at lw_m5 78 rfl) rfl
theorem q1096 : (Jvm.Cond.castable "java/lang/NegativeArraySizeException" "java/lang/NegativeArraySizeException") ∈ lw_tbl := lw_at lw_m5 79 rfl
theorem q1103 : (Jvm.Cond.selects "java/lang/NegativeArraySizeException" ({ cls := "java/lang/Throwable", name := "fillInStackTrace", desc := "(I)Ljava/lang/Throwable;" } : Jvm.MethodName) ({ cls := "java/lang/Throwable", name := "fillInStackTrace", desc := "(I)Ljava/lang/Throwable;" } : Jvm.MethodName)) ∈ lw_all := lw_g (lw_at lw_m5 86 rfl) rfl
theorem in_J6 : ∀ w ∈ wsJ60, w ∈ lw_all := lw_in wsJ60 [1083, 1085, 1087, 1089, 1091, 1093] (by decide +kernel) (by decide +kernel)

/-! java/lang/String -/
set_option maxRecDepth 100000
def RJ7 : String := "java/lang/String"
def TJ7 : u_T := fun k => match k with
  | 0 => ("java/lang/String", "value", "[B", true)
  | _ => ("java/lang/String", "coder", "B", true)
def tyJ7 : Nat → FieldType := fun k => match k with
  | 0 => .array .byte
  | _ => .byte
abbrev wsJ70 : List Cond := u_ws RJ7 TJ7 2
theorem nmJ7 : ∀ a, a < 2 → ∀ b, b < 2 → a ≠ b → (TJ7 a).2.1 ≠ (TJ7 b).2.1 := by decide +kernel
theorem tyJ7_ok : ∀ k, k < 2 → parseFieldDescriptor (TJ7 k).2.2.1 = some (tyJ7 k) := by decide +kernel
theorem q86 : (Jvm.Cond.initialized "java/lang/String") ∈ lw_all := lw_g (lw_at lw_m1 29 rfl) rfl
theorem q1113 : (Jvm.Cond.instantiable "java/lang/String" (4 : Nat)) ∈ lw_all := lw_g (lw_at lw_m5 96 rfl) rfl
theorem q1115 : (Jvm.Cond.laysFinal "java/lang/String" "java/lang/String" "value" "[B") ∈ lw_all := lw_g (lw_at lw_m5 98 rfl) rfl
theorem q1116 : (Jvm.Cond.soleField "java/lang/String" "value") ∈ lw_all := lw_g (lw_at lw_m5 99 rfl) rfl
theorem q1117 : (Jvm.Cond.laysFinal "java/lang/String" "java/lang/String" "coder" "B") ∈ lw_all := lw_g (lw_at lw_m5 100 rfl) rfl
theorem q1118 : (Jvm.Cond.soleField "java/lang/String" "coder") ∈ lw_all := lw_g (lw_at lw_m5 101 rfl) rfl
theorem in_J7 : ∀ w ∈ wsJ70, w ∈ lw_all := lw_in wsJ70 [1115, 1117] (by decide +kernel) (by decide +kernel)

/-! java/lang/NullPointerException -/
set_option maxRecDepth 100000
def RJ8 : String := "java/lang/NullPointerException"
def TJ8 : u_T := fun k => match k with
  | 0 => ("java/lang/Throwable", "backtrace", "Ljava/lang/Object;", false)
  | 1 => ("java/lang/Throwable", "detailMessage", "Ljava/lang/String;", false)
  | 2 => ("java/lang/Throwable", "cause", "Ljava/lang/Throwable;", false)
  | 3 => ("java/lang/Throwable", "stackTrace", "[Ljava/lang/StackTraceElement;", false)
  | 4 => ("java/lang/Throwable", "depth", "I", false)
  | 5 => ("java/lang/Throwable", "suppressedExceptions", "Ljava/util/List;", false)
  | 6 => ("java/lang/NullPointerException", "extendedMessageState", "I", false)
  | _ => ("java/lang/NullPointerException", "extendedMessage", "Ljava/lang/String;", false)
def tyJ8 : Nat → FieldType := fun k => match k with
  | 0 => .object "java/lang/Object"
  | 1 => .object "java/lang/String"
  | 2 => .object "java/lang/Throwable"
  | 3 => .array (.object "java/lang/StackTraceElement")
  | 4 => .int
  | 5 => .object "java/util/List"
  | 6 => .int
  | _ => .object "java/lang/String"
abbrev wsJ80 : List Cond := u_ws RJ8 TJ8 8
theorem nmJ8 : ∀ a, a < 8 → ∀ b, b < 8 → a ≠ b → (TJ8 a).2.1 ≠ (TJ8 b).2.1 := by decide +kernel
theorem tyJ8_ok : ∀ k, k < 8 → parseFieldDescriptor (TJ8 k).2.2.1 = some (tyJ8 k) := by decide +kernel
abbrev cJ8_init : ByteArray := prog_33_method_1_code
def yJ8_init : MethodName := ⟨RJ8, "<init>", "()V"⟩
theorem dJ8_init_0 : decode cJ8_init 0 = .ok (.aload_n 0, 1) := by decide +kernel
theorem dJ8_init_1 : decode cJ8_init 1 = .ok (.invokespecial 1, 3) := by decide +kernel
theorem dJ8_init_4 : decode cJ8_init 4 = .ok (.return_, 1) := by decide +kernel
theorem q88 : (Jvm.Cond.initialized "java/lang/NullPointerException") ∈ lw_all := lw_g (lw_at lw_m1 31 rfl) rfl
theorem q1058 : (Jvm.Cond.selects "java/lang/NullPointerException" ({ cls := "java/lang/Throwable", name := "fillInStackTrace", desc := "()Ljava/lang/Throwable;" } : Jvm.MethodName) ({ cls := "java/lang/NullPointerException", name := "fillInStackTrace", desc := "()Ljava/lang/Throwable;" } : Jvm.MethodName)) ∈ lw_all := lw_g (lw_at lw_m5 41 rfl) rfl
theorem q1059 : (Jvm.Cond.instanceMethod ({ cls := "java/lang/NullPointerException", name := "fillInStackTrace", desc := "()Ljava/lang/Throwable;" } : Jvm.MethodName)) ∈ lw_all := lw_g (lw_at lw_m5 42 rfl) rfl
theorem q1060 : (Jvm.Cond.codeSync ({ cls := "java/lang/NullPointerException", name := "fillInStackTrace", desc := "()Ljava/lang/Throwable;" } : Jvm.MethodName) prog_33_method_3_code (1 : Nat) (Option.some (Jvm.ClassFile.FieldType.object "java/lang/Throwable"))) ∈ lw_all := lw_g (lw_at lw_m5 43 rfl) rfl
theorem q1061 : (Jvm.Cond.methodLink "java/lang/NullPointerException" (16 : Nat) ({ cls := "java/lang/NullPointerException", name := "getExtendedNPEMessage", desc := "()Ljava/lang/String;" } : Jvm.MethodName)) ∈ lw_all := lw_g (lw_at lw_m5 44 rfl) rfl
theorem q1062 : (Jvm.Cond.privateMethod ({ cls := "java/lang/NullPointerException", name := "getExtendedNPEMessage", desc := "()Ljava/lang/String;" } : Jvm.MethodName)) ∈ lw_tbl := lw_at lw_m5 45 rfl
theorem q1063 : (Jvm.Cond.instanceMethod ({ cls := "java/lang/NullPointerException", name := "getExtendedNPEMessage", desc := "()Ljava/lang/String;" } : Jvm.MethodName)) ∈ lw_all := lw_g (lw_at lw_m5 46 rfl) rfl
theorem q1064 : (Jvm.Cond.instantiable "java/lang/NullPointerException" (8 : Nat)) ∈ lw_all := lw_g (lw_at lw_m5 47 rfl) rfl
theorem q1065 : (Jvm.Cond.native ({ cls := "java/lang/NullPointerException", name := "getExtendedNPEMessage", desc := "()Ljava/lang/String;" } : Jvm.MethodName)) ∈ lw_all := lw_g (lw_at lw_m5 48 rfl) rfl
theorem q1066 : (Jvm.Cond.methodLink "java/lang/NullPointerException" (24 : Nat) ({ cls := "java/lang/RuntimeException", name := "fillInStackTrace", desc := "()Ljava/lang/Throwable;" } : Jvm.MethodName)) ∈ lw_all := lw_g (lw_at lw_m5 49 rfl) rfl
theorem q1069 : (Jvm.Cond.superclass "java/lang/NullPointerException" "java/lang/RuntimeException") ∈ lw_all := lw_g (lw_at lw_m5 52 rfl) rfl
theorem q1163 : (Jvm.Cond.instanceMethod ({ cls := "java/lang/NullPointerException", name := "<init>", desc := "()V" } : Jvm.MethodName)) ∈ lw_all := lw_g (lw_at lw_m5 146 rfl) rfl
theorem q1164 : (Jvm.Cond.code ({ cls := "java/lang/NullPointerException", name := "<init>", desc := "()V" } : Jvm.MethodName) prog_33_method_1_code (1 : Nat) (Option.none : Option Jvm.ClassFile.FieldType)) ∈ lw_all := lw_g (lw_at lw_m5 147 rfl) rfl
theorem q1165 : (Jvm.Cond.methodLink "java/lang/NullPointerException" (1 : Nat) ({ cls := "java/lang/RuntimeException", name := "<init>", desc := "()V" } : Jvm.MethodName)) ∈ lw_all := lw_g (lw_at lw_m5 148 rfl) rfl
theorem q1172 : (Jvm.Cond.fieldLink "java/lang/NullPointerException" (10 : Nat) "java/lang/NullPointerException" "extendedMessageState" "I") ∈ lw_all := lw_g (lw_at lw_m5 155 rfl) rfl
theorem q1173 : (Jvm.Cond.fieldLink "java/lang/NullPointerException" (20 : Nat) "java/lang/NullPointerException" "extendedMessage" "Ljava/lang/String;") ∈ lw_all := lw_g (lw_at lw_m5 156 rfl) rfl
theorem q1174 : (Jvm.Cond.lays "java/lang/NullPointerException" "java/lang/NullPointerException" "extendedMessageState" "I") ∈ lw_all := lw_g (lw_at lw_m5 157 rfl) rfl
theorem q1175 : (Jvm.Cond.soleField "java/lang/NullPointerException" "extendedMessageState") ∈ lw_all := lw_g (lw_at lw_m5 158 rfl) rfl
theorem q1176 : (Jvm.Cond.lays "java/lang/NullPointerException" "java/lang/NullPointerException" "extendedMessage" "Ljava/lang/String;") ∈ lw_all := lw_g (lw_at lw_m5 159 rfl) rfl
theorem q1177 : (Jvm.Cond.soleField "java/lang/NullPointerException" "extendedMessage") ∈ lw_all := lw_g (lw_at lw_m5 160 rfl) rfl
theorem q1178 : (Jvm.Cond.lays "java/lang/NullPointerException" "java/lang/Throwable" "backtrace" "Ljava/lang/Object;") ∈ lw_all := lw_g (lw_at lw_m5 161 rfl) rfl
theorem q1179 : (Jvm.Cond.lays "java/lang/NullPointerException" "java/lang/Throwable" "detailMessage" "Ljava/lang/String;") ∈ lw_all := lw_g (lw_at lw_m5 162 rfl) rfl
theorem q1180 : (Jvm.Cond.lays "java/lang/NullPointerException" "java/lang/Throwable" "cause" "Ljava/lang/Throwable;") ∈ lw_all := lw_g (lw_at lw_m5 163 rfl) rfl
theorem q1181 : (Jvm.Cond.lays "java/lang/NullPointerException" "java/lang/Throwable" "stackTrace" "[Ljava/lang/StackTraceElement;") ∈ lw_all := lw_g (lw_at lw_m5 164 rfl) rfl
theorem q1182 : (Jvm.Cond.lays "java/lang/NullPointerException" "java/lang/Throwable" "depth" "I") ∈ lw_all := lw_g (lw_at lw_m5 165 rfl) rfl
theorem q1183 : (Jvm.Cond.lays "java/lang/NullPointerException" "java/lang/Throwable" "suppressedExceptions" "Ljava/util/List;") ∈ lw_all := lw_g (lw_at lw_m5 166 rfl) rfl
theorem q1184 : (Jvm.Cond.castable "java/lang/NullPointerException" "java/lang/NullPointerException") ∈ lw_tbl := lw_at lw_m5 167 rfl
theorem q1185 : (Jvm.Cond.selects "java/lang/NullPointerException" ({ cls := "java/lang/Throwable", name := "fillInStackTrace", desc := "(I)Ljava/lang/Throwable;" } : Jvm.MethodName) ({ cls := "java/lang/Throwable", name := "fillInStackTrace", desc := "(I)Ljava/lang/Throwable;" } : Jvm.MethodName)) ∈ lw_all := lw_g (lw_at lw_m5 168 rfl) rfl
theorem in_J8 : ∀ w ∈ wsJ80, w ∈ lw_all := lw_in wsJ80 [1178, 1179, 1180, 1181, 1182, 1183, 1174, 1176] (by decide +kernel) (by decide +kernel)

/-! java/lang/ClassCastException -/
set_option maxRecDepth 100000
def RJ9 : String := "java/lang/ClassCastException"
def TJ9 : u_T := fun k => match k with
  | 0 => ("java/lang/Throwable", "backtrace", "Ljava/lang/Object;", false)
  | 1 => ("java/lang/Throwable", "detailMessage", "Ljava/lang/String;", false)
  | 2 => ("java/lang/Throwable", "cause", "Ljava/lang/Throwable;", false)
  | 3 => ("java/lang/Throwable", "stackTrace", "[Ljava/lang/StackTraceElement;", false)
  | 4 => ("java/lang/Throwable", "depth", "I", false)
  | _ => ("java/lang/Throwable", "suppressedExceptions", "Ljava/util/List;", false)
def tyJ9 : Nat → FieldType := fun k => match k with
  | 0 => .object "java/lang/Object"
  | 1 => .object "java/lang/String"
  | 2 => .object "java/lang/Throwable"
  | 3 => .array (.object "java/lang/StackTraceElement")
  | 4 => .int
  | _ => .object "java/util/List"
abbrev wsJ90 : List Cond := u_ws RJ9 TJ9 6
theorem nmJ9 : ∀ a, a < 6 → ∀ b, b < 6 → a ≠ b → (TJ9 a).2.1 ≠ (TJ9 b).2.1 := by decide +kernel
theorem tyJ9_ok : ∀ k, k < 6 → parseFieldDescriptor (TJ9 k).2.2.1 = some (tyJ9 k) := by decide +kernel
abbrev cJ9_init : ByteArray := prog_25_method_2_code
def yJ9_init : MethodName := ⟨RJ9, "<init>", "(Ljava/lang/String;)V"⟩
def dkwJ9_init_0 : List UInt8 := [42, 43, 183, 0, 7, 177]
abbrev dktJ9_init_0 : List UInt8 := dkwJ9_init_0 ++ []
theorem dksJ9_init_0 : cJ9_init.data.toList.drop 0 = dktJ9_init_0 := by decide +kernel
theorem dJ9_init_0 : decode cJ9_init 0 = .ok (.aload_n 0, 1) := dk_42 (dk_at dksJ9_init_0 0 rfl rfl)
theorem dJ9_init_1 : decode cJ9_init 1 = .ok (.aload_n 1, 1) := dk_43 (dk_at dksJ9_init_0 1 rfl rfl)
theorem dJ9_init_2 : decode cJ9_init 2 = .ok (.invokespecial 7, 3) := dk_183 0 7 (dk_at dksJ9_init_0 2 rfl rfl)
theorem dJ9_init_5 : decode cJ9_init 5 = .ok (.return_, 1) := dk_177 (dk_at dksJ9_init_0 5 rfl rfl)
theorem q89 : (Jvm.Cond.initialized "java/lang/ClassCastException") ∈ lw_all := lw_g (lw_at lw_m1 32 rfl) rfl
theorem q1054 : (Jvm.Cond.selects "java/lang/ClassCastException" ({ cls := "java/lang/Throwable", name := "fillInStackTrace", desc := "()Ljava/lang/Throwable;" } : Jvm.MethodName) ({ cls := "java/lang/Throwable", name := "fillInStackTrace", desc := "()Ljava/lang/Throwable;" } : Jvm.MethodName)) ∈ lw_all := lw_g (lw_at lw_m5 37 rfl) rfl
theorem q1188 : (Jvm.Cond.instantiable "java/lang/ClassCastException" (6 : Nat)) ∈ lw_all := lw_g (lw_at lw_m5 171 rfl) rfl
theorem q1189 : (Jvm.Cond.instanceMethod ({ cls := "java/lang/ClassCastException", name := "<init>", desc := "(Ljava/lang/String;)V" } : Jvm.MethodName)) ∈ lw_all := lw_g (lw_at lw_m5 172 rfl) rfl
theorem q1190 : (Jvm.Cond.code ({ cls := "java/lang/ClassCastException", name := "<init>", desc := "(Ljava/lang/String;)V" } : Jvm.MethodName) prog_25_method_2_code (2 : Nat) (Option.none : Option Jvm.ClassFile.FieldType)) ∈ lw_all := lw_g (lw_at lw_m5 173 rfl) rfl
theorem q1191 : (Jvm.Cond.methodLink "java/lang/ClassCastException" (7 : Nat) ({ cls := "java/lang/RuntimeException", name := "<init>", desc := "(Ljava/lang/String;)V" } : Jvm.MethodName)) ∈ lw_all := lw_g (lw_at lw_m5 174 rfl) rfl
theorem q1192 : (Jvm.Cond.lays "java/lang/ClassCastException" "java/lang/Throwable" "backtrace" "Ljava/lang/Object;") ∈ lw_all := lw_g (lw_at lw_m5 175 rfl) rfl
theorem q1193 : (Jvm.Cond.lays "java/lang/ClassCastException" "java/lang/Throwable" "detailMessage" "Ljava/lang/String;") ∈ lw_all := lw_g (lw_at lw_m5 176 rfl) rfl
theorem q1194 : (Jvm.Cond.lays "java/lang/ClassCastException" "java/lang/Throwable" "cause" "Ljava/lang/Throwable;") ∈ lw_all := lw_g (lw_at lw_m5 177 rfl) rfl
theorem q1195 : (Jvm.Cond.lays "java/lang/ClassCastException" "java/lang/Throwable" "stackTrace" "[Ljava/lang/StackTraceElement;") ∈ lw_all := lw_g (lw_at lw_m5 178 rfl) rfl
theorem q1196 : (Jvm.Cond.lays "java/lang/ClassCastException" "java/lang/Throwable" "depth" "I") ∈ lw_all := lw_g (lw_at lw_m5 179 rfl) rfl
theorem q1197 : (Jvm.Cond.lays "java/lang/ClassCastException" "java/lang/Throwable" "suppressedExceptions" "Ljava/util/List;") ∈ lw_all := lw_g (lw_at lw_m5 180 rfl) rfl
theorem q1198 : (Jvm.Cond.superclass "java/lang/ClassCastException" "java/lang/RuntimeException") ∈ lw_all := lw_g (lw_at lw_m5 181 rfl) rfl
theorem q1199 : (Jvm.Cond.castable "java/lang/ClassCastException" "java/lang/ClassCastException") ∈ lw_tbl := lw_at lw_m5 182 rfl
theorem q1200 : (Jvm.Cond.selects "java/lang/ClassCastException" ({ cls := "java/lang/Throwable", name := "fillInStackTrace", desc := "(I)Ljava/lang/Throwable;" } : Jvm.MethodName) ({ cls := "java/lang/Throwable", name := "fillInStackTrace", desc := "(I)Ljava/lang/Throwable;" } : Jvm.MethodName)) ∈ lw_all := lw_g (lw_at lw_m5 183 rfl) rfl
theorem in_J9 : ∀ w ∈ wsJ90, w ∈ lw_all := lw_in wsJ90 [1192, 1193, 1194, 1195, 1196, 1197] (by decide +kernel) (by decide +kernel)

/-! java/lang/IndexOutOfBoundsException -/
set_option maxRecDepth 100000
def RJ10 : String := "java/lang/IndexOutOfBoundsException"
abbrev cJ10_init : ByteArray := prog_30_method_2_code
def yJ10_init : MethodName := ⟨RJ10, "<init>", "(Ljava/lang/String;)V"⟩
def dkwJ10_init_0 : List UInt8 := [42, 43, 183, 0, 7, 177]
abbrev dktJ10_init_0 : List UInt8 := dkwJ10_init_0 ++ []
theorem dksJ10_init_0 : cJ10_init.data.toList.drop 0 = dktJ10_init_0 := by decide +kernel
theorem dJ10_init_0 : decode cJ10_init 0 = .ok (.aload_n 0, 1) := dk_42 (dk_at dksJ10_init_0 0 rfl rfl)
theorem dJ10_init_1 : decode cJ10_init 1 = .ok (.aload_n 1, 1) := dk_43 (dk_at dksJ10_init_0 1 rfl rfl)
theorem dJ10_init_2 : decode cJ10_init 2 = .ok (.invokespecial 7, 3) := dk_183 0 7 (dk_at dksJ10_init_0 2 rfl rfl)
theorem dJ10_init_5 : decode cJ10_init 5 = .ok (.return_, 1) := dk_177 (dk_at dksJ10_init_0 5 rfl rfl)
theorem q91 : (Jvm.Cond.initialized "java/lang/IndexOutOfBoundsException") ∈ lw_all := lw_g (lw_at lw_m1 34 rfl) rfl
theorem q1238 : (Jvm.Cond.instanceMethod ({ cls := "java/lang/IndexOutOfBoundsException", name := "<init>", desc := "(Ljava/lang/String;)V" } : Jvm.MethodName)) ∈ lw_all := lw_g (lw_at lw_m5 221 rfl) rfl
theorem q1239 : (Jvm.Cond.code ({ cls := "java/lang/IndexOutOfBoundsException", name := "<init>", desc := "(Ljava/lang/String;)V" } : Jvm.MethodName) prog_30_method_2_code (2 : Nat) (Option.none : Option Jvm.ClassFile.FieldType)) ∈ lw_all := lw_g (lw_at lw_m5 222 rfl) rfl
theorem q1240 : (Jvm.Cond.methodLink "java/lang/IndexOutOfBoundsException" (7 : Nat) ({ cls := "java/lang/RuntimeException", name := "<init>", desc := "(Ljava/lang/String;)V" } : Jvm.MethodName)) ∈ lw_all := lw_g (lw_at lw_m5 223 rfl) rfl
theorem q1249 : (Jvm.Cond.declares ({ cls := "java/lang/IndexOutOfBoundsException", name := "<init>", desc := "()V" } : Jvm.MethodName)) ∈ lw_tbl := lw_at lw_m5 232 rfl
theorem q1250 : (Jvm.Cond.declares ({ cls := "java/lang/IndexOutOfBoundsException", name := "<init>", desc := "(Ljava/lang/String;)V" } : Jvm.MethodName)) ∈ lw_tbl := lw_at lw_m5 233 rfl

/-! java/lang/ArrayIndexOutOfBoundsException -/
set_option maxRecDepth 100000
def RJ11 : String := "java/lang/ArrayIndexOutOfBoundsException"
def TJ11 : u_T := fun k => match k with
  | 0 => ("java/lang/Throwable", "backtrace", "Ljava/lang/Object;", false)
  | 1 => ("java/lang/Throwable", "detailMessage", "Ljava/lang/String;", false)
  | 2 => ("java/lang/Throwable", "cause", "Ljava/lang/Throwable;", false)
  | 3 => ("java/lang/Throwable", "stackTrace", "[Ljava/lang/StackTraceElement;", false)
  | 4 => ("java/lang/Throwable", "depth", "I", false)
  | _ => ("java/lang/Throwable", "suppressedExceptions", "Ljava/util/List;", false)
def tyJ11 : Nat → FieldType := fun k => match k with
  | 0 => .object "java/lang/Object"
  | 1 => .object "java/lang/String"
  | 2 => .object "java/lang/Throwable"
  | 3 => .array (.object "java/lang/StackTraceElement")
  | 4 => .int
  | _ => .object "java/util/List"
abbrev wsJ110 : List Cond := u_ws RJ11 TJ11 6
theorem nmJ11 : ∀ a, a < 6 → ∀ b, b < 6 → a ≠ b → (TJ11 a).2.1 ≠ (TJ11 b).2.1 := by decide +kernel
theorem tyJ11_ok : ∀ k, k < 6 → parseFieldDescriptor (TJ11 k).2.2.1 = some (tyJ11 k) := by decide +kernel
abbrev cJ11_init : ByteArray := prog_24_method_2_code
def yJ11_init : MethodName := ⟨RJ11, "<init>", "(Ljava/lang/String;)V"⟩
def dkwJ11_init_0 : List UInt8 := [42, 43, 183, 0, 7, 177]
abbrev dktJ11_init_0 : List UInt8 := dkwJ11_init_0 ++ []
theorem dksJ11_init_0 : cJ11_init.data.toList.drop 0 = dktJ11_init_0 := by decide +kernel
theorem dJ11_init_0 : decode cJ11_init 0 = .ok (.aload_n 0, 1) := dk_42 (dk_at dksJ11_init_0 0 rfl rfl)
theorem dJ11_init_1 : decode cJ11_init 1 = .ok (.aload_n 1, 1) := dk_43 (dk_at dksJ11_init_0 1 rfl rfl)
theorem dJ11_init_2 : decode cJ11_init 2 = .ok (.invokespecial 7, 3) := dk_183 0 7 (dk_at dksJ11_init_0 2 rfl rfl)
theorem dJ11_init_5 : decode cJ11_init 5 = .ok (.return_, 1) := dk_177 (dk_at dksJ11_init_0 5 rfl rfl)
theorem q92 : (Jvm.Cond.initialized "java/lang/ArrayIndexOutOfBoundsException") ∈ lw_all := lw_g (lw_at lw_m1 35 rfl) rfl
theorem q1053 : (Jvm.Cond.selects "java/lang/ArrayIndexOutOfBoundsException" ({ cls := "java/lang/Throwable", name := "fillInStackTrace", desc := "()Ljava/lang/Throwable;" } : Jvm.MethodName) ({ cls := "java/lang/Throwable", name := "fillInStackTrace", desc := "()Ljava/lang/Throwable;" } : Jvm.MethodName)) ∈ lw_all := lw_g (lw_at lw_m5 36 rfl) rfl
theorem q1234 : (Jvm.Cond.instantiable "java/lang/ArrayIndexOutOfBoundsException" (6 : Nat)) ∈ lw_all := lw_g (lw_at lw_m5 217 rfl) rfl
theorem q1235 : (Jvm.Cond.instanceMethod ({ cls := "java/lang/ArrayIndexOutOfBoundsException", name := "<init>", desc := "(Ljava/lang/String;)V" } : Jvm.MethodName)) ∈ lw_all := lw_g (lw_at lw_m5 218 rfl) rfl
theorem q1236 : (Jvm.Cond.code ({ cls := "java/lang/ArrayIndexOutOfBoundsException", name := "<init>", desc := "(Ljava/lang/String;)V" } : Jvm.MethodName) prog_24_method_2_code (2 : Nat) (Option.none : Option Jvm.ClassFile.FieldType)) ∈ lw_all := lw_g (lw_at lw_m5 219 rfl) rfl
theorem q1237 : (Jvm.Cond.methodLink "java/lang/ArrayIndexOutOfBoundsException" (7 : Nat) ({ cls := "java/lang/IndexOutOfBoundsException", name := "<init>", desc := "(Ljava/lang/String;)V" } : Jvm.MethodName)) ∈ lw_all := lw_g (lw_at lw_m5 220 rfl) rfl
theorem q1241 : (Jvm.Cond.lays "java/lang/ArrayIndexOutOfBoundsException" "java/lang/Throwable" "backtrace" "Ljava/lang/Object;") ∈ lw_all := lw_g (lw_at lw_m5 224 rfl) rfl
theorem q1242 : (Jvm.Cond.lays "java/lang/ArrayIndexOutOfBoundsException" "java/lang/Throwable" "detailMessage" "Ljava/lang/String;") ∈ lw_all := lw_g (lw_at lw_m5 225 rfl) rfl
theorem q1243 : (Jvm.Cond.lays "java/lang/ArrayIndexOutOfBoundsException" "java/lang/Throwable" "cause" "Ljava/lang/Throwable;") ∈ lw_all := lw_g (lw_at lw_m5 226 rfl) rfl
theorem q1244 : (Jvm.Cond.lays "java/lang/ArrayIndexOutOfBoundsException" "java/lang/Throwable" "stackTrace" "[Ljava/lang/StackTraceElement;") ∈ lw_all := lw_g (lw_at lw_m5 227 rfl) rfl
theorem q1245 : (Jvm.Cond.lays "java/lang/ArrayIndexOutOfBoundsException" "java/lang/Throwable" "depth" "I") ∈ lw_all := lw_g (lw_at lw_m5 228 rfl) rfl
theorem q1246 : (Jvm.Cond.lays "java/lang/ArrayIndexOutOfBoundsException" "java/lang/Throwable" "suppressedExceptions" "Ljava/util/List;") ∈ lw_all := lw_g (lw_at lw_m5 229 rfl) rfl
theorem q1247 : (Jvm.Cond.superclass "java/lang/ArrayIndexOutOfBoundsException" "java/lang/IndexOutOfBoundsException") ∈ lw_all := lw_g (lw_at lw_m5 230 rfl) rfl
theorem q1248 : (Jvm.Cond.castable "java/lang/ArrayIndexOutOfBoundsException" "java/lang/ArrayIndexOutOfBoundsException") ∈ lw_tbl := lw_at lw_m5 231 rfl
theorem q1251 : (Jvm.Cond.selects "java/lang/ArrayIndexOutOfBoundsException" ({ cls := "java/lang/Throwable", name := "fillInStackTrace", desc := "(I)Ljava/lang/Throwable;" } : Jvm.MethodName) ({ cls := "java/lang/Throwable", name := "fillInStackTrace", desc := "(I)Ljava/lang/Throwable;" } : Jvm.MethodName)) ∈ lw_all := lw_g (lw_at lw_m5 234 rfl) rfl
theorem q1910 : (Jvm.Cond.castable "java/lang/ArrayIndexOutOfBoundsException" "java/lang/IndexOutOfBoundsException") ∈ lw_tbl := lw_at lw_m8 173 rfl
theorem in_J11 : ∀ w ∈ wsJ110, w ∈ lw_all := lw_in wsJ110 [1241, 1242, 1243, 1244, 1245, 1246] (by decide +kernel) (by decide +kernel)

/-! java/lang/IllegalStateException -/
set_option maxRecDepth 100000
def RJ12 : String := "java/lang/IllegalStateException"
def TJ12 : u_T := fun k => match k with
  | 0 => ("java/lang/Throwable", "cause", "Ljava/lang/Throwable;", false)
  | 1 => ("java/lang/Throwable", "stackTrace", "[Ljava/lang/StackTraceElement;", false)
  | 2 => ("java/lang/Throwable", "suppressedExceptions", "Ljava/util/List;", false)
  | 3 => ("java/lang/Throwable", "detailMessage", "Ljava/lang/String;", false)
  | 4 => ("java/lang/Throwable", "backtrace", "Ljava/lang/Object;", false)
  | _ => ("java/lang/Throwable", "depth", "I", false)
def tyJ12 : Nat → FieldType := fun k => match k with
  | 0 => .object "java/lang/Throwable"
  | 1 => .array (.object "java/lang/StackTraceElement")
  | 2 => .object "java/util/List"
  | 3 => .object "java/lang/String"
  | 4 => .object "java/lang/Object"
  | _ => .int
abbrev wsJ120 : List Cond := u_ws RJ12 TJ12 6
theorem nmJ12 : ∀ a, a < 6 → ∀ b, b < 6 → a ≠ b → (TJ12 a).2.1 ≠ (TJ12 b).2.1 := by decide +kernel
theorem tyJ12_ok : ∀ k, k < 6 → parseFieldDescriptor (TJ12 k).2.2.1 = some (tyJ12 k) := by decide +kernel
abbrev cJ12_init : ByteArray := prog_29_method_1_code
def yJ12_init : MethodName := ⟨RJ12, "<init>", "()V"⟩
theorem dJ12_init_0 : decode cJ12_init 0 = .ok (.aload_n 0, 1) := by decide +kernel
theorem dJ12_init_1 : decode cJ12_init 1 = .ok (.invokespecial 1, 3) := by decide +kernel
theorem dJ12_init_4 : decode cJ12_init 4 = .ok (.return_, 1) := by decide +kernel
theorem q93 : (Jvm.Cond.initialized "java/lang/IllegalStateException") ∈ lw_all := lw_g (lw_at lw_m1 36 rfl) rfl
theorem q1056 : (Jvm.Cond.selects "java/lang/IllegalStateException" ({ cls := "java/lang/Throwable", name := "fillInStackTrace", desc := "()Ljava/lang/Throwable;" } : Jvm.MethodName) ({ cls := "java/lang/Throwable", name := "fillInStackTrace", desc := "()Ljava/lang/Throwable;" } : Jvm.MethodName)) ∈ lw_all := lw_g (lw_at lw_m5 39 rfl) rfl
theorem q1383 : (Jvm.Cond.instantiable "java/lang/IllegalStateException" (6 : Nat)) ∈ lw_all := lw_g (lw_at lw_m6 126 rfl) rfl
theorem q1384 : (Jvm.Cond.castable "java/lang/IllegalStateException" "java/lang/IllegalStateException") ∈ lw_tbl := lw_at lw_m6 127 rfl
theorem q1385 : (Jvm.Cond.selects "java/lang/IllegalStateException" ({ cls := "java/lang/Throwable", name := "fillInStackTrace", desc := "(I)Ljava/lang/Throwable;" } : Jvm.MethodName) ({ cls := "java/lang/Throwable", name := "fillInStackTrace", desc := "(I)Ljava/lang/Throwable;" } : Jvm.MethodName)) ∈ lw_all := lw_g (lw_at lw_m6 128 rfl) rfl
theorem q1386 : (Jvm.Cond.lays "java/lang/IllegalStateException" "java/lang/Throwable" "cause" "Ljava/lang/Throwable;") ∈ lw_all := lw_g (lw_at lw_m6 129 rfl) rfl
theorem q1387 : (Jvm.Cond.lays "java/lang/IllegalStateException" "java/lang/Throwable" "stackTrace" "[Ljava/lang/StackTraceElement;") ∈ lw_all := lw_g (lw_at lw_m6 130 rfl) rfl
theorem q1388 : (Jvm.Cond.lays "java/lang/IllegalStateException" "java/lang/Throwable" "suppressedExceptions" "Ljava/util/List;") ∈ lw_all := lw_g (lw_at lw_m6 131 rfl) rfl
theorem q1389 : (Jvm.Cond.lays "java/lang/IllegalStateException" "java/lang/Throwable" "detailMessage" "Ljava/lang/String;") ∈ lw_all := lw_g (lw_at lw_m6 132 rfl) rfl
theorem q1390 : (Jvm.Cond.lays "java/lang/IllegalStateException" "java/lang/Throwable" "backtrace" "Ljava/lang/Object;") ∈ lw_all := lw_g (lw_at lw_m6 133 rfl) rfl
theorem q1392 : (Jvm.Cond.instanceMethod ({ cls := "java/lang/IllegalStateException", name := "<init>", desc := "()V" } : Jvm.MethodName)) ∈ lw_all := lw_g (lw_at lw_m6 135 rfl) rfl
theorem q1393 : (Jvm.Cond.code ({ cls := "java/lang/IllegalStateException", name := "<init>", desc := "()V" } : Jvm.MethodName) prog_29_method_1_code (1 : Nat) (Option.none : Option Jvm.ClassFile.FieldType)) ∈ lw_all := lw_g (lw_at lw_m6 136 rfl) rfl
theorem q1394 : (Jvm.Cond.methodLink "java/lang/IllegalStateException" (1 : Nat) ({ cls := "java/lang/RuntimeException", name := "<init>", desc := "()V" } : Jvm.MethodName)) ∈ lw_all := lw_g (lw_at lw_m6 137 rfl) rfl
theorem q1395 : (Jvm.Cond.lays "java/lang/IllegalStateException" "java/lang/Throwable" "depth" "I") ∈ lw_all := lw_g (lw_at lw_m6 138 rfl) rfl
theorem q1396 : (Jvm.Cond.superclass "java/lang/IllegalStateException" "java/lang/RuntimeException") ∈ lw_all := lw_g (lw_at lw_m6 139 rfl) rfl
theorem in_J12 : ∀ w ∈ wsJ120, w ∈ lw_all := lw_in wsJ120 [1386, 1387, 1388, 1389, 1390, 1395] (by decide +kernel) (by decide +kernel)

/-! java/lang/Object -/
set_option maxRecDepth 100000
def RJ13 : String := "java/lang/Object"
abbrev cJ13_init : ByteArray := object_method_1_code
def yJ13_init : MethodName := ⟨RJ13, "<init>", "()V"⟩
theorem dJ13_init_0 : decode cJ13_init 0 = .ok (.return_, 1) := by decide +kernel
theorem q101 : (Jvm.Cond.instanceMethod ({ cls := "java/lang/Object", name := "<init>", desc := "()V" } : Jvm.MethodName)) ∈ lw_all := lw_g (lw_at lw_m1 44 rfl) rfl
theorem q102 : (Jvm.Cond.code ({ cls := "java/lang/Object", name := "<init>", desc := "()V" } : Jvm.MethodName) object_method_1_code (1 : Nat) (Option.none : Option Jvm.ClassFile.FieldType)) ∈ lw_all := lw_g (lw_at lw_m1 45 rfl) rfl

/-! PennyJudge$Run -/
set_option maxRecDepth 100000
def RX2 : String := "PennyJudge$Run"
def TX2 : u_T := fun k => match k with
  | 0 => ("PennyJudge$Run", "num", "[J", true)
  | 1 => ("PennyJudge$Run", "den", "[J", true)
  | 2 => ("PennyJudge$Run", "shown", "[Z", true)
  | 3 => ("PennyJudge$Run", "parts", "[J", true)
  | 4 => ("PennyJudge$Run", "partsShown", "Z", false)
  | 5 => ("PennyJudge$Run", "splitSet", "I", false)
  | 6 => ("PennyJudge$Run", "splitValue", "J", false)
  | 7 => ("PennyJudge$Run", "results", "[J", true)
  | 8 => ("PennyJudge$Run", "lines", "[I", true)
  | 9 => ("PennyJudge$Run", "lineCount", "I", false)
  | 10 => ("PennyJudge$Run", "carriedNum", "J", false)
  | 11 => ("PennyJudge$Run", "carriedDen", "J", false)
  | 12 => ("PennyJudge$Run", "accounts", "[J", true)
  | 13 => ("PennyJudge$Run", "leaks", "I", false)
  | 14 => ("PennyJudge$Run", "value", "[D", true)
  | 15 => ("PennyJudge$Run", "got", "[D", true)
  | 16 => ("PennyJudge$Run", "piece", "[D", true)
  | 17 => ("PennyJudge$Run", "carried", "D", false)
  | _ => ("PennyJudge$Run", "of", "LPennyJudge;", false)
def tyX2 : Nat → FieldType := fun k => match k with
  | 0 => .array .long
  | 1 => .array .long
  | 2 => .array .boolean
  | 3 => .array .long
  | 4 => .boolean
  | 5 => .int
  | 6 => .long
  | 7 => .array .long
  | 8 => .array .int
  | 9 => .int
  | 10 => .long
  | 11 => .long
  | 12 => .array .long
  | 13 => .int
  | 14 => .array .double
  | 15 => .array .double
  | 16 => .array .double
  | 17 => .double
  | _ => .object "PennyJudge"
abbrev wsX20 : List Cond := u_ws RX2 TX2 19
set_option maxRecDepth 100000 in
theorem nmX2 : ∀ a, a < 19 → ∀ b, b < 19 → a ≠ b → (TX2 a).2.1 ≠ (TX2 b).2.1 := by decide +kernel
set_option maxRecDepth 100000 in
theorem tyX2_ok : ∀ k, k < 19 → parseFieldDescriptor (TX2 k).2.2.1 = some (tyX2 k) := by decide +kernel
abbrev cX2_init : ByteArray := prog_16_method_1_code
def yX2_init : MethodName := ⟨RX2, "<init>", "()V"⟩
def dkwX2_init_4 : List UInt8 := [177]
abbrev dktX2_init_4 : List UInt8 := dkwX2_init_4 ++ []
def dkwX2_init_3 : List UInt8 := [42, 16, 8, 188, 7, 181, 0, 43, 42, 16, 12, 188, 7, 181, 0, 47, 42, 16, 8, 188, 7, 181, 0, 50]
abbrev dktX2_init_3 : List UInt8 := dkwX2_init_3 ++ dktX2_init_4
def dkwX2_init_2 : List UInt8 := [181, 0, 29, 42, 16, 12, 188, 10, 181, 0, 32, 42, 10, 181, 0, 36, 42, 16, 8, 188, 11, 181, 0, 40]
abbrev dktX2_init_2 : List UInt8 := dkwX2_init_2 ++ dktX2_init_3
def dkwX2_init_1 : List UInt8 := [188, 4, 181, 0, 18, 42, 16, 8, 188, 11, 181, 0, 22, 42, 2, 181, 0, 25, 42, 16, 12, 188, 11]
abbrev dktX2_init_1 : List UInt8 := dkwX2_init_1 ++ dktX2_init_2
def dkwX2_init_0 : List UInt8 := [42, 183, 0, 3, 42, 16, 8, 188, 11, 181, 0, 9, 42, 16, 8, 188, 11, 181, 0, 15, 42, 16, 8]
abbrev dktX2_init_0 : List UInt8 := dkwX2_init_0 ++ dktX2_init_1
theorem dksX2_init_0 : cX2_init.data.toList.drop 0 = dktX2_init_0 := by decide +kernel
theorem dksX2_init_1 : cX2_init.data.toList.drop 23 = dktX2_init_1 := dk_seg dksX2_init_0 23 rfl rfl
theorem dksX2_init_2 : cX2_init.data.toList.drop 46 = dktX2_init_2 := dk_seg dksX2_init_1 23 rfl rfl
theorem dksX2_init_3 : cX2_init.data.toList.drop 70 = dktX2_init_3 := dk_seg dksX2_init_2 24 rfl rfl
theorem dksX2_init_4 : cX2_init.data.toList.drop 94 = dktX2_init_4 := dk_seg dksX2_init_3 24 rfl rfl
theorem dX2_init_0 : decode cX2_init 0 = .ok (.aload_n 0, 1) := dk_42 (dk_at dksX2_init_0 0 rfl rfl)
theorem dX2_init_1 : decode cX2_init 1 = .ok (.invokespecial 3, 3) := dk_183 0 3 (dk_at dksX2_init_0 1 rfl rfl)
theorem dX2_init_4 : decode cX2_init 4 = .ok (.aload_n 0, 1) := dk_42 (dk_at dksX2_init_0 4 rfl rfl)
theorem dX2_init_5 : decode cX2_init 5 = .ok (.bipush 8, 2) := dk_16 8 (dk_at dksX2_init_0 5 rfl rfl)
theorem dX2_init_7 : decode cX2_init 7 = .ok (.newarray .long, 2) := dk_188_11 (dk_at dksX2_init_0 7 rfl rfl)
theorem dX2_init_9 : decode cX2_init 9 = .ok (.putfield 9, 3) := dk_181 0 9 (dk_at dksX2_init_0 9 rfl rfl)
theorem dX2_init_12 : decode cX2_init 12 = .ok (.aload_n 0, 1) := dk_42 (dk_at dksX2_init_0 12 rfl rfl)
theorem dX2_init_13 : decode cX2_init 13 = .ok (.bipush 8, 2) := dk_16 8 (dk_at dksX2_init_0 13 rfl rfl)
theorem dX2_init_15 : decode cX2_init 15 = .ok (.newarray .long, 2) := dk_188_11 (dk_at dksX2_init_0 15 rfl rfl)
theorem dX2_init_17 : decode cX2_init 17 = .ok (.putfield 15, 3) := dk_181 0 15 (dk_at dksX2_init_0 17 rfl rfl)
theorem dX2_init_20 : decode cX2_init 20 = .ok (.aload_n 0, 1) := dk_42 (dk_at dksX2_init_0 20 rfl rfl)
theorem dX2_init_21 : decode cX2_init 21 = .ok (.bipush 8, 2) := dk_16 8 (dk_at dksX2_init_0 21 rfl rfl)
theorem dX2_init_23 : decode cX2_init 23 = .ok (.newarray .boolean, 2) := dk_188_4 (dk_at dksX2_init_1 0 rfl rfl)
theorem dX2_init_25 : decode cX2_init 25 = .ok (.putfield 18, 3) := dk_181 0 18 (dk_at dksX2_init_1 2 rfl rfl)
theorem dX2_init_28 : decode cX2_init 28 = .ok (.aload_n 0, 1) := dk_42 (dk_at dksX2_init_1 5 rfl rfl)
theorem dX2_init_29 : decode cX2_init 29 = .ok (.bipush 8, 2) := dk_16 8 (dk_at dksX2_init_1 6 rfl rfl)
theorem dX2_init_31 : decode cX2_init 31 = .ok (.newarray .long, 2) := dk_188_11 (dk_at dksX2_init_1 8 rfl rfl)
theorem dX2_init_33 : decode cX2_init 33 = .ok (.putfield 22, 3) := dk_181 0 22 (dk_at dksX2_init_1 10 rfl rfl)
theorem dX2_init_36 : decode cX2_init 36 = .ok (.aload_n 0, 1) := dk_42 (dk_at dksX2_init_1 13 rfl rfl)
theorem dX2_init_37 : decode cX2_init 37 = .ok (.iconst (-1), 1) := dk_2 (dk_at dksX2_init_1 14 rfl rfl)
theorem dX2_init_38 : decode cX2_init 38 = .ok (.putfield 25, 3) := dk_181 0 25 (dk_at dksX2_init_1 15 rfl rfl)
theorem dX2_init_41 : decode cX2_init 41 = .ok (.aload_n 0, 1) := dk_42 (dk_at dksX2_init_1 18 rfl rfl)
theorem dX2_init_42 : decode cX2_init 42 = .ok (.bipush 12, 2) := dk_16 12 (dk_at dksX2_init_1 19 rfl rfl)
theorem dX2_init_44 : decode cX2_init 44 = .ok (.newarray .long, 2) := dk_188_11 (dk_at dksX2_init_1 21 rfl rfl)
theorem dX2_init_46 : decode cX2_init 46 = .ok (.putfield 29, 3) := dk_181 0 29 (dk_at dksX2_init_2 0 rfl rfl)
theorem dX2_init_49 : decode cX2_init 49 = .ok (.aload_n 0, 1) := dk_42 (dk_at dksX2_init_2 3 rfl rfl)
theorem dX2_init_50 : decode cX2_init 50 = .ok (.bipush 12, 2) := dk_16 12 (dk_at dksX2_init_2 4 rfl rfl)
theorem dX2_init_52 : decode cX2_init 52 = .ok (.newarray .int, 2) := dk_188_10 (dk_at dksX2_init_2 6 rfl rfl)
theorem dX2_init_54 : decode cX2_init 54 = .ok (.putfield 32, 3) := dk_181 0 32 (dk_at dksX2_init_2 8 rfl rfl)
theorem dX2_init_57 : decode cX2_init 57 = .ok (.aload_n 0, 1) := dk_42 (dk_at dksX2_init_2 11 rfl rfl)
theorem dX2_init_58 : decode cX2_init 58 = .ok (.lconst 1, 1) := dk_10 (dk_at dksX2_init_2 12 rfl rfl)
theorem dX2_init_59 : decode cX2_init 59 = .ok (.putfield 36, 3) := dk_181 0 36 (dk_at dksX2_init_2 13 rfl rfl)
theorem dX2_init_62 : decode cX2_init 62 = .ok (.aload_n 0, 1) := dk_42 (dk_at dksX2_init_2 16 rfl rfl)
theorem dX2_init_63 : decode cX2_init 63 = .ok (.bipush 8, 2) := dk_16 8 (dk_at dksX2_init_2 17 rfl rfl)
theorem dX2_init_65 : decode cX2_init 65 = .ok (.newarray .long, 2) := dk_188_11 (dk_at dksX2_init_2 19 rfl rfl)
theorem dX2_init_67 : decode cX2_init 67 = .ok (.putfield 40, 3) := dk_181 0 40 (dk_at dksX2_init_2 21 rfl rfl)
theorem dX2_init_70 : decode cX2_init 70 = .ok (.aload_n 0, 1) := dk_42 (dk_at dksX2_init_3 0 rfl rfl)
theorem dX2_init_71 : decode cX2_init 71 = .ok (.bipush 8, 2) := dk_16 8 (dk_at dksX2_init_3 1 rfl rfl)
theorem dX2_init_73 : decode cX2_init 73 = .ok (.newarray .double, 2) := dk_188_7 (dk_at dksX2_init_3 3 rfl rfl)
theorem dX2_init_75 : decode cX2_init 75 = .ok (.putfield 43, 3) := dk_181 0 43 (dk_at dksX2_init_3 5 rfl rfl)
theorem dX2_init_78 : decode cX2_init 78 = .ok (.aload_n 0, 1) := dk_42 (dk_at dksX2_init_3 8 rfl rfl)
theorem dX2_init_79 : decode cX2_init 79 = .ok (.bipush 12, 2) := dk_16 12 (dk_at dksX2_init_3 9 rfl rfl)
theorem dX2_init_81 : decode cX2_init 81 = .ok (.newarray .double, 2) := dk_188_7 (dk_at dksX2_init_3 11 rfl rfl)
theorem dX2_init_83 : decode cX2_init 83 = .ok (.putfield 47, 3) := dk_181 0 47 (dk_at dksX2_init_3 13 rfl rfl)
theorem dX2_init_86 : decode cX2_init 86 = .ok (.aload_n 0, 1) := dk_42 (dk_at dksX2_init_3 16 rfl rfl)
theorem dX2_init_87 : decode cX2_init 87 = .ok (.bipush 8, 2) := dk_16 8 (dk_at dksX2_init_3 17 rfl rfl)
theorem dX2_init_89 : decode cX2_init 89 = .ok (.newarray .double, 2) := dk_188_7 (dk_at dksX2_init_3 19 rfl rfl)
theorem dX2_init_91 : decode cX2_init 91 = .ok (.putfield 50, 3) := dk_181 0 50 (dk_at dksX2_init_3 21 rfl rfl)
theorem dX2_init_94 : decode cX2_init 94 = .ok (.return_, 1) := dk_177 (dk_at dksX2_init_4 0 rfl rfl)
abbrev cX2_begin : ByteArray := prog_16_method_2_code
def yX2_begin : MethodName := ⟨RX2, "begin", "()V"⟩
def dkwX2_begin_3 : List UInt8 := [42, 180, 0, 47, 27, 14, 82, 132, 1, 1, 167, 255, 233, 42, 3, 181, 0, 53, 42, 2, 181, 0, 25, 177]
abbrev dktX2_begin_3 : List UInt8 := dkwX2_begin_3 ++ []
def dkwX2_begin_2 : List UInt8 := [27, 14, 82, 132, 1, 1, 167, 255, 205, 3, 60, 27, 16, 12, 162, 0, 23, 42, 180, 0, 29, 27, 9, 80]
abbrev dktX2_begin_2 : List UInt8 := dkwX2_begin_2 ++ dktX2_begin_3
def dkwX2_begin_1 : List UInt8 := [180, 0, 18, 27, 3, 84, 42, 180, 0, 22, 27, 9, 80, 42, 180, 0, 43, 27, 14, 82, 42, 180, 0, 50]
abbrev dktX2_begin_1 : List UInt8 := dkwX2_begin_1 ++ dktX2_begin_2
def dkwX2_begin_0 : List UInt8 := [3, 60, 27, 16, 8, 162, 0, 51, 42, 180, 0, 9, 27, 9, 80, 42, 180, 0, 15, 27, 10, 80, 42]
abbrev dktX2_begin_0 : List UInt8 := dkwX2_begin_0 ++ dktX2_begin_1
theorem dksX2_begin_0 : cX2_begin.data.toList.drop 0 = dktX2_begin_0 := by decide +kernel
theorem dksX2_begin_1 : cX2_begin.data.toList.drop 23 = dktX2_begin_1 := dk_seg dksX2_begin_0 23 rfl rfl
theorem dksX2_begin_2 : cX2_begin.data.toList.drop 47 = dktX2_begin_2 := dk_seg dksX2_begin_1 24 rfl rfl
theorem dksX2_begin_3 : cX2_begin.data.toList.drop 71 = dktX2_begin_3 := dk_seg dksX2_begin_2 24 rfl rfl
theorem dX2_begin_0 : decode cX2_begin 0 = .ok (.iconst 0, 1) := dk_3 (dk_at dksX2_begin_0 0 rfl rfl)
theorem dX2_begin_1 : decode cX2_begin 1 = .ok (.istore_n 1, 1) := dk_60 (dk_at dksX2_begin_0 1 rfl rfl)
theorem dX2_begin_2 : decode cX2_begin 2 = .ok (.iload_n 1, 1) := dk_27 (dk_at dksX2_begin_0 2 rfl rfl)
theorem dX2_begin_3 : decode cX2_begin 3 = .ok (.bipush 8, 2) := dk_16 8 (dk_at dksX2_begin_0 3 rfl rfl)
theorem dX2_begin_5 : decode cX2_begin 5 = .ok (.if_icmp .ge 51, 3) := dk_162 0 51 (dk_at dksX2_begin_0 5 rfl rfl)
theorem dX2_begin_8 : decode cX2_begin 8 = .ok (.aload_n 0, 1) := dk_42 (dk_at dksX2_begin_0 8 rfl rfl)
theorem dX2_begin_9 : decode cX2_begin 9 = .ok (.getfield 9, 3) := dk_180 0 9 (dk_at dksX2_begin_0 9 rfl rfl)
theorem dX2_begin_12 : decode cX2_begin 12 = .ok (.iload_n 1, 1) := dk_27 (dk_at dksX2_begin_0 12 rfl rfl)
theorem dX2_begin_13 : decode cX2_begin 13 = .ok (.lconst 0, 1) := dk_9 (dk_at dksX2_begin_0 13 rfl rfl)
theorem dX2_begin_14 : decode cX2_begin 14 = .ok (.lastore, 1) := dk_80 (dk_at dksX2_begin_0 14 rfl rfl)
theorem dX2_begin_15 : decode cX2_begin 15 = .ok (.aload_n 0, 1) := dk_42 (dk_at dksX2_begin_0 15 rfl rfl)
theorem dX2_begin_16 : decode cX2_begin 16 = .ok (.getfield 15, 3) := dk_180 0 15 (dk_at dksX2_begin_0 16 rfl rfl)
theorem dX2_begin_19 : decode cX2_begin 19 = .ok (.iload_n 1, 1) := dk_27 (dk_at dksX2_begin_0 19 rfl rfl)
theorem dX2_begin_20 : decode cX2_begin 20 = .ok (.lconst 1, 1) := dk_10 (dk_at dksX2_begin_0 20 rfl rfl)
theorem dX2_begin_21 : decode cX2_begin 21 = .ok (.lastore, 1) := dk_80 (dk_at dksX2_begin_0 21 rfl rfl)
theorem dX2_begin_22 : decode cX2_begin 22 = .ok (.aload_n 0, 1) := dk_42 (dk_at dksX2_begin_0 22 rfl rfl)
theorem dX2_begin_23 : decode cX2_begin 23 = .ok (.getfield 18, 3) := dk_180 0 18 (dk_at dksX2_begin_1 0 rfl rfl)
theorem dX2_begin_26 : decode cX2_begin 26 = .ok (.iload_n 1, 1) := dk_27 (dk_at dksX2_begin_1 3 rfl rfl)
theorem dX2_begin_27 : decode cX2_begin 27 = .ok (.iconst 0, 1) := dk_3 (dk_at dksX2_begin_1 4 rfl rfl)
theorem dX2_begin_28 : decode cX2_begin 28 = .ok (.bastore, 1) := dk_84 (dk_at dksX2_begin_1 5 rfl rfl)
theorem dX2_begin_29 : decode cX2_begin 29 = .ok (.aload_n 0, 1) := dk_42 (dk_at dksX2_begin_1 6 rfl rfl)
theorem dX2_begin_30 : decode cX2_begin 30 = .ok (.getfield 22, 3) := dk_180 0 22 (dk_at dksX2_begin_1 7 rfl rfl)
theorem dX2_begin_33 : decode cX2_begin 33 = .ok (.iload_n 1, 1) := dk_27 (dk_at dksX2_begin_1 10 rfl rfl)
theorem dX2_begin_34 : decode cX2_begin 34 = .ok (.lconst 0, 1) := dk_9 (dk_at dksX2_begin_1 11 rfl rfl)
theorem dX2_begin_35 : decode cX2_begin 35 = .ok (.lastore, 1) := dk_80 (dk_at dksX2_begin_1 12 rfl rfl)
theorem dX2_begin_36 : decode cX2_begin 36 = .ok (.aload_n 0, 1) := dk_42 (dk_at dksX2_begin_1 13 rfl rfl)
theorem dX2_begin_37 : decode cX2_begin 37 = .ok (.getfield 43, 3) := dk_180 0 43 (dk_at dksX2_begin_1 14 rfl rfl)
theorem dX2_begin_40 : decode cX2_begin 40 = .ok (.iload_n 1, 1) := dk_27 (dk_at dksX2_begin_1 17 rfl rfl)
theorem dX2_begin_41 : decode cX2_begin 41 = .ok (.dconst 0, 1) := dk_14 (dk_at dksX2_begin_1 18 rfl rfl)
theorem dX2_begin_42 : decode cX2_begin 42 = .ok (.dastore, 1) := dk_82 (dk_at dksX2_begin_1 19 rfl rfl)
theorem dX2_begin_43 : decode cX2_begin 43 = .ok (.aload_n 0, 1) := dk_42 (dk_at dksX2_begin_1 20 rfl rfl)
theorem dX2_begin_44 : decode cX2_begin 44 = .ok (.getfield 50, 3) := dk_180 0 50 (dk_at dksX2_begin_1 21 rfl rfl)
theorem dX2_begin_47 : decode cX2_begin 47 = .ok (.iload_n 1, 1) := dk_27 (dk_at dksX2_begin_2 0 rfl rfl)
theorem dX2_begin_48 : decode cX2_begin 48 = .ok (.dconst 0, 1) := dk_14 (dk_at dksX2_begin_2 1 rfl rfl)
theorem dX2_begin_49 : decode cX2_begin 49 = .ok (.dastore, 1) := dk_82 (dk_at dksX2_begin_2 2 rfl rfl)
theorem dX2_begin_50 : decode cX2_begin 50 = .ok (.iinc 1 1, 3) := dk_132 1 1 (dk_at dksX2_begin_2 3 rfl rfl)
theorem dX2_begin_53 : decode cX2_begin 53 = .ok (.goto (-51), 3) := dk_167 255 205 (dk_at dksX2_begin_2 6 rfl rfl)
theorem dX2_begin_56 : decode cX2_begin 56 = .ok (.iconst 0, 1) := dk_3 (dk_at dksX2_begin_2 9 rfl rfl)
theorem dX2_begin_57 : decode cX2_begin 57 = .ok (.istore_n 1, 1) := dk_60 (dk_at dksX2_begin_2 10 rfl rfl)
theorem dX2_begin_58 : decode cX2_begin 58 = .ok (.iload_n 1, 1) := dk_27 (dk_at dksX2_begin_2 11 rfl rfl)
theorem dX2_begin_59 : decode cX2_begin 59 = .ok (.bipush 12, 2) := dk_16 12 (dk_at dksX2_begin_2 12 rfl rfl)
theorem dX2_begin_61 : decode cX2_begin 61 = .ok (.if_icmp .ge 23, 3) := dk_162 0 23 (dk_at dksX2_begin_2 14 rfl rfl)
theorem dX2_begin_64 : decode cX2_begin 64 = .ok (.aload_n 0, 1) := dk_42 (dk_at dksX2_begin_2 17 rfl rfl)
theorem dX2_begin_65 : decode cX2_begin 65 = .ok (.getfield 29, 3) := dk_180 0 29 (dk_at dksX2_begin_2 18 rfl rfl)
theorem dX2_begin_68 : decode cX2_begin 68 = .ok (.iload_n 1, 1) := dk_27 (dk_at dksX2_begin_2 21 rfl rfl)
theorem dX2_begin_69 : decode cX2_begin 69 = .ok (.lconst 0, 1) := dk_9 (dk_at dksX2_begin_2 22 rfl rfl)
theorem dX2_begin_70 : decode cX2_begin 70 = .ok (.lastore, 1) := dk_80 (dk_at dksX2_begin_2 23 rfl rfl)
theorem dX2_begin_71 : decode cX2_begin 71 = .ok (.aload_n 0, 1) := dk_42 (dk_at dksX2_begin_3 0 rfl rfl)
theorem dX2_begin_72 : decode cX2_begin 72 = .ok (.getfield 47, 3) := dk_180 0 47 (dk_at dksX2_begin_3 1 rfl rfl)
theorem dX2_begin_75 : decode cX2_begin 75 = .ok (.iload_n 1, 1) := dk_27 (dk_at dksX2_begin_3 4 rfl rfl)
theorem dX2_begin_76 : decode cX2_begin 76 = .ok (.dconst 0, 1) := dk_14 (dk_at dksX2_begin_3 5 rfl rfl)
theorem dX2_begin_77 : decode cX2_begin 77 = .ok (.dastore, 1) := dk_82 (dk_at dksX2_begin_3 6 rfl rfl)
theorem dX2_begin_78 : decode cX2_begin 78 = .ok (.iinc 1 1, 3) := dk_132 1 1 (dk_at dksX2_begin_3 7 rfl rfl)
theorem dX2_begin_81 : decode cX2_begin 81 = .ok (.goto (-23), 3) := dk_167 255 233 (dk_at dksX2_begin_3 10 rfl rfl)
theorem dX2_begin_84 : decode cX2_begin 84 = .ok (.aload_n 0, 1) := dk_42 (dk_at dksX2_begin_3 13 rfl rfl)
theorem dX2_begin_85 : decode cX2_begin 85 = .ok (.iconst 0, 1) := dk_3 (dk_at dksX2_begin_3 14 rfl rfl)
theorem dX2_begin_86 : decode cX2_begin 86 = .ok (.putfield 53, 3) := dk_181 0 53 (dk_at dksX2_begin_3 15 rfl rfl)
theorem dX2_begin_89 : decode cX2_begin 89 = .ok (.aload_n 0, 1) := dk_42 (dk_at dksX2_begin_3 18 rfl rfl)
theorem dX2_begin_90 : decode cX2_begin 90 = .ok (.iconst (-1), 1) := dk_2 (dk_at dksX2_begin_3 19 rfl rfl)
theorem dX2_begin_91 : decode cX2_begin 91 = .ok (.putfield 25, 3) := dk_181 0 25 (dk_at dksX2_begin_3 20 rfl rfl)
theorem dX2_begin_94 : decode cX2_begin 94 = .ok (.return_, 1) := dk_177 (dk_at dksX2_begin_3 23 rfl rfl)
abbrev cX2_bare : ByteArray := prog_16_method_3_code
def yX2_bare : MethodName := ⟨RX2, "bare", "()V"⟩
def dkwX2_bare_1 : List UInt8 := [181, 0, 57, 42, 9, 181, 0, 60, 42, 10, 181, 0, 36, 42, 14, 181, 0, 63, 177]
abbrev dktX2_bare_1 : List UInt8 := dkwX2_bare_1 ++ []
def dkwX2_bare_0 : List UInt8 := [3, 60, 27, 16, 8, 162, 0, 16, 42, 180, 0, 40, 27, 9, 80, 132, 1, 1, 167, 255, 240, 42, 3]
abbrev dktX2_bare_0 : List UInt8 := dkwX2_bare_0 ++ dktX2_bare_1
theorem dksX2_bare_0 : cX2_bare.data.toList.drop 0 = dktX2_bare_0 := by decide +kernel
theorem dksX2_bare_1 : cX2_bare.data.toList.drop 23 = dktX2_bare_1 := dk_seg dksX2_bare_0 23 rfl rfl
theorem dX2_bare_0 : decode cX2_bare 0 = .ok (.iconst 0, 1) := dk_3 (dk_at dksX2_bare_0 0 rfl rfl)
theorem dX2_bare_1 : decode cX2_bare 1 = .ok (.istore_n 1, 1) := dk_60 (dk_at dksX2_bare_0 1 rfl rfl)
theorem dX2_bare_2 : decode cX2_bare 2 = .ok (.iload_n 1, 1) := dk_27 (dk_at dksX2_bare_0 2 rfl rfl)
theorem dX2_bare_3 : decode cX2_bare 3 = .ok (.bipush 8, 2) := dk_16 8 (dk_at dksX2_bare_0 3 rfl rfl)
theorem dX2_bare_5 : decode cX2_bare 5 = .ok (.if_icmp .ge 16, 3) := dk_162 0 16 (dk_at dksX2_bare_0 5 rfl rfl)
theorem dX2_bare_8 : decode cX2_bare 8 = .ok (.aload_n 0, 1) := dk_42 (dk_at dksX2_bare_0 8 rfl rfl)
theorem dX2_bare_9 : decode cX2_bare 9 = .ok (.getfield 40, 3) := dk_180 0 40 (dk_at dksX2_bare_0 9 rfl rfl)
theorem dX2_bare_12 : decode cX2_bare 12 = .ok (.iload_n 1, 1) := dk_27 (dk_at dksX2_bare_0 12 rfl rfl)
theorem dX2_bare_13 : decode cX2_bare 13 = .ok (.lconst 0, 1) := dk_9 (dk_at dksX2_bare_0 13 rfl rfl)
theorem dX2_bare_14 : decode cX2_bare 14 = .ok (.lastore, 1) := dk_80 (dk_at dksX2_bare_0 14 rfl rfl)
theorem dX2_bare_15 : decode cX2_bare 15 = .ok (.iinc 1 1, 3) := dk_132 1 1 (dk_at dksX2_bare_0 15 rfl rfl)
theorem dX2_bare_18 : decode cX2_bare 18 = .ok (.goto (-16), 3) := dk_167 255 240 (dk_at dksX2_bare_0 18 rfl rfl)
theorem dX2_bare_21 : decode cX2_bare 21 = .ok (.aload_n 0, 1) := dk_42 (dk_at dksX2_bare_0 21 rfl rfl)
theorem dX2_bare_22 : decode cX2_bare 22 = .ok (.iconst 0, 1) := dk_3 (dk_at dksX2_bare_0 22 rfl rfl)
theorem dX2_bare_23 : decode cX2_bare 23 = .ok (.putfield 57, 3) := dk_181 0 57 (dk_at dksX2_bare_1 0 rfl rfl)
theorem dX2_bare_26 : decode cX2_bare 26 = .ok (.aload_n 0, 1) := dk_42 (dk_at dksX2_bare_1 3 rfl rfl)
theorem dX2_bare_27 : decode cX2_bare 27 = .ok (.lconst 0, 1) := dk_9 (dk_at dksX2_bare_1 4 rfl rfl)
theorem dX2_bare_28 : decode cX2_bare 28 = .ok (.putfield 60, 3) := dk_181 0 60 (dk_at dksX2_bare_1 5 rfl rfl)
theorem dX2_bare_31 : decode cX2_bare 31 = .ok (.aload_n 0, 1) := dk_42 (dk_at dksX2_bare_1 8 rfl rfl)
theorem dX2_bare_32 : decode cX2_bare 32 = .ok (.lconst 1, 1) := dk_10 (dk_at dksX2_bare_1 9 rfl rfl)
theorem dX2_bare_33 : decode cX2_bare 33 = .ok (.putfield 36, 3) := dk_181 0 36 (dk_at dksX2_bare_1 10 rfl rfl)
theorem dX2_bare_36 : decode cX2_bare 36 = .ok (.aload_n 0, 1) := dk_42 (dk_at dksX2_bare_1 13 rfl rfl)
theorem dX2_bare_37 : decode cX2_bare 37 = .ok (.dconst 0, 1) := dk_14 (dk_at dksX2_bare_1 14 rfl rfl)
theorem dX2_bare_38 : decode cX2_bare 38 = .ok (.putfield 63, 3) := dk_181 0 63 (dk_at dksX2_bare_1 15 rfl rfl)
theorem dX2_bare_41 : decode cX2_bare 41 = .ok (.return_, 1) := dk_177 (dk_at dksX2_bare_1 18 rfl rfl)
abbrev cX2_bill : ByteArray := prog_16_method_4_code
def yX2_bill : MethodName := ⟨RX2, "bill", "([II)V"⟩
def dkwX2_bill_1 : List UInt8 := [181, 0, 67, 177]
abbrev dktX2_bill_1 : List UInt8 := dkwX2_bill_1 ++ []
def dkwX2_bill_0 : List UInt8 := [3, 62, 29, 28, 162, 0, 18, 42, 180, 0, 32, 29, 43, 29, 46, 79, 132, 3, 1, 167, 255, 239, 42, 28]
abbrev dktX2_bill_0 : List UInt8 := dkwX2_bill_0 ++ dktX2_bill_1
theorem dksX2_bill_0 : cX2_bill.data.toList.drop 0 = dktX2_bill_0 := by decide +kernel
theorem dksX2_bill_1 : cX2_bill.data.toList.drop 24 = dktX2_bill_1 := dk_seg dksX2_bill_0 24 rfl rfl
theorem dX2_bill_0 : decode cX2_bill 0 = .ok (.iconst 0, 1) := dk_3 (dk_at dksX2_bill_0 0 rfl rfl)
theorem dX2_bill_1 : decode cX2_bill 1 = .ok (.istore_n 3, 1) := dk_62 (dk_at dksX2_bill_0 1 rfl rfl)
theorem dX2_bill_2 : decode cX2_bill 2 = .ok (.iload_n 3, 1) := dk_29 (dk_at dksX2_bill_0 2 rfl rfl)
theorem dX2_bill_3 : decode cX2_bill 3 = .ok (.iload_n 2, 1) := dk_28 (dk_at dksX2_bill_0 3 rfl rfl)
theorem dX2_bill_4 : decode cX2_bill 4 = .ok (.if_icmp .ge 18, 3) := dk_162 0 18 (dk_at dksX2_bill_0 4 rfl rfl)
theorem dX2_bill_7 : decode cX2_bill 7 = .ok (.aload_n 0, 1) := dk_42 (dk_at dksX2_bill_0 7 rfl rfl)
theorem dX2_bill_8 : decode cX2_bill 8 = .ok (.getfield 32, 3) := dk_180 0 32 (dk_at dksX2_bill_0 8 rfl rfl)
theorem dX2_bill_11 : decode cX2_bill 11 = .ok (.iload_n 3, 1) := dk_29 (dk_at dksX2_bill_0 11 rfl rfl)
theorem dX2_bill_12 : decode cX2_bill 12 = .ok (.aload_n 1, 1) := dk_43 (dk_at dksX2_bill_0 12 rfl rfl)
theorem dX2_bill_13 : decode cX2_bill 13 = .ok (.iload_n 3, 1) := dk_29 (dk_at dksX2_bill_0 13 rfl rfl)
theorem dX2_bill_14 : decode cX2_bill 14 = .ok (.iaload, 1) := dk_46 (dk_at dksX2_bill_0 14 rfl rfl)
theorem dX2_bill_15 : decode cX2_bill 15 = .ok (.iastore, 1) := dk_79 (dk_at dksX2_bill_0 15 rfl rfl)
theorem dX2_bill_16 : decode cX2_bill 16 = .ok (.iinc 3 1, 3) := dk_132 3 1 (dk_at dksX2_bill_0 16 rfl rfl)
theorem dX2_bill_19 : decode cX2_bill 19 = .ok (.goto (-17), 3) := dk_167 255 239 (dk_at dksX2_bill_0 19 rfl rfl)
theorem dX2_bill_22 : decode cX2_bill 22 = .ok (.aload_n 0, 1) := dk_42 (dk_at dksX2_bill_0 22 rfl rfl)
theorem dX2_bill_23 : decode cX2_bill 23 = .ok (.iload_n 2, 1) := dk_28 (dk_at dksX2_bill_0 23 rfl rfl)
theorem dX2_bill_24 : decode cX2_bill 24 = .ok (.putfield 67, 3) := dk_181 0 67 (dk_at dksX2_bill_1 0 rfl rfl)
theorem dX2_bill_27 : decode cX2_bill 27 = .ok (.return_, 1) := dk_177 (dk_at dksX2_bill_1 3 rfl rfl)
abbrev cX2_put : ByteArray := prog_16_method_5_code
def yX2_put : MethodName := ⟨RX2, "put", "(IJJ)I"⟩
def dkwX2_put_2 : List UInt8 := [158, 0, 6, 16, 250, 172, 42, 180, 0, 9, 27, 22, 8, 80, 42, 180, 0, 15, 27, 22, 10, 80, 3, 172]
abbrev dktX2_put_2 : List UInt8 := dkwX2_put_2 ++ []
def dkwX2_put_1 : List UInt8 := [20, 0, 74, 148, 157, 0, 21, 22, 8, 20, 0, 76, 148, 155, 0, 12, 22, 10, 20, 0, 78, 148]
abbrev dktX2_put_1 : List UInt8 := dkwX2_put_1 ++ dktX2_put_2
def dkwX2_put_0 : List UInt8 := [32, 22, 4, 184, 0, 70, 55, 6, 32, 22, 6, 109, 55, 8, 22, 4, 22, 6, 109, 55, 10, 22, 8]
abbrev dktX2_put_0 : List UInt8 := dkwX2_put_0 ++ dktX2_put_1
theorem dksX2_put_0 : cX2_put.data.toList.drop 0 = dktX2_put_0 := by decide +kernel
theorem dksX2_put_1 : cX2_put.data.toList.drop 23 = dktX2_put_1 := dk_seg dksX2_put_0 23 rfl rfl
theorem dksX2_put_2 : cX2_put.data.toList.drop 45 = dktX2_put_2 := dk_seg dksX2_put_1 22 rfl rfl
theorem dX2_put_0 : decode cX2_put 0 = .ok (.lload_n 2, 1) := dk_32 (dk_at dksX2_put_0 0 rfl rfl)
theorem dX2_put_1 : decode cX2_put 1 = .ok (.lload 4, 2) := dk_22 4 (dk_at dksX2_put_0 1 rfl rfl)
theorem dX2_put_3 : decode cX2_put 3 = .ok (.invokestatic 70, 3) := dk_184 0 70 (dk_at dksX2_put_0 3 rfl rfl)
theorem dX2_put_6 : decode cX2_put 6 = .ok (.lstore 6, 2) := dk_55 6 (dk_at dksX2_put_0 6 rfl rfl)
theorem dX2_put_8 : decode cX2_put 8 = .ok (.lload_n 2, 1) := dk_32 (dk_at dksX2_put_0 8 rfl rfl)
theorem dX2_put_9 : decode cX2_put 9 = .ok (.lload 6, 2) := dk_22 6 (dk_at dksX2_put_0 9 rfl rfl)
theorem dX2_put_11 : decode cX2_put 11 = .ok (.ldiv, 1) := dk_109 (dk_at dksX2_put_0 11 rfl rfl)
theorem dX2_put_12 : decode cX2_put 12 = .ok (.lstore 8, 2) := dk_55 8 (dk_at dksX2_put_0 12 rfl rfl)
theorem dX2_put_14 : decode cX2_put 14 = .ok (.lload 4, 2) := dk_22 4 (dk_at dksX2_put_0 14 rfl rfl)
theorem dX2_put_16 : decode cX2_put 16 = .ok (.lload 6, 2) := dk_22 6 (dk_at dksX2_put_0 16 rfl rfl)
theorem dX2_put_18 : decode cX2_put 18 = .ok (.ldiv, 1) := dk_109 (dk_at dksX2_put_0 18 rfl rfl)
theorem dX2_put_19 : decode cX2_put 19 = .ok (.lstore 10, 2) := dk_55 10 (dk_at dksX2_put_0 19 rfl rfl)
theorem dX2_put_21 : decode cX2_put 21 = .ok (.lload 8, 2) := dk_22 8 (dk_at dksX2_put_0 21 rfl rfl)
theorem dX2_put_23 : decode cX2_put 23 = .ok (.ldc2_w 74, 3) := dk_20 0 74 (dk_at dksX2_put_1 0 rfl rfl)
theorem dX2_put_26 : decode cX2_put 26 = .ok (.lcmp, 1) := dk_148 (dk_at dksX2_put_1 3 rfl rfl)
theorem dX2_put_27 : decode cX2_put 27 = .ok (.ifCond .gt 21, 3) := dk_157 0 21 (dk_at dksX2_put_1 4 rfl rfl)
theorem dX2_put_30 : decode cX2_put 30 = .ok (.lload 8, 2) := dk_22 8 (dk_at dksX2_put_1 7 rfl rfl)
theorem dX2_put_32 : decode cX2_put 32 = .ok (.ldc2_w 76, 3) := dk_20 0 76 (dk_at dksX2_put_1 9 rfl rfl)
theorem dX2_put_35 : decode cX2_put 35 = .ok (.lcmp, 1) := dk_148 (dk_at dksX2_put_1 12 rfl rfl)
theorem dX2_put_36 : decode cX2_put 36 = .ok (.ifCond .lt 12, 3) := dk_155 0 12 (dk_at dksX2_put_1 13 rfl rfl)
theorem dX2_put_39 : decode cX2_put 39 = .ok (.lload 10, 2) := dk_22 10 (dk_at dksX2_put_1 16 rfl rfl)
theorem dX2_put_41 : decode cX2_put 41 = .ok (.ldc2_w 78, 3) := dk_20 0 78 (dk_at dksX2_put_1 18 rfl rfl)
theorem dX2_put_44 : decode cX2_put 44 = .ok (.lcmp, 1) := dk_148 (dk_at dksX2_put_1 21 rfl rfl)
theorem dX2_put_45 : decode cX2_put 45 = .ok (.ifCond .le 6, 3) := dk_158 0 6 (dk_at dksX2_put_2 0 rfl rfl)
theorem dX2_put_48 : decode cX2_put 48 = .ok (.bipush (-6), 2) := dk_16 250 (dk_at dksX2_put_2 3 rfl rfl)
theorem dX2_put_50 : decode cX2_put 50 = .ok (.ireturn, 1) := dk_172 (dk_at dksX2_put_2 5 rfl rfl)
theorem dX2_put_51 : decode cX2_put 51 = .ok (.aload_n 0, 1) := dk_42 (dk_at dksX2_put_2 6 rfl rfl)
theorem dX2_put_52 : decode cX2_put 52 = .ok (.getfield 9, 3) := dk_180 0 9 (dk_at dksX2_put_2 7 rfl rfl)
theorem dX2_put_55 : decode cX2_put 55 = .ok (.iload_n 1, 1) := dk_27 (dk_at dksX2_put_2 10 rfl rfl)
theorem dX2_put_56 : decode cX2_put 56 = .ok (.lload 8, 2) := dk_22 8 (dk_at dksX2_put_2 11 rfl rfl)
theorem dX2_put_58 : decode cX2_put 58 = .ok (.lastore, 1) := dk_80 (dk_at dksX2_put_2 13 rfl rfl)
theorem dX2_put_59 : decode cX2_put 59 = .ok (.aload_n 0, 1) := dk_42 (dk_at dksX2_put_2 14 rfl rfl)
theorem dX2_put_60 : decode cX2_put 60 = .ok (.getfield 15, 3) := dk_180 0 15 (dk_at dksX2_put_2 15 rfl rfl)
theorem dX2_put_63 : decode cX2_put 63 = .ok (.iload_n 1, 1) := dk_27 (dk_at dksX2_put_2 18 rfl rfl)
theorem dX2_put_64 : decode cX2_put 64 = .ok (.lload 10, 2) := dk_22 10 (dk_at dksX2_put_2 19 rfl rfl)
theorem dX2_put_66 : decode cX2_put 66 = .ok (.lastore, 1) := dk_80 (dk_at dksX2_put_2 21 rfl rfl)
theorem dX2_put_67 : decode cX2_put 67 = .ok (.iconst 0, 1) := dk_3 (dk_at dksX2_put_2 22 rfl rfl)
theorem dX2_put_68 : decode cX2_put 68 = .ok (.ireturn, 1) := dk_172 (dk_at dksX2_put_2 23 rfl rfl)
abbrev cX2_isWhole : ByteArray := prog_16_method_6_code
def yX2_isWhole : MethodName := ⟨RX2, "isWhole", "(I)Z"⟩
def dkwX2_isWhole_0 : List UInt8 := [42, 180, 0, 15, 27, 47, 10, 148, 154, 0, 7, 4, 167, 0, 4, 3, 172]
abbrev dktX2_isWhole_0 : List UInt8 := dkwX2_isWhole_0 ++ []
theorem dksX2_isWhole_0 : cX2_isWhole.data.toList.drop 0 = dktX2_isWhole_0 := by decide +kernel
theorem dX2_isWhole_0 : decode cX2_isWhole 0 = .ok (.aload_n 0, 1) := dk_42 (dk_at dksX2_isWhole_0 0 rfl rfl)
theorem dX2_isWhole_1 : decode cX2_isWhole 1 = .ok (.getfield 15, 3) := dk_180 0 15 (dk_at dksX2_isWhole_0 1 rfl rfl)
theorem dX2_isWhole_4 : decode cX2_isWhole 4 = .ok (.iload_n 1, 1) := dk_27 (dk_at dksX2_isWhole_0 4 rfl rfl)
theorem dX2_isWhole_5 : decode cX2_isWhole 5 = .ok (.laload, 1) := dk_47 (dk_at dksX2_isWhole_0 5 rfl rfl)
theorem dX2_isWhole_6 : decode cX2_isWhole 6 = .ok (.lconst 1, 1) := dk_10 (dk_at dksX2_isWhole_0 6 rfl rfl)
theorem dX2_isWhole_7 : decode cX2_isWhole 7 = .ok (.lcmp, 1) := dk_148 (dk_at dksX2_isWhole_0 7 rfl rfl)
theorem dX2_isWhole_8 : decode cX2_isWhole 8 = .ok (.ifCond .ne 7, 3) := dk_154 0 7 (dk_at dksX2_isWhole_0 8 rfl rfl)
theorem dX2_isWhole_11 : decode cX2_isWhole 11 = .ok (.iconst 1, 1) := dk_4 (dk_at dksX2_isWhole_0 11 rfl rfl)
theorem dX2_isWhole_12 : decode cX2_isWhole 12 = .ok (.goto 4, 3) := dk_167 0 4 (dk_at dksX2_isWhole_0 12 rfl rfl)
theorem dX2_isWhole_15 : decode cX2_isWhole 15 = .ok (.iconst 0, 1) := dk_3 (dk_at dksX2_isWhole_0 15 rfl rfl)
theorem dX2_isWhole_16 : decode cX2_isWhole 16 = .ok (.ireturn, 1) := dk_172 (dk_at dksX2_isWhole_0 16 rfl rfl)
abbrev cX2_p : ByteArray := prog_16_method_7_code
def yX2_p : MethodName := ⟨RX2, "p", "(I)I"⟩
def dkwX2_p_0 : List UInt8 := [42, 180, 0, 80, 180, 0, 84, 27, 46, 172]
abbrev dktX2_p_0 : List UInt8 := dkwX2_p_0 ++ []
theorem dksX2_p_0 : cX2_p.data.toList.drop 0 = dktX2_p_0 := by decide +kernel
theorem dX2_p_0 : decode cX2_p 0 = .ok (.aload_n 0, 1) := dk_42 (dk_at dksX2_p_0 0 rfl rfl)
theorem dX2_p_1 : decode cX2_p 1 = .ok (.getfield 80, 3) := dk_180 0 80 (dk_at dksX2_p_0 1 rfl rfl)
theorem dX2_p_4 : decode cX2_p 4 = .ok (.getfield 84, 3) := dk_180 0 84 (dk_at dksX2_p_0 4 rfl rfl)
theorem dX2_p_7 : decode cX2_p 7 = .ok (.iload_n 1, 1) := dk_27 (dk_at dksX2_p_0 7 rfl rfl)
theorem dX2_p_8 : decode cX2_p 8 = .ok (.iaload, 1) := dk_46 (dk_at dksX2_p_0 8 rfl rfl)
theorem dX2_p_9 : decode cX2_p 9 = .ok (.ireturn, 1) := dk_172 (dk_at dksX2_p_0 9 rfl rfl)
abbrev cX2_q : ByteArray := prog_16_method_8_code
def yX2_q : MethodName := ⟨RX2, "q", "(I)I"⟩
def dkwX2_q_0 : List UInt8 := [42, 180, 0, 80, 180, 0, 87, 27, 46, 172]
abbrev dktX2_q_0 : List UInt8 := dkwX2_q_0 ++ []
theorem dksX2_q_0 : cX2_q.data.toList.drop 0 = dktX2_q_0 := by decide +kernel
theorem dX2_q_0 : decode cX2_q 0 = .ok (.aload_n 0, 1) := dk_42 (dk_at dksX2_q_0 0 rfl rfl)
theorem dX2_q_1 : decode cX2_q 1 = .ok (.getfield 80, 3) := dk_180 0 80 (dk_at dksX2_q_0 1 rfl rfl)
theorem dX2_q_4 : decode cX2_q 4 = .ok (.getfield 87, 3) := dk_180 0 87 (dk_at dksX2_q_0 4 rfl rfl)
theorem dX2_q_7 : decode cX2_q 7 = .ok (.iload_n 1, 1) := dk_27 (dk_at dksX2_q_0 7 rfl rfl)
theorem dX2_q_8 : decode cX2_q 8 = .ok (.iaload, 1) := dk_46 (dk_at dksX2_q_0 8 rfl rfl)
theorem dX2_q_9 : decode cX2_q 9 = .ok (.ireturn, 1) := dk_172 (dk_at dksX2_q_0 9 rfl rfl)
theorem q59 : (Jvm.Cond.initialized "PennyJudge$Run") ∈ lw_all := lw_g (lw_at lw_m1 2 rfl) rfl
theorem q106 : (Jvm.Cond.instantiable "PennyJudge$Run" (19 : Nat)) ∈ lw_all := lw_g (lw_at lw_m1 49 rfl) rfl
theorem q108 : (Jvm.Cond.instanceMethod ({ cls := "PennyJudge$Run", name := "<init>", desc := "()V" } : Jvm.MethodName)) ∈ lw_all := lw_g (lw_at lw_m1 51 rfl) rfl
theorem q109 : (Jvm.Cond.code ({ cls := "PennyJudge$Run", name := "<init>", desc := "()V" } : Jvm.MethodName) prog_16_method_1_code (1 : Nat) (Option.none : Option Jvm.ClassFile.FieldType)) ∈ lw_all := lw_g (lw_at lw_m1 52 rfl) rfl
theorem q110 : (Jvm.Cond.methodLink "PennyJudge$Run" (3 : Nat) ({ cls := "java/lang/Object", name := "<init>", desc := "()V" } : Jvm.MethodName)) ∈ lw_all := lw_g (lw_at lw_m1 53 rfl) rfl
theorem q111 : (Jvm.Cond.fieldLink "PennyJudge$Run" (9 : Nat) "PennyJudge$Run" "num" "[J") ∈ lw_all := lw_g (lw_at lw_m1 54 rfl) rfl
theorem q122 : (Jvm.Cond.fieldLink "PennyJudge$Run" (15 : Nat) "PennyJudge$Run" "den" "[J") ∈ lw_all := lw_g (lw_at lw_m1 65 rfl) rfl
theorem q131 : (Jvm.Cond.fieldLink "PennyJudge$Run" (18 : Nat) "PennyJudge$Run" "shown" "[Z") ∈ lw_all := lw_g (lw_at lw_m1 74 rfl) rfl
theorem q138 : (Jvm.Cond.fieldLink "PennyJudge$Run" (22 : Nat) "PennyJudge$Run" "parts" "[J") ∈ lw_all := lw_g (lw_at lw_m1 81 rfl) rfl
theorem q143 : (Jvm.Cond.fieldLink "PennyJudge$Run" (53 : Nat) "PennyJudge$Run" "partsShown" "Z") ∈ lw_all := lw_g (lw_at lw_m1 86 rfl) rfl
theorem q145 : (Jvm.Cond.fieldLink "PennyJudge$Run" (25 : Nat) "PennyJudge$Run" "splitSet" "I") ∈ lw_all := lw_g (lw_at lw_m1 88 rfl) rfl
theorem q150 : (Jvm.Cond.fieldLink "PennyJudge$Run" (29 : Nat) "PennyJudge$Run" "results" "[J") ∈ lw_all := lw_g (lw_at lw_m1 93 rfl) rfl
theorem q154 : (Jvm.Cond.fieldLink "PennyJudge$Run" (32 : Nat) "PennyJudge$Run" "lines" "[I") ∈ lw_all := lw_g (lw_at lw_m1 97 rfl) rfl
theorem q161 : (Jvm.Cond.fieldLink "PennyJudge$Run" (67 : Nat) "PennyJudge$Run" "lineCount" "I") ∈ lw_all := lw_g (lw_at lw_m1 104 rfl) rfl
theorem q163 : (Jvm.Cond.fieldLink "PennyJudge$Run" (60 : Nat) "PennyJudge$Run" "carriedNum" "J") ∈ lw_all := lw_g (lw_at lw_m1 106 rfl) rfl
theorem q165 : (Jvm.Cond.fieldLink "PennyJudge$Run" (36 : Nat) "PennyJudge$Run" "carriedDen" "J") ∈ lw_all := lw_g (lw_at lw_m1 108 rfl) rfl
theorem q168 : (Jvm.Cond.fieldLink "PennyJudge$Run" (40 : Nat) "PennyJudge$Run" "accounts" "[J") ∈ lw_all := lw_g (lw_at lw_m1 111 rfl) rfl
theorem q172 : (Jvm.Cond.fieldLink "PennyJudge$Run" (57 : Nat) "PennyJudge$Run" "leaks" "I") ∈ lw_all := lw_g (lw_at lw_m1 115 rfl) rfl
theorem q174 : (Jvm.Cond.fieldLink "PennyJudge$Run" (43 : Nat) "PennyJudge$Run" "value" "[D") ∈ lw_all := lw_g (lw_at lw_m1 117 rfl) rfl
theorem q189 : (Jvm.Cond.fieldLink "PennyJudge$Run" (47 : Nat) "PennyJudge$Run" "got" "[D") ∈ lw_all := lw_g (lw_at lw_m1 132 rfl) rfl
theorem q192 : (Jvm.Cond.fieldLink "PennyJudge$Run" (50 : Nat) "PennyJudge$Run" "piece" "[D") ∈ lw_all := lw_g (lw_at lw_m1 135 rfl) rfl
theorem q196 : (Jvm.Cond.fieldLink "PennyJudge$Run" (63 : Nat) "PennyJudge$Run" "carried" "D") ∈ lw_all := lw_g (lw_at lw_m1 139 rfl) rfl
theorem q198 : (Jvm.Cond.fieldLink "PennyJudge$Run" (80 : Nat) "PennyJudge$Run" "of" "LPennyJudge;") ∈ lw_all := lw_g (lw_at lw_m1 141 rfl) rfl
theorem q200 : (Jvm.Cond.laysFinal "PennyJudge$Run" "PennyJudge$Run" "num" "[J") ∈ lw_all := lw_g (lw_at lw_m1 143 rfl) rfl
theorem q201 : (Jvm.Cond.soleField "PennyJudge$Run" "num") ∈ lw_all := lw_g (lw_at lw_m1 144 rfl) rfl
theorem q202 : (Jvm.Cond.laysFinal "PennyJudge$Run" "PennyJudge$Run" "den" "[J") ∈ lw_all := lw_g (lw_at lw_m1 145 rfl) rfl
theorem q203 : (Jvm.Cond.soleField "PennyJudge$Run" "den") ∈ lw_all := lw_g (lw_at lw_m1 146 rfl) rfl
theorem q204 : (Jvm.Cond.laysFinal "PennyJudge$Run" "PennyJudge$Run" "shown" "[Z") ∈ lw_all := lw_g (lw_at lw_m1 147 rfl) rfl
theorem q205 : (Jvm.Cond.soleField "PennyJudge$Run" "shown") ∈ lw_all := lw_g (lw_at lw_m1 148 rfl) rfl
theorem q206 : (Jvm.Cond.laysFinal "PennyJudge$Run" "PennyJudge$Run" "parts" "[J") ∈ lw_all := lw_g (lw_at lw_m1 149 rfl) rfl
theorem q207 : (Jvm.Cond.soleField "PennyJudge$Run" "parts") ∈ lw_all := lw_g (lw_at lw_m1 150 rfl) rfl
theorem q208 : (Jvm.Cond.lays "PennyJudge$Run" "PennyJudge$Run" "partsShown" "Z") ∈ lw_all := lw_g (lw_at lw_m1 151 rfl) rfl
theorem q209 : (Jvm.Cond.soleField "PennyJudge$Run" "partsShown") ∈ lw_all := lw_g (lw_at lw_m1 152 rfl) rfl
theorem q210 : (Jvm.Cond.lays "PennyJudge$Run" "PennyJudge$Run" "splitSet" "I") ∈ lw_all := lw_g (lw_at lw_m1 153 rfl) rfl
theorem q211 : (Jvm.Cond.soleField "PennyJudge$Run" "splitSet") ∈ lw_all := lw_g (lw_at lw_m1 154 rfl) rfl
theorem q212 : (Jvm.Cond.lays "PennyJudge$Run" "PennyJudge$Run" "splitValue" "J") ∈ lw_all := lw_g (lw_at lw_m1 155 rfl) rfl
theorem q213 : (Jvm.Cond.soleField "PennyJudge$Run" "splitValue") ∈ lw_all := lw_g (lw_at lw_m1 156 rfl) rfl
theorem q214 : (Jvm.Cond.laysFinal "PennyJudge$Run" "PennyJudge$Run" "results" "[J") ∈ lw_all := lw_g (lw_at lw_m1 157 rfl) rfl
theorem q215 : (Jvm.Cond.soleField "PennyJudge$Run" "results") ∈ lw_all := lw_g (lw_at lw_m1 158 rfl) rfl
theorem q216 : (Jvm.Cond.laysFinal "PennyJudge$Run" "PennyJudge$Run" "lines" "[I") ∈ lw_all := lw_g (lw_at lw_m1 159 rfl) rfl
theorem q217 : (Jvm.Cond.soleField "PennyJudge$Run" "lines") ∈ lw_all := lw_g (lw_at lw_m1 160 rfl) rfl
theorem q218 : (Jvm.Cond.lays "PennyJudge$Run" "PennyJudge$Run" "lineCount" "I") ∈ lw_all := lw_g (lw_at lw_m1 161 rfl) rfl
theorem q219 : (Jvm.Cond.soleField "PennyJudge$Run" "lineCount") ∈ lw_all := lw_g (lw_at lw_m1 162 rfl) rfl
theorem q220 : (Jvm.Cond.lays "PennyJudge$Run" "PennyJudge$Run" "carriedNum" "J") ∈ lw_all := lw_g (lw_at lw_m1 163 rfl) rfl
theorem q221 : (Jvm.Cond.soleField "PennyJudge$Run" "carriedNum") ∈ lw_all := lw_g (lw_at lw_m1 164 rfl) rfl
theorem q222 : (Jvm.Cond.lays "PennyJudge$Run" "PennyJudge$Run" "carriedDen" "J") ∈ lw_all := lw_g (lw_at lw_m1 165 rfl) rfl
theorem q223 : (Jvm.Cond.soleField "PennyJudge$Run" "carriedDen") ∈ lw_all := lw_g (lw_at lw_m1 166 rfl) rfl
theorem q224 : (Jvm.Cond.laysFinal "PennyJudge$Run" "PennyJudge$Run" "accounts" "[J") ∈ lw_all := lw_g (lw_at lw_m1 167 rfl) rfl
theorem q225 : (Jvm.Cond.soleField "PennyJudge$Run" "accounts") ∈ lw_all := lw_g (lw_at lw_m1 168 rfl) rfl
theorem q226 : (Jvm.Cond.lays "PennyJudge$Run" "PennyJudge$Run" "leaks" "I") ∈ lw_all := lw_g (lw_at lw_m1 169 rfl) rfl
theorem q227 : (Jvm.Cond.soleField "PennyJudge$Run" "leaks") ∈ lw_all := lw_g (lw_at lw_m1 170 rfl) rfl
theorem q228 : (Jvm.Cond.laysFinal "PennyJudge$Run" "PennyJudge$Run" "value" "[D") ∈ lw_all := lw_g (lw_at lw_m1 171 rfl) rfl
theorem q229 : (Jvm.Cond.soleField "PennyJudge$Run" "value") ∈ lw_all := lw_g (lw_at lw_m1 172 rfl) rfl
theorem q230 : (Jvm.Cond.laysFinal "PennyJudge$Run" "PennyJudge$Run" "got" "[D") ∈ lw_all := lw_g (lw_at lw_m1 173 rfl) rfl
theorem q231 : (Jvm.Cond.soleField "PennyJudge$Run" "got") ∈ lw_all := lw_g (lw_at lw_m1 174 rfl) rfl
theorem q232 : (Jvm.Cond.laysFinal "PennyJudge$Run" "PennyJudge$Run" "piece" "[D") ∈ lw_all := lw_g (lw_at lw_m1 175 rfl) rfl
theorem q233 : (Jvm.Cond.soleField "PennyJudge$Run" "piece") ∈ lw_all := lw_g (lw_at lw_m1 176 rfl) rfl
theorem q234 : (Jvm.Cond.lays "PennyJudge$Run" "PennyJudge$Run" "carried" "D") ∈ lw_all := lw_g (lw_at lw_m1 177 rfl) rfl
theorem q235 : (Jvm.Cond.soleField "PennyJudge$Run" "carried") ∈ lw_all := lw_g (lw_at lw_m1 178 rfl) rfl
theorem q236 : (Jvm.Cond.lays "PennyJudge$Run" "PennyJudge$Run" "of" "LPennyJudge;") ∈ lw_all := lw_g (lw_at lw_m1 179 rfl) rfl
theorem q237 : (Jvm.Cond.soleField "PennyJudge$Run" "of") ∈ lw_all := lw_g (lw_at lw_m1 180 rfl) rfl
theorem q238 : (Jvm.Cond.superclass "PennyJudge$Run" "java/lang/Object") ∈ lw_all := lw_g (lw_at lw_m1 181 rfl) rfl
theorem q260 : (Jvm.Cond.instanceMethod ({ cls := "PennyJudge$Run", name := "begin", desc := "()V" } : Jvm.MethodName)) ∈ lw_all := lw_g (lw_at lw_m1 203 rfl) rfl
theorem q261 : (Jvm.Cond.selects "PennyJudge$Run" ({ cls := "PennyJudge$Run", name := "begin", desc := "()V" } : Jvm.MethodName) ({ cls := "PennyJudge$Run", name := "begin", desc := "()V" } : Jvm.MethodName)) ∈ lw_all := lw_g (lw_at lw_m1 204 rfl) rfl
theorem q262 : (Jvm.Cond.code ({ cls := "PennyJudge$Run", name := "begin", desc := "()V" } : Jvm.MethodName) prog_16_method_2_code (2 : Nat) (Option.none : Option Jvm.ClassFile.FieldType)) ∈ lw_all := lw_g (lw_at lw_m1 205 rfl) rfl
theorem q264 : (Jvm.Cond.instanceMethod ({ cls := "PennyJudge$Run", name := "bare", desc := "()V" } : Jvm.MethodName)) ∈ lw_all := lw_g (lw_at lw_m1 207 rfl) rfl
theorem q265 : (Jvm.Cond.selects "PennyJudge$Run" ({ cls := "PennyJudge$Run", name := "bare", desc := "()V" } : Jvm.MethodName) ({ cls := "PennyJudge$Run", name := "bare", desc := "()V" } : Jvm.MethodName)) ∈ lw_all := lw_g (lw_at lw_m1 208 rfl) rfl
theorem q266 : (Jvm.Cond.code ({ cls := "PennyJudge$Run", name := "bare", desc := "()V" } : Jvm.MethodName) prog_16_method_3_code (2 : Nat) (Option.none : Option Jvm.ClassFile.FieldType)) ∈ lw_all := lw_g (lw_at lw_m1 209 rfl) rfl
theorem q267 : (Jvm.Cond.fieldLinkNest "PennyJudge$Run" (84 : Nat) "PennyJudge" "p" "[I" "PennyJudge") ∈ lw_tbl := lw_at lw_m1 210 rfl
theorem q269 : (Jvm.Cond.fieldLinkNest "PennyJudge$Run" (87 : Nat) "PennyJudge" "q" "[I" "PennyJudge") ∈ lw_tbl := lw_at lw_m1 212 rfl
theorem q648 : (Jvm.Cond.instanceMethod ({ cls := "PennyJudge$Run", name := "bill", desc := "([II)V" } : Jvm.MethodName)) ∈ lw_all := lw_g (lw_at lw_m3 111 rfl) rfl
theorem q649 : (Jvm.Cond.selects "PennyJudge$Run" ({ cls := "PennyJudge$Run", name := "bill", desc := "([II)V" } : Jvm.MethodName) ({ cls := "PennyJudge$Run", name := "bill", desc := "([II)V" } : Jvm.MethodName)) ∈ lw_all := lw_g (lw_at lw_m3 112 rfl) rfl
theorem q650 : (Jvm.Cond.code ({ cls := "PennyJudge$Run", name := "bill", desc := "([II)V" } : Jvm.MethodName) prog_16_method_4_code (4 : Nat) (Option.none : Option Jvm.ClassFile.FieldType)) ∈ lw_all := lw_g (lw_at lw_m3 113 rfl) rfl
theorem q658 : (Jvm.Cond.instanceMethod ({ cls := "PennyJudge$Run", name := "put", desc := "(IJJ)I" } : Jvm.MethodName)) ∈ lw_all := lw_g (lw_at lw_m3 121 rfl) rfl
theorem q659 : (Jvm.Cond.selects "PennyJudge$Run" ({ cls := "PennyJudge$Run", name := "put", desc := "(IJJ)I" } : Jvm.MethodName) ({ cls := "PennyJudge$Run", name := "put", desc := "(IJJ)I" } : Jvm.MethodName)) ∈ lw_all := lw_g (lw_at lw_m3 122 rfl) rfl
theorem q660 : (Jvm.Cond.code ({ cls := "PennyJudge$Run", name := "put", desc := "(IJJ)I" } : Jvm.MethodName) prog_16_method_5_code (12 : Nat) (Option.some Jvm.ClassFile.FieldType.int)) ∈ lw_all := lw_g (lw_at lw_m3 123 rfl) rfl
theorem q661 : (Jvm.Cond.methodLinkNest "PennyJudge$Run" (70 : Nat) ({ cls := "PennyJudge", name := "common", desc := "(JJ)J" } : Jvm.MethodName) "PennyJudge") ∈ lw_tbl := lw_at lw_m3 124 rfl
theorem q664 : (Jvm.Cond.constantLong "PennyJudge$Run" (74 : Nat) (1099511627776 : Int64)) ∈ lw_all := lw_g (lw_at lw_m3 127 rfl) rfl
theorem q665 : (Jvm.Cond.constantLong "PennyJudge$Run" (76 : Nat) (-1099511627776 : Int64)) ∈ lw_all := lw_g (lw_at lw_m3 128 rfl) rfl
theorem q666 : (Jvm.Cond.constantLong "PennyJudge$Run" (78 : Nat) (1048576 : Int64)) ∈ lw_all := lw_g (lw_at lw_m3 129 rfl) rfl
theorem q677 : (Jvm.Cond.instanceMethod ({ cls := "PennyJudge$Run", name := "isWhole", desc := "(I)Z" } : Jvm.MethodName)) ∈ lw_all := lw_g (lw_at lw_m3 140 rfl) rfl
theorem q678 : (Jvm.Cond.selects "PennyJudge$Run" ({ cls := "PennyJudge$Run", name := "isWhole", desc := "(I)Z" } : Jvm.MethodName) ({ cls := "PennyJudge$Run", name := "isWhole", desc := "(I)Z" } : Jvm.MethodName)) ∈ lw_all := lw_g (lw_at lw_m3 141 rfl) rfl
theorem q679 : (Jvm.Cond.code ({ cls := "PennyJudge$Run", name := "isWhole", desc := "(I)Z" } : Jvm.MethodName) prog_16_method_6_code (2 : Nat) (Option.some Jvm.ClassFile.FieldType.boolean)) ∈ lw_all := lw_g (lw_at lw_m3 142 rfl) rfl
theorem q695 : (Jvm.Cond.instanceMethod ({ cls := "PennyJudge$Run", name := "p", desc := "(I)I" } : Jvm.MethodName)) ∈ lw_all := lw_g (lw_at lw_m3 158 rfl) rfl
theorem q696 : (Jvm.Cond.selects "PennyJudge$Run" ({ cls := "PennyJudge$Run", name := "p", desc := "(I)I" } : Jvm.MethodName) ({ cls := "PennyJudge$Run", name := "p", desc := "(I)I" } : Jvm.MethodName)) ∈ lw_all := lw_g (lw_at lw_m3 159 rfl) rfl
theorem q697 : (Jvm.Cond.code ({ cls := "PennyJudge$Run", name := "p", desc := "(I)I" } : Jvm.MethodName) prog_16_method_7_code (2 : Nat) (Option.some Jvm.ClassFile.FieldType.int)) ∈ lw_all := lw_g (lw_at lw_m3 160 rfl) rfl
theorem q699 : (Jvm.Cond.instanceMethod ({ cls := "PennyJudge$Run", name := "q", desc := "(I)I" } : Jvm.MethodName)) ∈ lw_all := lw_g (lw_at lw_m3 162 rfl) rfl
theorem q700 : (Jvm.Cond.selects "PennyJudge$Run" ({ cls := "PennyJudge$Run", name := "q", desc := "(I)I" } : Jvm.MethodName) ({ cls := "PennyJudge$Run", name := "q", desc := "(I)I" } : Jvm.MethodName)) ∈ lw_all := lw_g (lw_at lw_m3 163 rfl) rfl
theorem q701 : (Jvm.Cond.code ({ cls := "PennyJudge$Run", name := "q", desc := "(I)I" } : Jvm.MethodName) prog_16_method_8_code (2 : Nat) (Option.some Jvm.ClassFile.FieldType.int)) ∈ lw_all := lw_g (lw_at lw_m3 164 rfl) rfl
theorem in_X2 : ∀ w ∈ wsX20, w ∈ lw_all := lw_in wsX20 [200, 202, 204, 206, 208, 210, 212, 214, 216, 218, 220, 222, 224, 226, 228, 230, 232, 234, 236] (by decide +kernel) (by decide +kernel)

/-! PennyJudge$Tape -/
set_option maxRecDepth 100000
def RX3 : String := "PennyJudge$Tape"
def TX3 : u_T := fun k => match k with
  | _ => ("PennyJudge$Tape", "it", "Ljava/lang/Object;", false)
def tyX3 : Nat → FieldType := fun k => match k with
  | _ => .object "java/lang/Object"
abbrev wsX30 : List Cond := u_ws RX3 TX3 1
theorem nmX3 : ∀ a, a < 1 → ∀ b, b < 1 → a ≠ b → (TX3 a).2.1 ≠ (TX3 b).2.1 := by decide +kernel
theorem tyX3_ok : ∀ k, k < 1 → parseFieldDescriptor (TX3 k).2.2.1 = some (tyX3 k) := by decide +kernel
abbrev cX3_init : ByteArray := prog_20_method_1_code
def yX3_init : MethodName := ⟨RX3, "<init>", "()V"⟩
theorem dX3_init_0 : decode cX3_init 0 = .ok (.aload_n 0, 1) := by decide +kernel
theorem dX3_init_1 : decode cX3_init 1 = .ok (.invokespecial 1, 3) := by decide +kernel
theorem dX3_init_4 : decode cX3_init 4 = .ok (.return_, 1) := by decide +kernel
abbrev cX3_sort : ByteArray := prog_20_method_2_code
def yX3_sort : MethodName := ⟨RX3, "sort", "()I"⟩
def dkwX3_sort_2 : List UInt8 := [180, 0, 7, 193, 0, 19, 153, 0, 5, 7, 172, 8, 172]
abbrev dktX3_sort_2 : List UInt8 := dkwX3_sort_2 ++ []
def dkwX3_sort_1 : List UInt8 := [180, 0, 7, 193, 0, 15, 153, 0, 5, 5, 172, 42, 180, 0, 7, 193, 0, 17, 153, 0, 5, 6, 172, 42]
abbrev dktX3_sort_1 : List UInt8 := dkwX3_sort_1 ++ dktX3_sort_2
def dkwX3_sort_0 : List UInt8 := [42, 180, 0, 7, 199, 0, 5, 3, 172, 42, 180, 0, 7, 193, 0, 13, 153, 0, 5, 4, 172, 42]
abbrev dktX3_sort_0 : List UInt8 := dkwX3_sort_0 ++ dktX3_sort_1
theorem dksX3_sort_0 : cX3_sort.data.toList.drop 0 = dktX3_sort_0 := by decide +kernel
theorem dksX3_sort_1 : cX3_sort.data.toList.drop 22 = dktX3_sort_1 := dk_seg dksX3_sort_0 22 rfl rfl
theorem dksX3_sort_2 : cX3_sort.data.toList.drop 46 = dktX3_sort_2 := dk_seg dksX3_sort_1 24 rfl rfl
theorem dX3_sort_0 : decode cX3_sort 0 = .ok (.aload_n 0, 1) := dk_42 (dk_at dksX3_sort_0 0 rfl rfl)
theorem dX3_sort_1 : decode cX3_sort 1 = .ok (.getfield 7, 3) := dk_180 0 7 (dk_at dksX3_sort_0 1 rfl rfl)
theorem dX3_sort_4 : decode cX3_sort 4 = .ok (.ifnonnull 5, 3) := dk_199 0 5 (dk_at dksX3_sort_0 4 rfl rfl)
theorem dX3_sort_7 : decode cX3_sort 7 = .ok (.iconst 0, 1) := dk_3 (dk_at dksX3_sort_0 7 rfl rfl)
theorem dX3_sort_8 : decode cX3_sort 8 = .ok (.ireturn, 1) := dk_172 (dk_at dksX3_sort_0 8 rfl rfl)
theorem dX3_sort_9 : decode cX3_sort 9 = .ok (.aload_n 0, 1) := dk_42 (dk_at dksX3_sort_0 9 rfl rfl)
theorem dX3_sort_10 : decode cX3_sort 10 = .ok (.getfield 7, 3) := dk_180 0 7 (dk_at dksX3_sort_0 10 rfl rfl)
theorem dX3_sort_13 : decode cX3_sort 13 = .ok (.instanceof 13, 3) := dk_193 0 13 (dk_at dksX3_sort_0 13 rfl rfl)
theorem dX3_sort_16 : decode cX3_sort 16 = .ok (.ifCond .eq 5, 3) := dk_153 0 5 (dk_at dksX3_sort_0 16 rfl rfl)
theorem dX3_sort_19 : decode cX3_sort 19 = .ok (.iconst 1, 1) := dk_4 (dk_at dksX3_sort_0 19 rfl rfl)
theorem dX3_sort_20 : decode cX3_sort 20 = .ok (.ireturn, 1) := dk_172 (dk_at dksX3_sort_0 20 rfl rfl)
theorem dX3_sort_21 : decode cX3_sort 21 = .ok (.aload_n 0, 1) := dk_42 (dk_at dksX3_sort_0 21 rfl rfl)
theorem dX3_sort_22 : decode cX3_sort 22 = .ok (.getfield 7, 3) := dk_180 0 7 (dk_at dksX3_sort_1 0 rfl rfl)
theorem dX3_sort_25 : decode cX3_sort 25 = .ok (.instanceof 15, 3) := dk_193 0 15 (dk_at dksX3_sort_1 3 rfl rfl)
theorem dX3_sort_28 : decode cX3_sort 28 = .ok (.ifCond .eq 5, 3) := dk_153 0 5 (dk_at dksX3_sort_1 6 rfl rfl)
theorem dX3_sort_31 : decode cX3_sort 31 = .ok (.iconst 2, 1) := dk_5 (dk_at dksX3_sort_1 9 rfl rfl)
theorem dX3_sort_32 : decode cX3_sort 32 = .ok (.ireturn, 1) := dk_172 (dk_at dksX3_sort_1 10 rfl rfl)
theorem dX3_sort_33 : decode cX3_sort 33 = .ok (.aload_n 0, 1) := dk_42 (dk_at dksX3_sort_1 11 rfl rfl)
theorem dX3_sort_34 : decode cX3_sort 34 = .ok (.getfield 7, 3) := dk_180 0 7 (dk_at dksX3_sort_1 12 rfl rfl)
theorem dX3_sort_37 : decode cX3_sort 37 = .ok (.instanceof 17, 3) := dk_193 0 17 (dk_at dksX3_sort_1 15 rfl rfl)
theorem dX3_sort_40 : decode cX3_sort 40 = .ok (.ifCond .eq 5, 3) := dk_153 0 5 (dk_at dksX3_sort_1 18 rfl rfl)
theorem dX3_sort_43 : decode cX3_sort 43 = .ok (.iconst 3, 1) := dk_6 (dk_at dksX3_sort_1 21 rfl rfl)
theorem dX3_sort_44 : decode cX3_sort 44 = .ok (.ireturn, 1) := dk_172 (dk_at dksX3_sort_1 22 rfl rfl)
theorem dX3_sort_45 : decode cX3_sort 45 = .ok (.aload_n 0, 1) := dk_42 (dk_at dksX3_sort_1 23 rfl rfl)
theorem dX3_sort_46 : decode cX3_sort 46 = .ok (.getfield 7, 3) := dk_180 0 7 (dk_at dksX3_sort_2 0 rfl rfl)
theorem dX3_sort_49 : decode cX3_sort 49 = .ok (.instanceof 19, 3) := dk_193 0 19 (dk_at dksX3_sort_2 3 rfl rfl)
theorem dX3_sort_52 : decode cX3_sort 52 = .ok (.ifCond .eq 5, 3) := dk_153 0 5 (dk_at dksX3_sort_2 6 rfl rfl)
theorem dX3_sort_55 : decode cX3_sort 55 = .ok (.iconst 4, 1) := dk_7 (dk_at dksX3_sort_2 9 rfl rfl)
theorem dX3_sort_56 : decode cX3_sort 56 = .ok (.ireturn, 1) := dk_172 (dk_at dksX3_sort_2 10 rfl rfl)
theorem dX3_sort_57 : decode cX3_sort 57 = .ok (.iconst 5, 1) := dk_8 (dk_at dksX3_sort_2 11 rfl rfl)
theorem dX3_sort_58 : decode cX3_sort 58 = .ok (.ireturn, 1) := dk_172 (dk_at dksX3_sort_2 12 rfl rfl)
theorem q60 : (Jvm.Cond.initialized "PennyJudge$Tape") ∈ lw_all := lw_g (lw_at lw_m1 3 rfl) rfl
theorem q245 : (Jvm.Cond.instantiable "PennyJudge$Tape" (1 : Nat)) ∈ lw_all := lw_g (lw_at lw_m1 188 rfl) rfl
theorem q247 : (Jvm.Cond.instanceMethod ({ cls := "PennyJudge$Tape", name := "<init>", desc := "()V" } : Jvm.MethodName)) ∈ lw_all := lw_g (lw_at lw_m1 190 rfl) rfl
theorem q248 : (Jvm.Cond.code ({ cls := "PennyJudge$Tape", name := "<init>", desc := "()V" } : Jvm.MethodName) prog_20_method_1_code (1 : Nat) (Option.none : Option Jvm.ClassFile.FieldType)) ∈ lw_all := lw_g (lw_at lw_m1 191 rfl) rfl
theorem q249 : (Jvm.Cond.methodLink "PennyJudge$Tape" (1 : Nat) ({ cls := "java/lang/Object", name := "<init>", desc := "()V" } : Jvm.MethodName)) ∈ lw_all := lw_g (lw_at lw_m1 192 rfl) rfl
theorem q250 : (Jvm.Cond.fieldLink "PennyJudge$Tape" (7 : Nat) "PennyJudge$Tape" "it" "Ljava/lang/Object;") ∈ lw_all := lw_g (lw_at lw_m1 193 rfl) rfl
theorem q252 : (Jvm.Cond.lays "PennyJudge$Tape" "PennyJudge$Tape" "it" "Ljava/lang/Object;") ∈ lw_all := lw_g (lw_at lw_m1 195 rfl) rfl
theorem q253 : (Jvm.Cond.soleField "PennyJudge$Tape" "it") ∈ lw_all := lw_g (lw_at lw_m1 196 rfl) rfl
theorem q254 : (Jvm.Cond.superclass "PennyJudge$Tape" "java/lang/Object") ∈ lw_all := lw_g (lw_at lw_m1 197 rfl) rfl
theorem q1268 : (Jvm.Cond.instanceMethod ({ cls := "PennyJudge$Tape", name := "sort", desc := "()I" } : Jvm.MethodName)) ∈ lw_all := lw_g (lw_at lw_m6 11 rfl) rfl
theorem q1269 : (Jvm.Cond.selects "PennyJudge$Tape" ({ cls := "PennyJudge$Tape", name := "sort", desc := "()I" } : Jvm.MethodName) ({ cls := "PennyJudge$Tape", name := "sort", desc := "()I" } : Jvm.MethodName)) ∈ lw_all := lw_g (lw_at lw_m6 12 rfl) rfl
theorem q1270 : (Jvm.Cond.code ({ cls := "PennyJudge$Tape", name := "sort", desc := "()I" } : Jvm.MethodName) prog_20_method_2_code (1 : Nat) (Option.some Jvm.ClassFile.FieldType.int)) ∈ lw_all := lw_g (lw_at lw_m6 13 rfl) rfl
theorem q1271 : (Jvm.Cond.classLink "PennyJudge$Tape" (13 : Nat) "[B") ∈ lw_all := lw_g (lw_at lw_m6 14 rfl) rfl
theorem q1272 : (Jvm.Cond.classLink "PennyJudge$Tape" (15 : Nat) "[S") ∈ lw_all := lw_g (lw_at lw_m6 15 rfl) rfl
theorem q1273 : (Jvm.Cond.classLink "PennyJudge$Tape" (17 : Nat) "[I") ∈ lw_all := lw_g (lw_at lw_m6 16 rfl) rfl
theorem q1274 : (Jvm.Cond.classLink "PennyJudge$Tape" (19 : Nat) "[J") ∈ lw_all := lw_g (lw_at lw_m6 17 rfl) rfl
theorem in_X3 : ∀ w ∈ wsX30, w ∈ lw_all := lw_in wsX30 [252] (by decide +kernel) (by decide +kernel)

/-! PennyJudge$Program -/
set_option maxRecDepth 100000
def RX5 : String := "PennyJudge$Program"
def TX5 : u_T := fun k => match k with
  | 0 => ("PennyJudge$Program", "acts", "[LPennyJudge$Act;", true)
  | 1 => ("PennyJudge$Program", "n", "I", false)
  | 2 => ("PennyJudge$Program", "carriedNum", "J", false)
  | _ => ("PennyJudge$Program", "carriedDen", "J", false)
def tyX5 : Nat → FieldType := fun k => match k with
  | 0 => .array (.object "PennyJudge$Act")
  | 1 => .int
  | 2 => .long
  | _ => .long
abbrev wsX50 : List Cond := u_ws RX5 TX5 4
theorem nmX5 : ∀ a, a < 4 → ∀ b, b < 4 → a ≠ b → (TX5 a).2.1 ≠ (TX5 b).2.1 := by decide +kernel
theorem tyX5_ok : ∀ k, k < 4 → parseFieldDescriptor (TX5 k).2.2.1 = some (tyX5 k) := by decide +kernel
abbrev cX5_init : ByteArray := prog_13_method_1_code
def yX5_init : MethodName := ⟨RX5, "<init>", "()V"⟩
def dkwX5_init_0 : List UInt8 := [42, 183, 0, 1, 42, 16, 20, 189, 0, 7, 181, 0, 9, 42, 10, 181, 0, 15, 177]
abbrev dktX5_init_0 : List UInt8 := dkwX5_init_0 ++ []
theorem dksX5_init_0 : cX5_init.data.toList.drop 0 = dktX5_init_0 := by decide +kernel
theorem dX5_init_0 : decode cX5_init 0 = .ok (.aload_n 0, 1) := dk_42 (dk_at dksX5_init_0 0 rfl rfl)
theorem dX5_init_1 : decode cX5_init 1 = .ok (.invokespecial 1, 3) := dk_183 0 1 (dk_at dksX5_init_0 1 rfl rfl)
theorem dX5_init_4 : decode cX5_init 4 = .ok (.aload_n 0, 1) := dk_42 (dk_at dksX5_init_0 4 rfl rfl)
theorem dX5_init_5 : decode cX5_init 5 = .ok (.bipush 20, 2) := dk_16 20 (dk_at dksX5_init_0 5 rfl rfl)
theorem dX5_init_7 : decode cX5_init 7 = .ok (.anewarray 7, 3) := dk_189 0 7 (dk_at dksX5_init_0 7 rfl rfl)
theorem dX5_init_10 : decode cX5_init 10 = .ok (.putfield 9, 3) := dk_181 0 9 (dk_at dksX5_init_0 10 rfl rfl)
theorem dX5_init_13 : decode cX5_init 13 = .ok (.aload_n 0, 1) := dk_42 (dk_at dksX5_init_0 13 rfl rfl)
theorem dX5_init_14 : decode cX5_init 14 = .ok (.lconst 1, 1) := dk_10 (dk_at dksX5_init_0 14 rfl rfl)
theorem dX5_init_15 : decode cX5_init 15 = .ok (.putfield 15, 3) := dk_181 0 15 (dk_at dksX5_init_0 15 rfl rfl)
theorem dX5_init_18 : decode cX5_init 18 = .ok (.return_, 1) := dk_177 (dk_at dksX5_init_0 18 rfl rfl)
abbrev cX5_run : ByteArray := prog_13_method_2_code
def yX5_run : MethodName := ⟨RX5, "run", "(LPennyJudge$Run;)I"⟩
def dkwX5_run_1 : List UInt8 := [62, 29, 153, 0, 5, 29, 172, 132, 2, 1, 167, 255, 228, 42, 180, 0, 24, 172]
abbrev dktX5_run_1 : List UInt8 := dkwX5_run_1 ++ []
def dkwX5_run_0 : List UInt8 := [43, 182, 0, 19, 3, 61, 28, 42, 180, 0, 24, 162, 0, 26, 42, 180, 0, 9, 28, 50, 43, 182, 0, 28]
abbrev dktX5_run_0 : List UInt8 := dkwX5_run_0 ++ dktX5_run_1
theorem dksX5_run_0 : cX5_run.data.toList.drop 0 = dktX5_run_0 := by decide +kernel
theorem dksX5_run_1 : cX5_run.data.toList.drop 24 = dktX5_run_1 := dk_seg dksX5_run_0 24 rfl rfl
theorem dX5_run_0 : decode cX5_run 0 = .ok (.aload_n 1, 1) := dk_43 (dk_at dksX5_run_0 0 rfl rfl)
theorem dX5_run_1 : decode cX5_run 1 = .ok (.invokevirtual 19, 3) := dk_182 0 19 (dk_at dksX5_run_0 1 rfl rfl)
theorem dX5_run_4 : decode cX5_run 4 = .ok (.iconst 0, 1) := dk_3 (dk_at dksX5_run_0 4 rfl rfl)
theorem dX5_run_5 : decode cX5_run 5 = .ok (.istore_n 2, 1) := dk_61 (dk_at dksX5_run_0 5 rfl rfl)
theorem dX5_run_6 : decode cX5_run 6 = .ok (.iload_n 2, 1) := dk_28 (dk_at dksX5_run_0 6 rfl rfl)
theorem dX5_run_7 : decode cX5_run 7 = .ok (.aload_n 0, 1) := dk_42 (dk_at dksX5_run_0 7 rfl rfl)
theorem dX5_run_8 : decode cX5_run 8 = .ok (.getfield 24, 3) := dk_180 0 24 (dk_at dksX5_run_0 8 rfl rfl)
theorem dX5_run_11 : decode cX5_run 11 = .ok (.if_icmp .ge 26, 3) := dk_162 0 26 (dk_at dksX5_run_0 11 rfl rfl)
theorem dX5_run_14 : decode cX5_run 14 = .ok (.aload_n 0, 1) := dk_42 (dk_at dksX5_run_0 14 rfl rfl)
theorem dX5_run_15 : decode cX5_run 15 = .ok (.getfield 9, 3) := dk_180 0 9 (dk_at dksX5_run_0 15 rfl rfl)
theorem dX5_run_18 : decode cX5_run 18 = .ok (.iload_n 2, 1) := dk_28 (dk_at dksX5_run_0 18 rfl rfl)
theorem dX5_run_19 : decode cX5_run 19 = .ok (.aaload, 1) := dk_50 (dk_at dksX5_run_0 19 rfl rfl)
theorem dX5_run_20 : decode cX5_run 20 = .ok (.aload_n 1, 1) := dk_43 (dk_at dksX5_run_0 20 rfl rfl)
theorem dX5_run_21 : decode cX5_run 21 = .ok (.invokevirtual 28, 3) := dk_182 0 28 (dk_at dksX5_run_0 21 rfl rfl)
theorem dX5_run_24 : decode cX5_run 24 = .ok (.istore_n 3, 1) := dk_62 (dk_at dksX5_run_1 0 rfl rfl)
theorem dX5_run_25 : decode cX5_run 25 = .ok (.iload_n 3, 1) := dk_29 (dk_at dksX5_run_1 1 rfl rfl)
theorem dX5_run_26 : decode cX5_run 26 = .ok (.ifCond .eq 5, 3) := dk_153 0 5 (dk_at dksX5_run_1 2 rfl rfl)
theorem dX5_run_29 : decode cX5_run 29 = .ok (.iload_n 3, 1) := dk_29 (dk_at dksX5_run_1 5 rfl rfl)
theorem dX5_run_30 : decode cX5_run 30 = .ok (.ireturn, 1) := dk_172 (dk_at dksX5_run_1 6 rfl rfl)
theorem dX5_run_31 : decode cX5_run 31 = .ok (.iinc 2 1, 3) := dk_132 2 1 (dk_at dksX5_run_1 7 rfl rfl)
theorem dX5_run_34 : decode cX5_run 34 = .ok (.goto (-28), 3) := dk_167 255 228 (dk_at dksX5_run_1 10 rfl rfl)
theorem dX5_run_37 : decode cX5_run 37 = .ok (.aload_n 0, 1) := dk_42 (dk_at dksX5_run_1 13 rfl rfl)
theorem dX5_run_38 : decode cX5_run 38 = .ok (.getfield 24, 3) := dk_180 0 24 (dk_at dksX5_run_1 14 rfl rfl)
theorem dX5_run_41 : decode cX5_run 41 = .ok (.ireturn, 1) := dk_172 (dk_at dksX5_run_1 17 rfl rfl)
abbrev cX5_loosely : ByteArray := prog_13_method_4_code
def yX5_loosely : MethodName := ⟨RX5, "loosely", "(LPennyJudge$Run;)V"⟩
def dkwX5_loosely_2 : List UInt8 := [132, 3, 1, 167, 255, 232, 132, 2, 1, 167, 255, 206, 177]
abbrev dktX5_loosely_2 : List UInt8 := dkwX5_loosely_2 ++ []
def dkwX5_loosely_1 : List UInt8 := [3, 62, 29, 16, 8, 162, 0, 24, 43, 180, 0, 36, 29, 43, 180, 0, 36, 29, 49, 184, 0, 40, 82]
abbrev dktX5_loosely_1 : List UInt8 := dkwX5_loosely_1 ++ dktX5_loosely_2
def dkwX5_loosely_0 : List UInt8 := [43, 182, 0, 19, 3, 61, 28, 42, 180, 0, 24, 162, 0, 48, 42, 180, 0, 9, 28, 50, 43, 182, 0, 32]
abbrev dktX5_loosely_0 : List UInt8 := dkwX5_loosely_0 ++ dktX5_loosely_1
theorem dksX5_loosely_0 : cX5_loosely.data.toList.drop 0 = dktX5_loosely_0 := by decide +kernel
theorem dksX5_loosely_1 : cX5_loosely.data.toList.drop 24 = dktX5_loosely_1 := dk_seg dksX5_loosely_0 24 rfl rfl
theorem dksX5_loosely_2 : cX5_loosely.data.toList.drop 47 = dktX5_loosely_2 := dk_seg dksX5_loosely_1 23 rfl rfl
theorem dX5_loosely_0 : decode cX5_loosely 0 = .ok (.aload_n 1, 1) := dk_43 (dk_at dksX5_loosely_0 0 rfl rfl)
theorem dX5_loosely_1 : decode cX5_loosely 1 = .ok (.invokevirtual 19, 3) := dk_182 0 19 (dk_at dksX5_loosely_0 1 rfl rfl)
theorem dX5_loosely_4 : decode cX5_loosely 4 = .ok (.iconst 0, 1) := dk_3 (dk_at dksX5_loosely_0 4 rfl rfl)
theorem dX5_loosely_5 : decode cX5_loosely 5 = .ok (.istore_n 2, 1) := dk_61 (dk_at dksX5_loosely_0 5 rfl rfl)
theorem dX5_loosely_6 : decode cX5_loosely 6 = .ok (.iload_n 2, 1) := dk_28 (dk_at dksX5_loosely_0 6 rfl rfl)
theorem dX5_loosely_7 : decode cX5_loosely 7 = .ok (.aload_n 0, 1) := dk_42 (dk_at dksX5_loosely_0 7 rfl rfl)
theorem dX5_loosely_8 : decode cX5_loosely 8 = .ok (.getfield 24, 3) := dk_180 0 24 (dk_at dksX5_loosely_0 8 rfl rfl)
theorem dX5_loosely_11 : decode cX5_loosely 11 = .ok (.if_icmp .ge 48, 3) := dk_162 0 48 (dk_at dksX5_loosely_0 11 rfl rfl)
theorem dX5_loosely_14 : decode cX5_loosely 14 = .ok (.aload_n 0, 1) := dk_42 (dk_at dksX5_loosely_0 14 rfl rfl)
theorem dX5_loosely_15 : decode cX5_loosely 15 = .ok (.getfield 9, 3) := dk_180 0 9 (dk_at dksX5_loosely_0 15 rfl rfl)
theorem dX5_loosely_18 : decode cX5_loosely 18 = .ok (.iload_n 2, 1) := dk_28 (dk_at dksX5_loosely_0 18 rfl rfl)
theorem dX5_loosely_19 : decode cX5_loosely 19 = .ok (.aaload, 1) := dk_50 (dk_at dksX5_loosely_0 19 rfl rfl)
theorem dX5_loosely_20 : decode cX5_loosely 20 = .ok (.aload_n 1, 1) := dk_43 (dk_at dksX5_loosely_0 20 rfl rfl)
theorem dX5_loosely_21 : decode cX5_loosely 21 = .ok (.invokevirtual 32, 3) := dk_182 0 32 (dk_at dksX5_loosely_0 21 rfl rfl)
theorem dX5_loosely_24 : decode cX5_loosely 24 = .ok (.iconst 0, 1) := dk_3 (dk_at dksX5_loosely_1 0 rfl rfl)
theorem dX5_loosely_25 : decode cX5_loosely 25 = .ok (.istore_n 3, 1) := dk_62 (dk_at dksX5_loosely_1 1 rfl rfl)
theorem dX5_loosely_26 : decode cX5_loosely 26 = .ok (.iload_n 3, 1) := dk_29 (dk_at dksX5_loosely_1 2 rfl rfl)
theorem dX5_loosely_27 : decode cX5_loosely 27 = .ok (.bipush 8, 2) := dk_16 8 (dk_at dksX5_loosely_1 3 rfl rfl)
theorem dX5_loosely_29 : decode cX5_loosely 29 = .ok (.if_icmp .ge 24, 3) := dk_162 0 24 (dk_at dksX5_loosely_1 5 rfl rfl)
theorem dX5_loosely_32 : decode cX5_loosely 32 = .ok (.aload_n 1, 1) := dk_43 (dk_at dksX5_loosely_1 8 rfl rfl)
theorem dX5_loosely_33 : decode cX5_loosely 33 = .ok (.getfield 36, 3) := dk_180 0 36 (dk_at dksX5_loosely_1 9 rfl rfl)
theorem dX5_loosely_36 : decode cX5_loosely 36 = .ok (.iload_n 3, 1) := dk_29 (dk_at dksX5_loosely_1 12 rfl rfl)
theorem dX5_loosely_37 : decode cX5_loosely 37 = .ok (.aload_n 1, 1) := dk_43 (dk_at dksX5_loosely_1 13 rfl rfl)
theorem dX5_loosely_38 : decode cX5_loosely 38 = .ok (.getfield 36, 3) := dk_180 0 36 (dk_at dksX5_loosely_1 14 rfl rfl)
theorem dX5_loosely_41 : decode cX5_loosely 41 = .ok (.iload_n 3, 1) := dk_29 (dk_at dksX5_loosely_1 17 rfl rfl)
theorem dX5_loosely_42 : decode cX5_loosely 42 = .ok (.daload, 1) := dk_49 (dk_at dksX5_loosely_1 18 rfl rfl)
theorem dX5_loosely_43 : decode cX5_loosely 43 = .ok (.invokestatic 40, 3) := dk_184 0 40 (dk_at dksX5_loosely_1 19 rfl rfl)
theorem dX5_loosely_46 : decode cX5_loosely 46 = .ok (.dastore, 1) := dk_82 (dk_at dksX5_loosely_1 22 rfl rfl)
theorem dX5_loosely_47 : decode cX5_loosely 47 = .ok (.iinc 3 1, 3) := dk_132 3 1 (dk_at dksX5_loosely_2 0 rfl rfl)
theorem dX5_loosely_50 : decode cX5_loosely 50 = .ok (.goto (-24), 3) := dk_167 255 232 (dk_at dksX5_loosely_2 3 rfl rfl)
theorem dX5_loosely_53 : decode cX5_loosely 53 = .ok (.iinc 2 1, 3) := dk_132 2 1 (dk_at dksX5_loosely_2 6 rfl rfl)
theorem dX5_loosely_56 : decode cX5_loosely 56 = .ok (.goto (-50), 3) := dk_167 255 206 (dk_at dksX5_loosely_2 9 rfl rfl)
theorem dX5_loosely_59 : decode cX5_loosely 59 = .ok (.return_, 1) := dk_177 (dk_at dksX5_loosely_2 12 rfl rfl)
theorem q62 : (Jvm.Cond.initialized "PennyJudge$Program") ∈ lw_all := lw_g (lw_at lw_m1 5 rfl) rfl
theorem q184 : (Jvm.Cond.fieldLink "PennyJudge$Program" (36 : Nat) "PennyJudge$Run" "value" "[D") ∈ lw_all := lw_g (lw_at lw_m1 127 rfl) rfl
theorem q369 : (Jvm.Cond.instantiable "PennyJudge$Program" (4 : Nat)) ∈ lw_all := lw_g (lw_at lw_m2 72 rfl) rfl
theorem q371 : (Jvm.Cond.instanceMethod ({ cls := "PennyJudge$Program", name := "<init>", desc := "()V" } : Jvm.MethodName)) ∈ lw_all := lw_g (lw_at lw_m2 74 rfl) rfl
theorem q372 : (Jvm.Cond.code ({ cls := "PennyJudge$Program", name := "<init>", desc := "()V" } : Jvm.MethodName) prog_13_method_1_code (1 : Nat) (Option.none : Option Jvm.ClassFile.FieldType)) ∈ lw_all := lw_g (lw_at lw_m2 75 rfl) rfl
theorem q373 : (Jvm.Cond.methodLink "PennyJudge$Program" (1 : Nat) ({ cls := "java/lang/Object", name := "<init>", desc := "()V" } : Jvm.MethodName)) ∈ lw_all := lw_g (lw_at lw_m2 76 rfl) rfl
theorem q374 : (Jvm.Cond.classLink "PennyJudge$Program" (7 : Nat) "PennyJudge$Act") ∈ lw_all := lw_g (lw_at lw_m2 77 rfl) rfl
theorem q376 : (Jvm.Cond.fieldLink "PennyJudge$Program" (9 : Nat) "PennyJudge$Program" "acts" "[LPennyJudge$Act;") ∈ lw_all := lw_g (lw_at lw_m2 79 rfl) rfl
theorem q378 : (Jvm.Cond.fieldLink "PennyJudge$Program" (24 : Nat) "PennyJudge$Program" "n" "I") ∈ lw_all := lw_g (lw_at lw_m2 81 rfl) rfl
theorem q381 : (Jvm.Cond.fieldLink "PennyJudge$Program" (15 : Nat) "PennyJudge$Program" "carriedDen" "J") ∈ lw_all := lw_g (lw_at lw_m2 84 rfl) rfl
theorem q383 : (Jvm.Cond.laysFinal "PennyJudge$Program" "PennyJudge$Program" "acts" "[LPennyJudge$Act;") ∈ lw_all := lw_g (lw_at lw_m2 86 rfl) rfl
theorem q384 : (Jvm.Cond.soleField "PennyJudge$Program" "acts") ∈ lw_all := lw_g (lw_at lw_m2 87 rfl) rfl
theorem q385 : (Jvm.Cond.lays "PennyJudge$Program" "PennyJudge$Program" "n" "I") ∈ lw_all := lw_g (lw_at lw_m2 88 rfl) rfl
theorem q386 : (Jvm.Cond.soleField "PennyJudge$Program" "n") ∈ lw_all := lw_g (lw_at lw_m2 89 rfl) rfl
theorem q387 : (Jvm.Cond.lays "PennyJudge$Program" "PennyJudge$Program" "carriedNum" "J") ∈ lw_all := lw_g (lw_at lw_m2 90 rfl) rfl
theorem q388 : (Jvm.Cond.soleField "PennyJudge$Program" "carriedNum") ∈ lw_all := lw_g (lw_at lw_m2 91 rfl) rfl
theorem q389 : (Jvm.Cond.lays "PennyJudge$Program" "PennyJudge$Program" "carriedDen" "J") ∈ lw_all := lw_g (lw_at lw_m2 92 rfl) rfl
theorem q390 : (Jvm.Cond.soleField "PennyJudge$Program" "carriedDen") ∈ lw_all := lw_g (lw_at lw_m2 93 rfl) rfl
theorem q391 : (Jvm.Cond.superclass "PennyJudge$Program" "java/lang/Object") ∈ lw_all := lw_g (lw_at lw_m2 94 rfl) rfl
theorem q814 : (Jvm.Cond.instanceMethod ({ cls := "PennyJudge$Program", name := "run", desc := "(LPennyJudge$Run;)I" } : Jvm.MethodName)) ∈ lw_all := lw_g (lw_at lw_m4 37 rfl) rfl
theorem q815 : (Jvm.Cond.selects "PennyJudge$Program" ({ cls := "PennyJudge$Program", name := "run", desc := "(LPennyJudge$Run;)I" } : Jvm.MethodName) ({ cls := "PennyJudge$Program", name := "run", desc := "(LPennyJudge$Run;)I" } : Jvm.MethodName)) ∈ lw_all := lw_g (lw_at lw_m4 38 rfl) rfl
theorem q816 : (Jvm.Cond.code ({ cls := "PennyJudge$Program", name := "run", desc := "(LPennyJudge$Run;)I" } : Jvm.MethodName) prog_13_method_2_code (4 : Nat) (Option.some Jvm.ClassFile.FieldType.int)) ∈ lw_all := lw_g (lw_at lw_m4 39 rfl) rfl
theorem q817 : (Jvm.Cond.methodLink "PennyJudge$Program" (19 : Nat) ({ cls := "PennyJudge$Run", name := "begin", desc := "()V" } : Jvm.MethodName)) ∈ lw_all := lw_g (lw_at lw_m4 40 rfl) rfl
theorem q827 : (Jvm.Cond.instanceMethod ({ cls := "PennyJudge$Program", name := "loosely", desc := "(LPennyJudge$Run;)V" } : Jvm.MethodName)) ∈ lw_all := lw_g (lw_at lw_m4 50 rfl) rfl
theorem q828 : (Jvm.Cond.selects "PennyJudge$Program" ({ cls := "PennyJudge$Program", name := "loosely", desc := "(LPennyJudge$Run;)V" } : Jvm.MethodName) ({ cls := "PennyJudge$Program", name := "loosely", desc := "(LPennyJudge$Run;)V" } : Jvm.MethodName)) ∈ lw_all := lw_g (lw_at lw_m4 51 rfl) rfl
theorem q829 : (Jvm.Cond.code ({ cls := "PennyJudge$Program", name := "loosely", desc := "(LPennyJudge$Run;)V" } : Jvm.MethodName) prog_13_method_4_code (4 : Nat) (Option.none : Option Jvm.ClassFile.FieldType)) ∈ lw_all := lw_g (lw_at lw_m4 52 rfl) rfl
theorem q935 : (Jvm.Cond.methodLinkNest "PennyJudge$Program" (40 : Nat) ({ cls := "PennyJudge", name := "kept", desc := "(D)D" } : Jvm.MethodName) "PennyJudge") ∈ lw_tbl := lw_at lw_m4 158 rfl
theorem in_X5 : ∀ w ∈ wsX50, w ∈ lw_all := lw_in wsX50 [383, 385, 387, 389] (by decide +kernel) (by decide +kernel)

/-! PennyJudge$Act -/
set_option maxRecDepth 100000
def RX6 : String := "PennyJudge$Act"
abbrev cX6_init : ByteArray := prog_2_method_1_code
def yX6_init : MethodName := ⟨RX6, "<init>", "(IIII)V"⟩
def dkwX6_init_1 : List UInt8 := [181, 0, 19, 177]
abbrev dktX6_init_1 : List UInt8 := dkwX6_init_1 ++ []
def dkwX6_init_0 : List UInt8 := [42, 183, 0, 1, 42, 27, 181, 0, 7, 42, 28, 181, 0, 13, 42, 29, 181, 0, 16, 42, 21, 4]
abbrev dktX6_init_0 : List UInt8 := dkwX6_init_0 ++ dktX6_init_1
theorem dksX6_init_0 : cX6_init.data.toList.drop 0 = dktX6_init_0 := by decide +kernel
theorem dksX6_init_1 : cX6_init.data.toList.drop 22 = dktX6_init_1 := dk_seg dksX6_init_0 22 rfl rfl
theorem dX6_init_0 : decode cX6_init 0 = .ok (.aload_n 0, 1) := dk_42 (dk_at dksX6_init_0 0 rfl rfl)
theorem dX6_init_1 : decode cX6_init 1 = .ok (.invokespecial 1, 3) := dk_183 0 1 (dk_at dksX6_init_0 1 rfl rfl)
theorem dX6_init_4 : decode cX6_init 4 = .ok (.aload_n 0, 1) := dk_42 (dk_at dksX6_init_0 4 rfl rfl)
theorem dX6_init_5 : decode cX6_init 5 = .ok (.iload_n 1, 1) := dk_27 (dk_at dksX6_init_0 5 rfl rfl)
theorem dX6_init_6 : decode cX6_init 6 = .ok (.putfield 7, 3) := dk_181 0 7 (dk_at dksX6_init_0 6 rfl rfl)
theorem dX6_init_9 : decode cX6_init 9 = .ok (.aload_n 0, 1) := dk_42 (dk_at dksX6_init_0 9 rfl rfl)
theorem dX6_init_10 : decode cX6_init 10 = .ok (.iload_n 2, 1) := dk_28 (dk_at dksX6_init_0 10 rfl rfl)
theorem dX6_init_11 : decode cX6_init 11 = .ok (.putfield 13, 3) := dk_181 0 13 (dk_at dksX6_init_0 11 rfl rfl)
theorem dX6_init_14 : decode cX6_init 14 = .ok (.aload_n 0, 1) := dk_42 (dk_at dksX6_init_0 14 rfl rfl)
theorem dX6_init_15 : decode cX6_init 15 = .ok (.iload_n 3, 1) := dk_29 (dk_at dksX6_init_0 15 rfl rfl)
theorem dX6_init_16 : decode cX6_init 16 = .ok (.putfield 16, 3) := dk_181 0 16 (dk_at dksX6_init_0 16 rfl rfl)
theorem dX6_init_19 : decode cX6_init 19 = .ok (.aload_n 0, 1) := dk_42 (dk_at dksX6_init_0 19 rfl rfl)
theorem dX6_init_20 : decode cX6_init 20 = .ok (.iload 4, 2) := dk_21 4 (dk_at dksX6_init_0 20 rfl rfl)
theorem dX6_init_22 : decode cX6_init 22 = .ok (.putfield 19, 3) := dk_181 0 19 (dk_at dksX6_init_1 0 rfl rfl)
theorem dX6_init_25 : decode cX6_init 25 = .ok (.return_, 1) := dk_177 (dk_at dksX6_init_1 3 rfl rfl)
abbrev cX6_show : ByteArray := prog_2_method_5_code
def yX6_show : MethodName := ⟨RX6, "show", "(LPennyJudge$Run;Z)V"⟩
def dkwX6_show_0 : List UInt8 := [43, 180, 0, 22, 42, 180, 0, 13, 28, 84, 177]
abbrev dktX6_show_0 : List UInt8 := dkwX6_show_0 ++ []
theorem dksX6_show_0 : cX6_show.data.toList.drop 0 = dktX6_show_0 := by decide +kernel
theorem dX6_show_0 : decode cX6_show 0 = .ok (.aload_n 1, 1) := dk_43 (dk_at dksX6_show_0 0 rfl rfl)
theorem dX6_show_1 : decode cX6_show 1 = .ok (.getfield 22, 3) := dk_180 0 22 (dk_at dksX6_show_0 1 rfl rfl)
theorem dX6_show_4 : decode cX6_show 4 = .ok (.aload_n 0, 1) := dk_42 (dk_at dksX6_show_0 4 rfl rfl)
theorem dX6_show_5 : decode cX6_show 5 = .ok (.getfield 13, 3) := dk_180 0 13 (dk_at dksX6_show_0 5 rfl rfl)
theorem dX6_show_8 : decode cX6_show 8 = .ok (.iload_n 2, 1) := dk_28 (dk_at dksX6_show_0 8 rfl rfl)
theorem dX6_show_9 : decode cX6_show 9 = .ok (.bastore, 1) := dk_84 (dk_at dksX6_show_0 9 rfl rfl)
theorem dX6_show_10 : decode cX6_show 10 = .ok (.return_, 1) := dk_177 (dk_at dksX6_show_0 10 rfl rfl)
abbrev cX6_choice : ByteArray := prog_2_method_2_code
def yX6_choice : MethodName := ⟨RX6, "choice", "()I"⟩
theorem dX6_choice_0 : decode cX6_choice 0 = .ok (.iconst (-1), 1) := by decide +kernel
theorem dX6_choice_1 : decode cX6_choice 1 = .ok (.ireturn, 1) := by decide +kernel
abbrev cX6_choices : ByteArray := prog_2_method_4_code
def yX6_choices : MethodName := ⟨RX6, "choices", "()I"⟩
theorem dX6_choices_0 : decode cX6_choices 0 = .ok (.bipush 6, 2) := by decide +kernel
theorem dX6_choices_2 : decode cX6_choices 2 = .ok (.ireturn, 1) := by decide +kernel
abbrev cX6_choose : ByteArray := prog_2_method_3_code
def yX6_choose : MethodName := ⟨RX6, "choose", "(I)V"⟩
theorem dX6_choose_0 : decode cX6_choose 0 = .ok (.return_, 1) := by decide +kernel
theorem q63 : (Jvm.Cond.initialized "PennyJudge$Act") ∈ lw_all := lw_g (lw_at lw_m1 6 rfl) rfl
theorem q135 : (Jvm.Cond.fieldLink "PennyJudge$Act" (22 : Nat) "PennyJudge$Run" "shown" "[Z") ∈ lw_all := lw_g (lw_at lw_m1 78 rfl) rfl
theorem q415 : (Jvm.Cond.instanceMethod ({ cls := "PennyJudge$Act", name := "<init>", desc := "(IIII)V" } : Jvm.MethodName)) ∈ lw_all := lw_g (lw_at lw_m2 118 rfl) rfl
theorem q416 : (Jvm.Cond.code ({ cls := "PennyJudge$Act", name := "<init>", desc := "(IIII)V" } : Jvm.MethodName) prog_2_method_1_code (5 : Nat) (Option.none : Option Jvm.ClassFile.FieldType)) ∈ lw_all := lw_g (lw_at lw_m2 119 rfl) rfl
theorem q417 : (Jvm.Cond.methodLink "PennyJudge$Act" (1 : Nat) ({ cls := "java/lang/Object", name := "<init>", desc := "()V" } : Jvm.MethodName)) ∈ lw_all := lw_g (lw_at lw_m2 120 rfl) rfl
theorem q418 : (Jvm.Cond.fieldLink "PennyJudge$Act" (7 : Nat) "PennyJudge$Act" "kind" "I") ∈ lw_all := lw_g (lw_at lw_m2 121 rfl) rfl
theorem q420 : (Jvm.Cond.fieldLink "PennyJudge$Act" (13 : Nat) "PennyJudge$Act" "s" "I") ∈ lw_all := lw_g (lw_at lw_m2 123 rfl) rfl
theorem q448 : (Jvm.Cond.fieldLink "PennyJudge$Act" (16 : Nat) "PennyJudge$Act" "t" "I") ∈ lw_all := lw_g (lw_at lw_m2 151 rfl) rfl
theorem q472 : (Jvm.Cond.fieldLink "PennyJudge$Act" (19 : Nat) "PennyJudge$Act" "v" "I") ∈ lw_all := lw_g (lw_at lw_m2 175 rfl) rfl
theorem q495 : (Jvm.Cond.soleField "PennyJudge$Act" "kind") ∈ lw_all := lw_g (lw_at lw_m2 198 rfl) rfl
theorem q497 : (Jvm.Cond.soleField "PennyJudge$Act" "s") ∈ lw_all := lw_g (lw_at lw_m2 200 rfl) rfl
theorem q499 : (Jvm.Cond.soleField "PennyJudge$Act" "t") ∈ lw_all := lw_g (lw_at lw_m2 202 rfl) rfl
theorem q501 : (Jvm.Cond.soleField "PennyJudge$Act" "v") ∈ lw_all := lw_g (lw_at lw_m2 204 rfl) rfl
theorem q651 : (Jvm.Cond.superclass "PennyJudge$Act" "java/lang/Object") ∈ lw_all := lw_g (lw_at lw_m3 114 rfl) rfl
theorem q669 : (Jvm.Cond.declares ({ cls := "PennyJudge$Act", name := "show", desc := "(LPennyJudge$Run;Z)V" } : Jvm.MethodName)) ∈ lw_tbl := lw_at lw_m3 132 rfl
theorem q671 : (Jvm.Cond.instanceMethod ({ cls := "PennyJudge$Act", name := "show", desc := "(LPennyJudge$Run;Z)V" } : Jvm.MethodName)) ∈ lw_all := lw_g (lw_at lw_m3 134 rfl) rfl
theorem q672 : (Jvm.Cond.code ({ cls := "PennyJudge$Act", name := "show", desc := "(LPennyJudge$Run;Z)V" } : Jvm.MethodName) prog_2_method_5_code (3 : Nat) (Option.none : Option Jvm.ClassFile.FieldType)) ∈ lw_all := lw_g (lw_at lw_m3 135 rfl) rfl
theorem q954 : (Jvm.Cond.instanceMethod ({ cls := "PennyJudge$Act", name := "choice", desc := "()I" } : Jvm.MethodName)) ∈ lw_all := lw_g (lw_at lw_m4 177 rfl) rfl
theorem q955 : (Jvm.Cond.sameMethod "PennyJudge$Act" "PennyJudge$Act" "choice" "()I") ∈ lw_all := lw_g (lw_at lw_m4 178 rfl) rfl
theorem q977 : (Jvm.Cond.code ({ cls := "PennyJudge$Act", name := "choice", desc := "()I" } : Jvm.MethodName) prog_2_method_2_code (1 : Nat) (Option.some Jvm.ClassFile.FieldType.int)) ∈ lw_all := lw_g (lw_at lw_m4 200 rfl) rfl
theorem q979 : (Jvm.Cond.instanceMethod ({ cls := "PennyJudge$Act", name := "choices", desc := "()I" } : Jvm.MethodName)) ∈ lw_all := lw_g (lw_at lw_m4 202 rfl) rfl
theorem q980 : (Jvm.Cond.sameMethod "PennyJudge$Act" "PennyJudge$Act" "choices" "()I") ∈ lw_all := lw_g (lw_at lw_m4 203 rfl) rfl
theorem q997 : (Jvm.Cond.code ({ cls := "PennyJudge$Act", name := "choices", desc := "()I" } : Jvm.MethodName) prog_2_method_4_code (1 : Nat) (Option.some Jvm.ClassFile.FieldType.int)) ∈ lw_all := lw_g (lw_at lw_m4 220 rfl) rfl
theorem q999 : (Jvm.Cond.instanceMethod ({ cls := "PennyJudge$Act", name := "choose", desc := "(I)V" } : Jvm.MethodName)) ∈ lw_all := lw_g (lw_at lw_m4 222 rfl) rfl
theorem q1000 : (Jvm.Cond.sameMethod "PennyJudge$Act" "PennyJudge$Act" "choose" "(I)V") ∈ lw_all := lw_g (lw_at lw_m4 223 rfl) rfl
theorem q1022 : (Jvm.Cond.code ({ cls := "PennyJudge$Act", name := "choose", desc := "(I)V" } : Jvm.MethodName) prog_2_method_3_code (2 : Nat) (Option.none : Option Jvm.ClassFile.FieldType)) ∈ lw_all := lw_g (lw_at lw_m5 5 rfl) rfl

/-! PennyJudge$Sum -/
set_option maxRecDepth 100000
def RX7 : String := "PennyJudge$Sum"
def TX7 : u_T := fun k => match k with
  | 0 => ("PennyJudge$Act", "kind", "I", true)
  | 1 => ("PennyJudge$Act", "s", "I", true)
  | 2 => ("PennyJudge$Act", "t", "I", false)
  | _ => ("PennyJudge$Act", "v", "I", false)
def tyX7 : Nat → FieldType := fun k => match k with
  | 0 => .int
  | 1 => .int
  | 2 => .int
  | _ => .int
abbrev wsX70 : List Cond := u_ws RX7 TX7 4
theorem nmX7 : ∀ a, a < 4 → ∀ b, b < 4 → a ≠ b → (TX7 a).2.1 ≠ (TX7 b).2.1 := by decide +kernel
theorem tyX7_ok : ∀ k, k < 4 → parseFieldDescriptor (TX7 k).2.2.1 = some (tyX7 k) := by decide +kernel
abbrev cX7_init : ByteArray := prog_19_method_1_code
def yX7_init : MethodName := ⟨RX7, "<init>", "(IIII)V"⟩
def dkwX7_init_0 : List UInt8 := [42, 27, 28, 29, 21, 4, 183, 0, 1, 177]
abbrev dktX7_init_0 : List UInt8 := dkwX7_init_0 ++ []
theorem dksX7_init_0 : cX7_init.data.toList.drop 0 = dktX7_init_0 := by decide +kernel
theorem dX7_init_0 : decode cX7_init 0 = .ok (.aload_n 0, 1) := dk_42 (dk_at dksX7_init_0 0 rfl rfl)
theorem dX7_init_1 : decode cX7_init 1 = .ok (.iload_n 1, 1) := dk_27 (dk_at dksX7_init_0 1 rfl rfl)
theorem dX7_init_2 : decode cX7_init 2 = .ok (.iload_n 2, 1) := dk_28 (dk_at dksX7_init_0 2 rfl rfl)
theorem dX7_init_3 : decode cX7_init 3 = .ok (.iload_n 3, 1) := dk_29 (dk_at dksX7_init_0 3 rfl rfl)
theorem dX7_init_4 : decode cX7_init 4 = .ok (.iload 4, 2) := dk_21 4 (dk_at dksX7_init_0 4 rfl rfl)
theorem dX7_init_6 : decode cX7_init 6 = .ok (.invokespecial 1, 3) := dk_183 0 1 (dk_at dksX7_init_0 6 rfl rfl)
theorem dX7_init_9 : decode cX7_init 9 = .ok (.return_, 1) := dk_177 (dk_at dksX7_init_0 9 rfl rfl)
abbrev cX7_does : ByteArray := prog_19_method_2_code
def yX7_does : MethodName := ⟨RX7, "does", "(LPennyJudge$Run;)I"⟩
def dkwX7_does_1 : List UInt8 := [65, 132, 4, 1, 167, 255, 233, 42, 43, 3, 182, 0, 17, 43, 42, 180, 0, 23, 32, 10, 182, 0, 26, 172]
abbrev dktX7_does_1 : List UInt8 := dkwX7_does_1 ++ []
def dkwX7_does_0 : List UInt8 := [9, 65, 3, 54, 4, 21, 4, 43, 180, 0, 7, 162, 0, 20, 32, 43, 180, 0, 13, 21, 4, 46, 133, 97]
abbrev dktX7_does_0 : List UInt8 := dkwX7_does_0 ++ dktX7_does_1
theorem dksX7_does_0 : cX7_does.data.toList.drop 0 = dktX7_does_0 := by decide +kernel
theorem dksX7_does_1 : cX7_does.data.toList.drop 24 = dktX7_does_1 := dk_seg dksX7_does_0 24 rfl rfl
theorem dX7_does_0 : decode cX7_does 0 = .ok (.lconst 0, 1) := dk_9 (dk_at dksX7_does_0 0 rfl rfl)
theorem dX7_does_1 : decode cX7_does 1 = .ok (.lstore_n 2, 1) := dk_65 (dk_at dksX7_does_0 1 rfl rfl)
theorem dX7_does_2 : decode cX7_does 2 = .ok (.iconst 0, 1) := dk_3 (dk_at dksX7_does_0 2 rfl rfl)
theorem dX7_does_3 : decode cX7_does 3 = .ok (.istore 4, 2) := dk_54 4 (dk_at dksX7_does_0 3 rfl rfl)
theorem dX7_does_5 : decode cX7_does 5 = .ok (.iload 4, 2) := dk_21 4 (dk_at dksX7_does_0 5 rfl rfl)
theorem dX7_does_7 : decode cX7_does 7 = .ok (.aload_n 1, 1) := dk_43 (dk_at dksX7_does_0 7 rfl rfl)
theorem dX7_does_8 : decode cX7_does 8 = .ok (.getfield 7, 3) := dk_180 0 7 (dk_at dksX7_does_0 8 rfl rfl)
theorem dX7_does_11 : decode cX7_does 11 = .ok (.if_icmp .ge 20, 3) := dk_162 0 20 (dk_at dksX7_does_0 11 rfl rfl)
theorem dX7_does_14 : decode cX7_does 14 = .ok (.lload_n 2, 1) := dk_32 (dk_at dksX7_does_0 14 rfl rfl)
theorem dX7_does_15 : decode cX7_does 15 = .ok (.aload_n 1, 1) := dk_43 (dk_at dksX7_does_0 15 rfl rfl)
theorem dX7_does_16 : decode cX7_does 16 = .ok (.getfield 13, 3) := dk_180 0 13 (dk_at dksX7_does_0 16 rfl rfl)
theorem dX7_does_19 : decode cX7_does 19 = .ok (.iload 4, 2) := dk_21 4 (dk_at dksX7_does_0 19 rfl rfl)
theorem dX7_does_21 : decode cX7_does 21 = .ok (.iaload, 1) := dk_46 (dk_at dksX7_does_0 21 rfl rfl)
theorem dX7_does_22 : decode cX7_does 22 = .ok (.i2l, 1) := dk_133 (dk_at dksX7_does_0 22 rfl rfl)
theorem dX7_does_23 : decode cX7_does 23 = .ok (.ladd, 1) := dk_97 (dk_at dksX7_does_0 23 rfl rfl)
theorem dX7_does_24 : decode cX7_does 24 = .ok (.lstore_n 2, 1) := dk_65 (dk_at dksX7_does_1 0 rfl rfl)
theorem dX7_does_25 : decode cX7_does 25 = .ok (.iinc 4 1, 3) := dk_132 4 1 (dk_at dksX7_does_1 1 rfl rfl)
theorem dX7_does_28 : decode cX7_does 28 = .ok (.goto (-23), 3) := dk_167 255 233 (dk_at dksX7_does_1 4 rfl rfl)
theorem dX7_does_31 : decode cX7_does 31 = .ok (.aload_n 0, 1) := dk_42 (dk_at dksX7_does_1 7 rfl rfl)
theorem dX7_does_32 : decode cX7_does 32 = .ok (.aload_n 1, 1) := dk_43 (dk_at dksX7_does_1 8 rfl rfl)
theorem dX7_does_33 : decode cX7_does 33 = .ok (.iconst 0, 1) := dk_3 (dk_at dksX7_does_1 9 rfl rfl)
theorem dX7_does_34 : decode cX7_does 34 = .ok (.invokevirtual 17, 3) := dk_182 0 17 (dk_at dksX7_does_1 10 rfl rfl)
theorem dX7_does_37 : decode cX7_does 37 = .ok (.aload_n 1, 1) := dk_43 (dk_at dksX7_does_1 13 rfl rfl)
theorem dX7_does_38 : decode cX7_does 38 = .ok (.aload_n 0, 1) := dk_42 (dk_at dksX7_does_1 14 rfl rfl)
theorem dX7_does_39 : decode cX7_does 39 = .ok (.getfield 23, 3) := dk_180 0 23 (dk_at dksX7_does_1 15 rfl rfl)
theorem dX7_does_42 : decode cX7_does 42 = .ok (.lload_n 2, 1) := dk_32 (dk_at dksX7_does_1 18 rfl rfl)
theorem dX7_does_43 : decode cX7_does 43 = .ok (.lconst 1, 1) := dk_10 (dk_at dksX7_does_1 19 rfl rfl)
theorem dX7_does_44 : decode cX7_does 44 = .ok (.invokevirtual 26, 3) := dk_182 0 26 (dk_at dksX7_does_1 20 rfl rfl)
theorem dX7_does_47 : decode cX7_does 47 = .ok (.ireturn, 1) := dk_172 (dk_at dksX7_does_1 23 rfl rfl)
abbrev cX7_loosely : ByteArray := prog_19_method_3_code
def yX7_loosely : MethodName := ⟨RX7, "loosely", "(LPennyJudge$Run;)V"⟩
def dkwX7_loosely_1 : List UInt8 := [73, 132, 4, 1, 167, 255, 233, 43, 180, 0, 30, 42, 180, 0, 23, 40, 82, 177]
abbrev dktX7_loosely_1 : List UInt8 := dkwX7_loosely_1 ++ []
def dkwX7_loosely_0 : List UInt8 := [14, 73, 3, 54, 4, 21, 4, 43, 180, 0, 7, 162, 0, 20, 40, 43, 180, 0, 13, 21, 4, 46, 135, 99]
abbrev dktX7_loosely_0 : List UInt8 := dkwX7_loosely_0 ++ dktX7_loosely_1
theorem dksX7_loosely_0 : cX7_loosely.data.toList.drop 0 = dktX7_loosely_0 := by decide +kernel
theorem dksX7_loosely_1 : cX7_loosely.data.toList.drop 24 = dktX7_loosely_1 := dk_seg dksX7_loosely_0 24 rfl rfl
theorem dX7_loosely_0 : decode cX7_loosely 0 = .ok (.dconst 0, 1) := dk_14 (dk_at dksX7_loosely_0 0 rfl rfl)
theorem dX7_loosely_1 : decode cX7_loosely 1 = .ok (.dstore_n 2, 1) := dk_73 (dk_at dksX7_loosely_0 1 rfl rfl)
theorem dX7_loosely_2 : decode cX7_loosely 2 = .ok (.iconst 0, 1) := dk_3 (dk_at dksX7_loosely_0 2 rfl rfl)
theorem dX7_loosely_3 : decode cX7_loosely 3 = .ok (.istore 4, 2) := dk_54 4 (dk_at dksX7_loosely_0 3 rfl rfl)
theorem dX7_loosely_5 : decode cX7_loosely 5 = .ok (.iload 4, 2) := dk_21 4 (dk_at dksX7_loosely_0 5 rfl rfl)
theorem dX7_loosely_7 : decode cX7_loosely 7 = .ok (.aload_n 1, 1) := dk_43 (dk_at dksX7_loosely_0 7 rfl rfl)
theorem dX7_loosely_8 : decode cX7_loosely 8 = .ok (.getfield 7, 3) := dk_180 0 7 (dk_at dksX7_loosely_0 8 rfl rfl)
theorem dX7_loosely_11 : decode cX7_loosely 11 = .ok (.if_icmp .ge 20, 3) := dk_162 0 20 (dk_at dksX7_loosely_0 11 rfl rfl)
theorem dX7_loosely_14 : decode cX7_loosely 14 = .ok (.dload_n 2, 1) := dk_40 (dk_at dksX7_loosely_0 14 rfl rfl)
theorem dX7_loosely_15 : decode cX7_loosely 15 = .ok (.aload_n 1, 1) := dk_43 (dk_at dksX7_loosely_0 15 rfl rfl)
theorem dX7_loosely_16 : decode cX7_loosely 16 = .ok (.getfield 13, 3) := dk_180 0 13 (dk_at dksX7_loosely_0 16 rfl rfl)
theorem dX7_loosely_19 : decode cX7_loosely 19 = .ok (.iload 4, 2) := dk_21 4 (dk_at dksX7_loosely_0 19 rfl rfl)
theorem dX7_loosely_21 : decode cX7_loosely 21 = .ok (.iaload, 1) := dk_46 (dk_at dksX7_loosely_0 21 rfl rfl)
theorem dX7_loosely_22 : decode cX7_loosely 22 = .ok (.i2d, 1) := dk_135 (dk_at dksX7_loosely_0 22 rfl rfl)
theorem dX7_loosely_23 : decode cX7_loosely 23 = .ok (.dadd, 1) := dk_99 (dk_at dksX7_loosely_0 23 rfl rfl)
theorem dX7_loosely_24 : decode cX7_loosely 24 = .ok (.dstore_n 2, 1) := dk_73 (dk_at dksX7_loosely_1 0 rfl rfl)
theorem dX7_loosely_25 : decode cX7_loosely 25 = .ok (.iinc 4 1, 3) := dk_132 4 1 (dk_at dksX7_loosely_1 1 rfl rfl)
theorem dX7_loosely_28 : decode cX7_loosely 28 = .ok (.goto (-23), 3) := dk_167 255 233 (dk_at dksX7_loosely_1 4 rfl rfl)
theorem dX7_loosely_31 : decode cX7_loosely 31 = .ok (.aload_n 1, 1) := dk_43 (dk_at dksX7_loosely_1 7 rfl rfl)
theorem dX7_loosely_32 : decode cX7_loosely 32 = .ok (.getfield 30, 3) := dk_180 0 30 (dk_at dksX7_loosely_1 8 rfl rfl)
theorem dX7_loosely_35 : decode cX7_loosely 35 = .ok (.aload_n 0, 1) := dk_42 (dk_at dksX7_loosely_1 11 rfl rfl)
theorem dX7_loosely_36 : decode cX7_loosely 36 = .ok (.getfield 23, 3) := dk_180 0 23 (dk_at dksX7_loosely_1 12 rfl rfl)
theorem dX7_loosely_39 : decode cX7_loosely 39 = .ok (.dload_n 2, 1) := dk_40 (dk_at dksX7_loosely_1 15 rfl rfl)
theorem dX7_loosely_40 : decode cX7_loosely 40 = .ok (.dastore, 1) := dk_82 (dk_at dksX7_loosely_1 16 rfl rfl)
theorem dX7_loosely_41 : decode cX7_loosely 41 = .ok (.return_, 1) := dk_177 (dk_at dksX7_loosely_1 17 rfl rfl)
theorem q64 : (Jvm.Cond.initialized "PennyJudge$Sum") ∈ lw_all := lw_g (lw_at lw_m1 7 rfl) rfl
theorem q155 : (Jvm.Cond.fieldLink "PennyJudge$Sum" (13 : Nat) "PennyJudge$Run" "lines" "[I") ∈ lw_all := lw_g (lw_at lw_m1 98 rfl) rfl
theorem q158 : (Jvm.Cond.fieldLink "PennyJudge$Sum" (7 : Nat) "PennyJudge$Run" "lineCount" "I") ∈ lw_all := lw_g (lw_at lw_m1 101 rfl) rfl
theorem q181 : (Jvm.Cond.fieldLink "PennyJudge$Sum" (30 : Nat) "PennyJudge$Run" "value" "[D") ∈ lw_all := lw_g (lw_at lw_m1 124 rfl) rfl
theorem q410 : (Jvm.Cond.instantiable "PennyJudge$Sum" (4 : Nat)) ∈ lw_all := lw_g (lw_at lw_m2 113 rfl) rfl
theorem q412 : (Jvm.Cond.instanceMethod ({ cls := "PennyJudge$Sum", name := "<init>", desc := "(IIII)V" } : Jvm.MethodName)) ∈ lw_all := lw_g (lw_at lw_m2 115 rfl) rfl
theorem q413 : (Jvm.Cond.code ({ cls := "PennyJudge$Sum", name := "<init>", desc := "(IIII)V" } : Jvm.MethodName) prog_19_method_1_code (5 : Nat) (Option.none : Option Jvm.ClassFile.FieldType)) ∈ lw_all := lw_g (lw_at lw_m2 116 rfl) rfl
theorem q414 : (Jvm.Cond.methodLink "PennyJudge$Sum" (1 : Nat) ({ cls := "PennyJudge$Act", name := "<init>", desc := "(IIII)V" } : Jvm.MethodName)) ∈ lw_all := lw_g (lw_at lw_m2 117 rfl) rfl
theorem q435 : (Jvm.Cond.fieldLink "PennyJudge$Sum" (23 : Nat) "PennyJudge$Sum" "s" "I") ∈ lw_all := lw_g (lw_at lw_m2 138 rfl) rfl
theorem q436 : (Jvm.Cond.sameField "PennyJudge$Sum" "PennyJudge$Act" "s" "I") ∈ lw_all := lw_g (lw_at lw_m2 139 rfl) rfl
theorem q494 : (Jvm.Cond.laysFinal "PennyJudge$Sum" "PennyJudge$Act" "kind" "I") ∈ lw_all := lw_g (lw_at lw_m2 197 rfl) rfl
theorem q496 : (Jvm.Cond.laysFinal "PennyJudge$Sum" "PennyJudge$Act" "s" "I") ∈ lw_all := lw_g (lw_at lw_m2 199 rfl) rfl
theorem q498 : (Jvm.Cond.lays "PennyJudge$Sum" "PennyJudge$Act" "t" "I") ∈ lw_all := lw_g (lw_at lw_m2 201 rfl) rfl
theorem q500 : (Jvm.Cond.lays "PennyJudge$Sum" "PennyJudge$Act" "v" "I") ∈ lw_all := lw_g (lw_at lw_m2 203 rfl) rfl
theorem q502 : (Jvm.Cond.superclass "PennyJudge$Sum" "PennyJudge$Act") ∈ lw_all := lw_g (lw_at lw_m2 205 rfl) rfl
theorem q765 : (Jvm.Cond.selects "PennyJudge$Sum" ({ cls := "PennyJudge$Done", name := "does", desc := "(LPennyJudge$Run;)I" } : Jvm.MethodName) ({ cls := "PennyJudge$Sum", name := "does", desc := "(LPennyJudge$Run;)I" } : Jvm.MethodName)) ∈ lw_all := lw_g (lw_at lw_m3 228 rfl) rfl
theorem q766 : (Jvm.Cond.instanceMethod ({ cls := "PennyJudge$Sum", name := "does", desc := "(LPennyJudge$Run;)I" } : Jvm.MethodName)) ∈ lw_all := lw_g (lw_at lw_m3 229 rfl) rfl
theorem q767 : (Jvm.Cond.code ({ cls := "PennyJudge$Sum", name := "does", desc := "(LPennyJudge$Run;)I" } : Jvm.MethodName) prog_19_method_2_code (5 : Nat) (Option.some Jvm.ClassFile.FieldType.int)) ∈ lw_all := lw_g (lw_at lw_m3 230 rfl) rfl
theorem q768 : (Jvm.Cond.methodLink "PennyJudge$Sum" (17 : Nat) ({ cls := "PennyJudge$Sum", name := "show", desc := "(LPennyJudge$Run;Z)V" } : Jvm.MethodName)) ∈ lw_all := lw_g (lw_at lw_m3 231 rfl) rfl
theorem q769 : (Jvm.Cond.sameMethod "PennyJudge$Sum" "PennyJudge$Act" "show" "(LPennyJudge$Run;Z)V") ∈ lw_all := lw_g (lw_at lw_m3 232 rfl) rfl
theorem q771 : (Jvm.Cond.selects "PennyJudge$Sum" ({ cls := "PennyJudge$Sum", name := "show", desc := "(LPennyJudge$Run;Z)V" } : Jvm.MethodName) ({ cls := "PennyJudge$Act", name := "show", desc := "(LPennyJudge$Run;Z)V" } : Jvm.MethodName)) ∈ lw_all := lw_g (lw_at lw_m3 234 rfl) rfl
theorem q773 : (Jvm.Cond.methodLink "PennyJudge$Sum" (26 : Nat) ({ cls := "PennyJudge$Run", name := "put", desc := "(IJJ)I" } : Jvm.MethodName)) ∈ lw_all := lw_g (lw_at lw_m3 236 rfl) rfl
theorem q928 : (Jvm.Cond.selects "PennyJudge$Sum" ({ cls := "PennyJudge$Done", name := "loosely", desc := "(LPennyJudge$Run;)V" } : Jvm.MethodName) ({ cls := "PennyJudge$Sum", name := "loosely", desc := "(LPennyJudge$Run;)V" } : Jvm.MethodName)) ∈ lw_all := lw_g (lw_at lw_m4 151 rfl) rfl
theorem q929 : (Jvm.Cond.instanceMethod ({ cls := "PennyJudge$Sum", name := "loosely", desc := "(LPennyJudge$Run;)V" } : Jvm.MethodName)) ∈ lw_all := lw_g (lw_at lw_m4 152 rfl) rfl
theorem q930 : (Jvm.Cond.code ({ cls := "PennyJudge$Sum", name := "loosely", desc := "(LPennyJudge$Run;)V" } : Jvm.MethodName) prog_19_method_3_code (5 : Nat) (Option.none : Option Jvm.ClassFile.FieldType)) ∈ lw_all := lw_g (lw_at lw_m4 153 rfl) rfl
theorem q975 : (Jvm.Cond.selects "PennyJudge$Sum" ({ cls := "PennyJudge$Act", name := "choice", desc := "()I" } : Jvm.MethodName) ({ cls := "PennyJudge$Act", name := "choice", desc := "()I" } : Jvm.MethodName)) ∈ lw_all := lw_g (lw_at lw_m4 198 rfl) rfl
theorem q995 : (Jvm.Cond.selects "PennyJudge$Sum" ({ cls := "PennyJudge$Act", name := "choices", desc := "()I" } : Jvm.MethodName) ({ cls := "PennyJudge$Act", name := "choices", desc := "()I" } : Jvm.MethodName)) ∈ lw_all := lw_g (lw_at lw_m4 218 rfl) rfl
theorem q1020 : (Jvm.Cond.selects "PennyJudge$Sum" ({ cls := "PennyJudge$Act", name := "choose", desc := "(I)V" } : Jvm.MethodName) ({ cls := "PennyJudge$Act", name := "choose", desc := "(I)V" } : Jvm.MethodName)) ∈ lw_all := lw_g (lw_at lw_m5 3 rfl) rfl
theorem q1911 : (Jvm.Cond.castable "PennyJudge$Sum" "PennyJudge$Act") ∈ lw_tbl := lw_at lw_m8 174 rfl
theorem in_X7 : ∀ w ∈ wsX70, w ∈ lw_all := lw_in wsX70 [494, 496, 498, 500] (by decide +kernel) (by decide +kernel)

/-! PennyJudge$Tax -/
set_option maxRecDepth 100000
def RX8 : String := "PennyJudge$Tax"
def TX8 : u_T := fun k => match k with
  | 0 => ("PennyJudge$Act", "kind", "I", true)
  | 1 => ("PennyJudge$Act", "s", "I", true)
  | 2 => ("PennyJudge$Act", "t", "I", false)
  | _ => ("PennyJudge$Act", "v", "I", false)
def tyX8 : Nat → FieldType := fun k => match k with
  | 0 => .int
  | 1 => .int
  | 2 => .int
  | _ => .int
abbrev wsX80 : List Cond := u_ws RX8 TX8 4
theorem nmX8 : ∀ a, a < 4 → ∀ b, b < 4 → a ≠ b → (TX8 a).2.1 ≠ (TX8 b).2.1 := by decide +kernel
theorem tyX8_ok : ∀ k, k < 4 → parseFieldDescriptor (TX8 k).2.2.1 = some (tyX8 k) := by decide +kernel
abbrev cX8_init : ByteArray := prog_21_method_1_code
def yX8_init : MethodName := ⟨RX8, "<init>", "(IIII)V"⟩
def dkwX8_init_0 : List UInt8 := [42, 27, 28, 29, 21, 4, 183, 0, 1, 177]
abbrev dktX8_init_0 : List UInt8 := dkwX8_init_0 ++ []
theorem dksX8_init_0 : cX8_init.data.toList.drop 0 = dktX8_init_0 := by decide +kernel
theorem dX8_init_0 : decode cX8_init 0 = .ok (.aload_n 0, 1) := dk_42 (dk_at dksX8_init_0 0 rfl rfl)
theorem dX8_init_1 : decode cX8_init 1 = .ok (.iload_n 1, 1) := dk_27 (dk_at dksX8_init_0 1 rfl rfl)
theorem dX8_init_2 : decode cX8_init 2 = .ok (.iload_n 2, 1) := dk_28 (dk_at dksX8_init_0 2 rfl rfl)
theorem dX8_init_3 : decode cX8_init 3 = .ok (.iload_n 3, 1) := dk_29 (dk_at dksX8_init_0 3 rfl rfl)
theorem dX8_init_4 : decode cX8_init 4 = .ok (.iload 4, 2) := dk_21 4 (dk_at dksX8_init_0 4 rfl rfl)
theorem dX8_init_6 : decode cX8_init 6 = .ok (.invokespecial 1, 3) := dk_183 0 1 (dk_at dksX8_init_0 6 rfl rfl)
theorem dX8_init_9 : decode cX8_init 9 = .ok (.return_, 1) := dk_177 (dk_at dksX8_init_0 9 rfl rfl)
abbrev cX8_does : ByteArray := prog_21_method_4_code
def yX8_does : MethodName := ⟨RX8, "does", "(LPennyJudge$Run;)I"⟩
def dkwX8_does_3 : List UInt8 := [43, 3, 182, 0, 42, 43, 42, 180, 0, 46, 32, 10, 182, 0, 49, 172]
abbrev dktX8_does_3 : List UInt8 := dkwX8_does_3 ++ []
def dkwX8_does_2 : List UInt8 := [180, 0, 7, 184, 0, 36, 80, 32, 43, 180, 0, 18, 21, 4, 47, 97, 65, 132, 4, 1, 167, 255, 193, 42]
abbrev dktX8_does_2 : List UInt8 := dkwX8_does_2 ++ dktX8_does_3
def dkwX8_does_1 : List UInt8 := [21, 4, 46, 133, 43, 42, 180, 0, 26, 182, 0, 29, 133, 105, 43, 42, 180, 0, 26, 182, 0, 33, 133, 42]
abbrev dktX8_does_1 : List UInt8 := dkwX8_does_1 ++ dktX8_does_2
def dkwX8_does_0 : List UInt8 := [9, 65, 3, 54, 4, 21, 4, 43, 180, 0, 13, 162, 0, 60, 43, 180, 0, 18, 21, 4, 43, 180, 0, 22]
abbrev dktX8_does_0 : List UInt8 := dkwX8_does_0 ++ dktX8_does_1
theorem dksX8_does_0 : cX8_does.data.toList.drop 0 = dktX8_does_0 := by decide +kernel
theorem dksX8_does_1 : cX8_does.data.toList.drop 24 = dktX8_does_1 := dk_seg dksX8_does_0 24 rfl rfl
theorem dksX8_does_2 : cX8_does.data.toList.drop 48 = dktX8_does_2 := dk_seg dksX8_does_1 24 rfl rfl
theorem dksX8_does_3 : cX8_does.data.toList.drop 72 = dktX8_does_3 := dk_seg dksX8_does_2 24 rfl rfl
theorem dX8_does_0 : decode cX8_does 0 = .ok (.lconst 0, 1) := dk_9 (dk_at dksX8_does_0 0 rfl rfl)
theorem dX8_does_1 : decode cX8_does 1 = .ok (.lstore_n 2, 1) := dk_65 (dk_at dksX8_does_0 1 rfl rfl)
theorem dX8_does_2 : decode cX8_does 2 = .ok (.iconst 0, 1) := dk_3 (dk_at dksX8_does_0 2 rfl rfl)
theorem dX8_does_3 : decode cX8_does 3 = .ok (.istore 4, 2) := dk_54 4 (dk_at dksX8_does_0 3 rfl rfl)
theorem dX8_does_5 : decode cX8_does 5 = .ok (.iload 4, 2) := dk_21 4 (dk_at dksX8_does_0 5 rfl rfl)
theorem dX8_does_7 : decode cX8_does 7 = .ok (.aload_n 1, 1) := dk_43 (dk_at dksX8_does_0 7 rfl rfl)
theorem dX8_does_8 : decode cX8_does 8 = .ok (.getfield 13, 3) := dk_180 0 13 (dk_at dksX8_does_0 8 rfl rfl)
theorem dX8_does_11 : decode cX8_does 11 = .ok (.if_icmp .ge 60, 3) := dk_162 0 60 (dk_at dksX8_does_0 11 rfl rfl)
theorem dX8_does_14 : decode cX8_does 14 = .ok (.aload_n 1, 1) := dk_43 (dk_at dksX8_does_0 14 rfl rfl)
theorem dX8_does_15 : decode cX8_does 15 = .ok (.getfield 18, 3) := dk_180 0 18 (dk_at dksX8_does_0 15 rfl rfl)
theorem dX8_does_18 : decode cX8_does 18 = .ok (.iload 4, 2) := dk_21 4 (dk_at dksX8_does_0 18 rfl rfl)
theorem dX8_does_20 : decode cX8_does 20 = .ok (.aload_n 1, 1) := dk_43 (dk_at dksX8_does_0 20 rfl rfl)
theorem dX8_does_21 : decode cX8_does 21 = .ok (.getfield 22, 3) := dk_180 0 22 (dk_at dksX8_does_0 21 rfl rfl)
theorem dX8_does_24 : decode cX8_does 24 = .ok (.iload 4, 2) := dk_21 4 (dk_at dksX8_does_1 0 rfl rfl)
theorem dX8_does_26 : decode cX8_does 26 = .ok (.iaload, 1) := dk_46 (dk_at dksX8_does_1 2 rfl rfl)
theorem dX8_does_27 : decode cX8_does 27 = .ok (.i2l, 1) := dk_133 (dk_at dksX8_does_1 3 rfl rfl)
theorem dX8_does_28 : decode cX8_does 28 = .ok (.aload_n 1, 1) := dk_43 (dk_at dksX8_does_1 4 rfl rfl)
theorem dX8_does_29 : decode cX8_does 29 = .ok (.aload_n 0, 1) := dk_42 (dk_at dksX8_does_1 5 rfl rfl)
theorem dX8_does_30 : decode cX8_does 30 = .ok (.getfield 26, 3) := dk_180 0 26 (dk_at dksX8_does_1 6 rfl rfl)
theorem dX8_does_33 : decode cX8_does 33 = .ok (.invokevirtual 29, 3) := dk_182 0 29 (dk_at dksX8_does_1 9 rfl rfl)
theorem dX8_does_36 : decode cX8_does 36 = .ok (.i2l, 1) := dk_133 (dk_at dksX8_does_1 12 rfl rfl)
theorem dX8_does_37 : decode cX8_does 37 = .ok (.lmul, 1) := dk_105 (dk_at dksX8_does_1 13 rfl rfl)
theorem dX8_does_38 : decode cX8_does 38 = .ok (.aload_n 1, 1) := dk_43 (dk_at dksX8_does_1 14 rfl rfl)
theorem dX8_does_39 : decode cX8_does 39 = .ok (.aload_n 0, 1) := dk_42 (dk_at dksX8_does_1 15 rfl rfl)
theorem dX8_does_40 : decode cX8_does 40 = .ok (.getfield 26, 3) := dk_180 0 26 (dk_at dksX8_does_1 16 rfl rfl)
theorem dX8_does_43 : decode cX8_does 43 = .ok (.invokevirtual 33, 3) := dk_182 0 33 (dk_at dksX8_does_1 19 rfl rfl)
theorem dX8_does_46 : decode cX8_does 46 = .ok (.i2l, 1) := dk_133 (dk_at dksX8_does_1 22 rfl rfl)
theorem dX8_does_47 : decode cX8_does 47 = .ok (.aload_n 0, 1) := dk_42 (dk_at dksX8_does_1 23 rfl rfl)
theorem dX8_does_48 : decode cX8_does 48 = .ok (.getfield 7, 3) := dk_180 0 7 (dk_at dksX8_does_2 0 rfl rfl)
theorem dX8_does_51 : decode cX8_does 51 = .ok (.invokestatic 36, 3) := dk_184 0 36 (dk_at dksX8_does_2 3 rfl rfl)
theorem dX8_does_54 : decode cX8_does 54 = .ok (.lastore, 1) := dk_80 (dk_at dksX8_does_2 6 rfl rfl)
theorem dX8_does_55 : decode cX8_does 55 = .ok (.lload_n 2, 1) := dk_32 (dk_at dksX8_does_2 7 rfl rfl)
theorem dX8_does_56 : decode cX8_does 56 = .ok (.aload_n 1, 1) := dk_43 (dk_at dksX8_does_2 8 rfl rfl)
theorem dX8_does_57 : decode cX8_does 57 = .ok (.getfield 18, 3) := dk_180 0 18 (dk_at dksX8_does_2 9 rfl rfl)
theorem dX8_does_60 : decode cX8_does 60 = .ok (.iload 4, 2) := dk_21 4 (dk_at dksX8_does_2 12 rfl rfl)
theorem dX8_does_62 : decode cX8_does 62 = .ok (.laload, 1) := dk_47 (dk_at dksX8_does_2 14 rfl rfl)
theorem dX8_does_63 : decode cX8_does 63 = .ok (.ladd, 1) := dk_97 (dk_at dksX8_does_2 15 rfl rfl)
theorem dX8_does_64 : decode cX8_does 64 = .ok (.lstore_n 2, 1) := dk_65 (dk_at dksX8_does_2 16 rfl rfl)
theorem dX8_does_65 : decode cX8_does 65 = .ok (.iinc 4 1, 3) := dk_132 4 1 (dk_at dksX8_does_2 17 rfl rfl)
theorem dX8_does_68 : decode cX8_does 68 = .ok (.goto (-63), 3) := dk_167 255 193 (dk_at dksX8_does_2 20 rfl rfl)
theorem dX8_does_71 : decode cX8_does 71 = .ok (.aload_n 0, 1) := dk_42 (dk_at dksX8_does_2 23 rfl rfl)
theorem dX8_does_72 : decode cX8_does 72 = .ok (.aload_n 1, 1) := dk_43 (dk_at dksX8_does_3 0 rfl rfl)
theorem dX8_does_73 : decode cX8_does 73 = .ok (.iconst 0, 1) := dk_3 (dk_at dksX8_does_3 1 rfl rfl)
theorem dX8_does_74 : decode cX8_does 74 = .ok (.invokevirtual 42, 3) := dk_182 0 42 (dk_at dksX8_does_3 2 rfl rfl)
theorem dX8_does_77 : decode cX8_does 77 = .ok (.aload_n 1, 1) := dk_43 (dk_at dksX8_does_3 5 rfl rfl)
theorem dX8_does_78 : decode cX8_does 78 = .ok (.aload_n 0, 1) := dk_42 (dk_at dksX8_does_3 6 rfl rfl)
theorem dX8_does_79 : decode cX8_does 79 = .ok (.getfield 46, 3) := dk_180 0 46 (dk_at dksX8_does_3 7 rfl rfl)
theorem dX8_does_82 : decode cX8_does 82 = .ok (.lload_n 2, 1) := dk_32 (dk_at dksX8_does_3 10 rfl rfl)
theorem dX8_does_83 : decode cX8_does 83 = .ok (.lconst 1, 1) := dk_10 (dk_at dksX8_does_3 11 rfl rfl)
theorem dX8_does_84 : decode cX8_does 84 = .ok (.invokevirtual 49, 3) := dk_182 0 49 (dk_at dksX8_does_3 12 rfl rfl)
theorem dX8_does_87 : decode cX8_does 87 = .ok (.ireturn, 1) := dk_172 (dk_at dksX8_does_3 15 rfl rfl)
abbrev cX8_loosely : ByteArray := prog_21_method_5_code
def yX8_loosely : MethodName := ⟨RX8, "loosely", "(LPennyJudge$Run;)V"⟩
def dkwX8_loosely_3 : List UInt8 := [132, 6, 1, 167, 255, 207, 43, 180, 0, 61, 42, 180, 0, 46, 24, 4, 82, 177]
abbrev dktX8_loosely_3 : List UInt8 := dkwX8_loosely_3 ++ []
def dkwX8_loosely_2 : List UInt8 := [135, 40, 107, 4, 42, 180, 0, 7, 184, 0, 57, 82, 24, 4, 43, 180, 0, 53, 21, 6, 49, 99, 57, 4]
abbrev dktX8_loosely_2 : List UInt8 := dkwX8_loosely_2 ++ dktX8_loosely_3
def dkwX8_loosely_1 : List UInt8 := [54, 6, 21, 6, 43, 180, 0, 13, 162, 0, 46, 43, 180, 0, 53, 21, 6, 43, 180, 0, 22, 21, 6, 46]
abbrev dktX8_loosely_1 : List UInt8 := dkwX8_loosely_1 ++ dktX8_loosely_2
def dkwX8_loosely_0 : List UInt8 := [43, 42, 180, 0, 26, 182, 0, 29, 135, 43, 42, 180, 0, 26, 182, 0, 33, 135, 111, 73, 14, 57, 4, 3]
abbrev dktX8_loosely_0 : List UInt8 := dkwX8_loosely_0 ++ dktX8_loosely_1
theorem dksX8_loosely_0 : cX8_loosely.data.toList.drop 0 = dktX8_loosely_0 := by decide +kernel
theorem dksX8_loosely_1 : cX8_loosely.data.toList.drop 24 = dktX8_loosely_1 := dk_seg dksX8_loosely_0 24 rfl rfl
theorem dksX8_loosely_2 : cX8_loosely.data.toList.drop 48 = dktX8_loosely_2 := dk_seg dksX8_loosely_1 24 rfl rfl
theorem dksX8_loosely_3 : cX8_loosely.data.toList.drop 72 = dktX8_loosely_3 := dk_seg dksX8_loosely_2 24 rfl rfl
theorem dX8_loosely_0 : decode cX8_loosely 0 = .ok (.aload_n 1, 1) := dk_43 (dk_at dksX8_loosely_0 0 rfl rfl)
theorem dX8_loosely_1 : decode cX8_loosely 1 = .ok (.aload_n 0, 1) := dk_42 (dk_at dksX8_loosely_0 1 rfl rfl)
theorem dX8_loosely_2 : decode cX8_loosely 2 = .ok (.getfield 26, 3) := dk_180 0 26 (dk_at dksX8_loosely_0 2 rfl rfl)
theorem dX8_loosely_5 : decode cX8_loosely 5 = .ok (.invokevirtual 29, 3) := dk_182 0 29 (dk_at dksX8_loosely_0 5 rfl rfl)
theorem dX8_loosely_8 : decode cX8_loosely 8 = .ok (.i2d, 1) := dk_135 (dk_at dksX8_loosely_0 8 rfl rfl)
theorem dX8_loosely_9 : decode cX8_loosely 9 = .ok (.aload_n 1, 1) := dk_43 (dk_at dksX8_loosely_0 9 rfl rfl)
theorem dX8_loosely_10 : decode cX8_loosely 10 = .ok (.aload_n 0, 1) := dk_42 (dk_at dksX8_loosely_0 10 rfl rfl)
theorem dX8_loosely_11 : decode cX8_loosely 11 = .ok (.getfield 26, 3) := dk_180 0 26 (dk_at dksX8_loosely_0 11 rfl rfl)
theorem dX8_loosely_14 : decode cX8_loosely 14 = .ok (.invokevirtual 33, 3) := dk_182 0 33 (dk_at dksX8_loosely_0 14 rfl rfl)
theorem dX8_loosely_17 : decode cX8_loosely 17 = .ok (.i2d, 1) := dk_135 (dk_at dksX8_loosely_0 17 rfl rfl)
theorem dX8_loosely_18 : decode cX8_loosely 18 = .ok (.ddiv, 1) := dk_111 (dk_at dksX8_loosely_0 18 rfl rfl)
theorem dX8_loosely_19 : decode cX8_loosely 19 = .ok (.dstore_n 2, 1) := dk_73 (dk_at dksX8_loosely_0 19 rfl rfl)
theorem dX8_loosely_20 : decode cX8_loosely 20 = .ok (.dconst 0, 1) := dk_14 (dk_at dksX8_loosely_0 20 rfl rfl)
theorem dX8_loosely_21 : decode cX8_loosely 21 = .ok (.dstore 4, 2) := dk_57 4 (dk_at dksX8_loosely_0 21 rfl rfl)
theorem dX8_loosely_23 : decode cX8_loosely 23 = .ok (.iconst 0, 1) := dk_3 (dk_at dksX8_loosely_0 23 rfl rfl)
theorem dX8_loosely_24 : decode cX8_loosely 24 = .ok (.istore 6, 2) := dk_54 6 (dk_at dksX8_loosely_1 0 rfl rfl)
theorem dX8_loosely_26 : decode cX8_loosely 26 = .ok (.iload 6, 2) := dk_21 6 (dk_at dksX8_loosely_1 2 rfl rfl)
theorem dX8_loosely_28 : decode cX8_loosely 28 = .ok (.aload_n 1, 1) := dk_43 (dk_at dksX8_loosely_1 4 rfl rfl)
theorem dX8_loosely_29 : decode cX8_loosely 29 = .ok (.getfield 13, 3) := dk_180 0 13 (dk_at dksX8_loosely_1 5 rfl rfl)
theorem dX8_loosely_32 : decode cX8_loosely 32 = .ok (.if_icmp .ge 46, 3) := dk_162 0 46 (dk_at dksX8_loosely_1 8 rfl rfl)
theorem dX8_loosely_35 : decode cX8_loosely 35 = .ok (.aload_n 1, 1) := dk_43 (dk_at dksX8_loosely_1 11 rfl rfl)
theorem dX8_loosely_36 : decode cX8_loosely 36 = .ok (.getfield 53, 3) := dk_180 0 53 (dk_at dksX8_loosely_1 12 rfl rfl)
theorem dX8_loosely_39 : decode cX8_loosely 39 = .ok (.iload 6, 2) := dk_21 6 (dk_at dksX8_loosely_1 15 rfl rfl)
theorem dX8_loosely_41 : decode cX8_loosely 41 = .ok (.aload_n 1, 1) := dk_43 (dk_at dksX8_loosely_1 17 rfl rfl)
theorem dX8_loosely_42 : decode cX8_loosely 42 = .ok (.getfield 22, 3) := dk_180 0 22 (dk_at dksX8_loosely_1 18 rfl rfl)
theorem dX8_loosely_45 : decode cX8_loosely 45 = .ok (.iload 6, 2) := dk_21 6 (dk_at dksX8_loosely_1 21 rfl rfl)
theorem dX8_loosely_47 : decode cX8_loosely 47 = .ok (.iaload, 1) := dk_46 (dk_at dksX8_loosely_1 23 rfl rfl)
theorem dX8_loosely_48 : decode cX8_loosely 48 = .ok (.i2d, 1) := dk_135 (dk_at dksX8_loosely_2 0 rfl rfl)
theorem dX8_loosely_49 : decode cX8_loosely 49 = .ok (.dload_n 2, 1) := dk_40 (dk_at dksX8_loosely_2 1 rfl rfl)
theorem dX8_loosely_50 : decode cX8_loosely 50 = .ok (.dmul, 1) := dk_107 (dk_at dksX8_loosely_2 2 rfl rfl)
theorem dX8_loosely_51 : decode cX8_loosely 51 = .ok (.iconst 1, 1) := dk_4 (dk_at dksX8_loosely_2 3 rfl rfl)
theorem dX8_loosely_52 : decode cX8_loosely 52 = .ok (.aload_n 0, 1) := dk_42 (dk_at dksX8_loosely_2 4 rfl rfl)
theorem dX8_loosely_53 : decode cX8_loosely 53 = .ok (.getfield 7, 3) := dk_180 0 7 (dk_at dksX8_loosely_2 5 rfl rfl)
theorem dX8_loosely_56 : decode cX8_loosely 56 = .ok (.invokestatic 57, 3) := dk_184 0 57 (dk_at dksX8_loosely_2 8 rfl rfl)
theorem dX8_loosely_59 : decode cX8_loosely 59 = .ok (.dastore, 1) := dk_82 (dk_at dksX8_loosely_2 11 rfl rfl)
theorem dX8_loosely_60 : decode cX8_loosely 60 = .ok (.dload 4, 2) := dk_24 4 (dk_at dksX8_loosely_2 12 rfl rfl)
theorem dX8_loosely_62 : decode cX8_loosely 62 = .ok (.aload_n 1, 1) := dk_43 (dk_at dksX8_loosely_2 14 rfl rfl)
theorem dX8_loosely_63 : decode cX8_loosely 63 = .ok (.getfield 53, 3) := dk_180 0 53 (dk_at dksX8_loosely_2 15 rfl rfl)
theorem dX8_loosely_66 : decode cX8_loosely 66 = .ok (.iload 6, 2) := dk_21 6 (dk_at dksX8_loosely_2 18 rfl rfl)
theorem dX8_loosely_68 : decode cX8_loosely 68 = .ok (.daload, 1) := dk_49 (dk_at dksX8_loosely_2 20 rfl rfl)
theorem dX8_loosely_69 : decode cX8_loosely 69 = .ok (.dadd, 1) := dk_99 (dk_at dksX8_loosely_2 21 rfl rfl)
theorem dX8_loosely_70 : decode cX8_loosely 70 = .ok (.dstore 4, 2) := dk_57 4 (dk_at dksX8_loosely_2 22 rfl rfl)
theorem dX8_loosely_72 : decode cX8_loosely 72 = .ok (.iinc 6 1, 3) := dk_132 6 1 (dk_at dksX8_loosely_3 0 rfl rfl)
theorem dX8_loosely_75 : decode cX8_loosely 75 = .ok (.goto (-49), 3) := dk_167 255 207 (dk_at dksX8_loosely_3 3 rfl rfl)
theorem dX8_loosely_78 : decode cX8_loosely 78 = .ok (.aload_n 1, 1) := dk_43 (dk_at dksX8_loosely_3 6 rfl rfl)
theorem dX8_loosely_79 : decode cX8_loosely 79 = .ok (.getfield 61, 3) := dk_180 0 61 (dk_at dksX8_loosely_3 7 rfl rfl)
theorem dX8_loosely_82 : decode cX8_loosely 82 = .ok (.aload_n 0, 1) := dk_42 (dk_at dksX8_loosely_3 10 rfl rfl)
theorem dX8_loosely_83 : decode cX8_loosely 83 = .ok (.getfield 46, 3) := dk_180 0 46 (dk_at dksX8_loosely_3 11 rfl rfl)
theorem dX8_loosely_86 : decode cX8_loosely 86 = .ok (.dload 4, 2) := dk_24 4 (dk_at dksX8_loosely_3 14 rfl rfl)
theorem dX8_loosely_88 : decode cX8_loosely 88 = .ok (.dastore, 1) := dk_82 (dk_at dksX8_loosely_3 16 rfl rfl)
theorem dX8_loosely_89 : decode cX8_loosely 89 = .ok (.return_, 1) := dk_177 (dk_at dksX8_loosely_3 17 rfl rfl)
abbrev cX8_choice : ByteArray := prog_21_method_2_code
def yX8_choice : MethodName := ⟨RX8, "choice", "()I"⟩
theorem dX8_choice_0 : decode cX8_choice 0 = .ok (.aload_n 0, 1) := by decide +kernel
theorem dX8_choice_1 : decode cX8_choice 1 = .ok (.getfield 7, 3) := by decide +kernel
theorem dX8_choice_4 : decode cX8_choice 4 = .ok (.ireturn, 1) := by decide +kernel
abbrev cX8_choose : ByteArray := prog_21_method_3_code
def yX8_choose : MethodName := ⟨RX8, "choose", "(I)V"⟩
def dkwX8_choose_0 : List UInt8 := [42, 27, 181, 0, 7, 177]
abbrev dktX8_choose_0 : List UInt8 := dkwX8_choose_0 ++ []
theorem dksX8_choose_0 : cX8_choose.data.toList.drop 0 = dktX8_choose_0 := by decide +kernel
theorem dX8_choose_0 : decode cX8_choose 0 = .ok (.aload_n 0, 1) := dk_42 (dk_at dksX8_choose_0 0 rfl rfl)
theorem dX8_choose_1 : decode cX8_choose 1 = .ok (.iload_n 1, 1) := dk_27 (dk_at dksX8_choose_0 1 rfl rfl)
theorem dX8_choose_2 : decode cX8_choose 2 = .ok (.putfield 7, 3) := dk_181 0 7 (dk_at dksX8_choose_0 2 rfl rfl)
theorem dX8_choose_5 : decode cX8_choose 5 = .ok (.return_, 1) := dk_177 (dk_at dksX8_choose_0 5 rfl rfl)
theorem q65 : (Jvm.Cond.initialized "PennyJudge$Tax") ∈ lw_all := lw_g (lw_at lw_m1 8 rfl) rfl
theorem q152 : (Jvm.Cond.fieldLink "PennyJudge$Tax" (18 : Nat) "PennyJudge$Run" "results" "[J") ∈ lw_all := lw_g (lw_at lw_m1 95 rfl) rfl
theorem q157 : (Jvm.Cond.fieldLink "PennyJudge$Tax" (22 : Nat) "PennyJudge$Run" "lines" "[I") ∈ lw_all := lw_g (lw_at lw_m1 100 rfl) rfl
theorem q160 : (Jvm.Cond.fieldLink "PennyJudge$Tax" (13 : Nat) "PennyJudge$Run" "lineCount" "I") ∈ lw_all := lw_g (lw_at lw_m1 103 rfl) rfl
theorem q187 : (Jvm.Cond.fieldLink "PennyJudge$Tax" (61 : Nat) "PennyJudge$Run" "value" "[D") ∈ lw_all := lw_g (lw_at lw_m1 130 rfl) rfl
theorem q191 : (Jvm.Cond.fieldLink "PennyJudge$Tax" (53 : Nat) "PennyJudge$Run" "got" "[D") ∈ lw_all := lw_g (lw_at lw_m1 134 rfl) rfl
theorem q443 : (Jvm.Cond.fieldLink "PennyJudge$Tax" (46 : Nat) "PennyJudge$Tax" "s" "I") ∈ lw_all := lw_g (lw_at lw_m2 146 rfl) rfl
theorem q444 : (Jvm.Cond.sameField "PennyJudge$Tax" "PennyJudge$Act" "s" "I") ∈ lw_all := lw_g (lw_at lw_m2 147 rfl) rfl
theorem q469 : (Jvm.Cond.fieldLink "PennyJudge$Tax" (26 : Nat) "PennyJudge$Tax" "t" "I") ∈ lw_all := lw_g (lw_at lw_m2 172 rfl) rfl
theorem q470 : (Jvm.Cond.sameField "PennyJudge$Tax" "PennyJudge$Act" "t" "I") ∈ lw_all := lw_g (lw_at lw_m2 173 rfl) rfl
theorem q475 : (Jvm.Cond.fieldLink "PennyJudge$Tax" (7 : Nat) "PennyJudge$Tax" "v" "I") ∈ lw_all := lw_g (lw_at lw_m2 178 rfl) rfl
theorem q476 : (Jvm.Cond.sameField "PennyJudge$Tax" "PennyJudge$Act" "v" "I") ∈ lw_all := lw_g (lw_at lw_m2 179 rfl) rfl
theorem q504 : (Jvm.Cond.instantiable "PennyJudge$Tax" (4 : Nat)) ∈ lw_all := lw_g (lw_at lw_m2 207 rfl) rfl
theorem q506 : (Jvm.Cond.instanceMethod ({ cls := "PennyJudge$Tax", name := "<init>", desc := "(IIII)V" } : Jvm.MethodName)) ∈ lw_all := lw_g (lw_at lw_m2 209 rfl) rfl
theorem q507 : (Jvm.Cond.code ({ cls := "PennyJudge$Tax", name := "<init>", desc := "(IIII)V" } : Jvm.MethodName) prog_21_method_1_code (5 : Nat) (Option.none : Option Jvm.ClassFile.FieldType)) ∈ lw_all := lw_g (lw_at lw_m2 210 rfl) rfl
theorem q508 : (Jvm.Cond.methodLink "PennyJudge$Tax" (1 : Nat) ({ cls := "PennyJudge$Sum", name := "<init>", desc := "(IIII)V" } : Jvm.MethodName)) ∈ lw_all := lw_g (lw_at lw_m2 211 rfl) rfl
theorem q509 : (Jvm.Cond.laysFinal "PennyJudge$Tax" "PennyJudge$Act" "kind" "I") ∈ lw_all := lw_g (lw_at lw_m2 212 rfl) rfl
theorem q510 : (Jvm.Cond.laysFinal "PennyJudge$Tax" "PennyJudge$Act" "s" "I") ∈ lw_all := lw_g (lw_at lw_m2 213 rfl) rfl
theorem q511 : (Jvm.Cond.lays "PennyJudge$Tax" "PennyJudge$Act" "t" "I") ∈ lw_all := lw_g (lw_at lw_m2 214 rfl) rfl
theorem q512 : (Jvm.Cond.lays "PennyJudge$Tax" "PennyJudge$Act" "v" "I") ∈ lw_all := lw_g (lw_at lw_m2 215 rfl) rfl
theorem q513 : (Jvm.Cond.superclass "PennyJudge$Tax" "PennyJudge$Sum") ∈ lw_all := lw_g (lw_at lw_m2 216 rfl) rfl
theorem q772 : (Jvm.Cond.selects "PennyJudge$Tax" ({ cls := "PennyJudge$Sum", name := "show", desc := "(LPennyJudge$Run;Z)V" } : Jvm.MethodName) ({ cls := "PennyJudge$Act", name := "show", desc := "(LPennyJudge$Run;Z)V" } : Jvm.MethodName)) ∈ lw_all := lw_g (lw_at lw_m3 235 rfl) rfl
theorem q774 : (Jvm.Cond.selects "PennyJudge$Tax" ({ cls := "PennyJudge$Done", name := "does", desc := "(LPennyJudge$Run;)I" } : Jvm.MethodName) ({ cls := "PennyJudge$Tax", name := "does", desc := "(LPennyJudge$Run;)I" } : Jvm.MethodName)) ∈ lw_all := lw_g (lw_at lw_m3 237 rfl) rfl
theorem q775 : (Jvm.Cond.instanceMethod ({ cls := "PennyJudge$Tax", name := "does", desc := "(LPennyJudge$Run;)I" } : Jvm.MethodName)) ∈ lw_all := lw_g (lw_at lw_m3 238 rfl) rfl
theorem q776 : (Jvm.Cond.code ({ cls := "PennyJudge$Tax", name := "does", desc := "(LPennyJudge$Run;)I" } : Jvm.MethodName) prog_21_method_4_code (5 : Nat) (Option.some Jvm.ClassFile.FieldType.int)) ∈ lw_all := lw_g (lw_at lw_m3 239 rfl) rfl
theorem q777 : (Jvm.Cond.methodLink "PennyJudge$Tax" (29 : Nat) ({ cls := "PennyJudge$Run", name := "p", desc := "(I)I" } : Jvm.MethodName)) ∈ lw_all := lw_g (lw_at lw_m4 0 rfl) rfl
theorem q778 : (Jvm.Cond.methodLink "PennyJudge$Tax" (33 : Nat) ({ cls := "PennyJudge$Run", name := "q", desc := "(I)I" } : Jvm.MethodName)) ∈ lw_all := lw_g (lw_at lw_m4 1 rfl) rfl
theorem q779 : (Jvm.Cond.methodLinkNest "PennyJudge$Tax" (36 : Nat) ({ cls := "PennyJudge", name := "whole", desc := "(JJI)J" } : Jvm.MethodName) "PennyJudge") ∈ lw_tbl := lw_at lw_m4 2 rfl
theorem q780 : (Jvm.Cond.methodLink "PennyJudge$Tax" (42 : Nat) ({ cls := "PennyJudge$Tax", name := "show", desc := "(LPennyJudge$Run;Z)V" } : Jvm.MethodName)) ∈ lw_all := lw_g (lw_at lw_m4 3 rfl) rfl
theorem q781 : (Jvm.Cond.sameMethod "PennyJudge$Tax" "PennyJudge$Act" "show" "(LPennyJudge$Run;Z)V") ∈ lw_all := lw_g (lw_at lw_m4 4 rfl) rfl
theorem q783 : (Jvm.Cond.selects "PennyJudge$Tax" ({ cls := "PennyJudge$Tax", name := "show", desc := "(LPennyJudge$Run;Z)V" } : Jvm.MethodName) ({ cls := "PennyJudge$Act", name := "show", desc := "(LPennyJudge$Run;Z)V" } : Jvm.MethodName)) ∈ lw_all := lw_g (lw_at lw_m4 6 rfl) rfl
theorem q784 : (Jvm.Cond.methodLink "PennyJudge$Tax" (49 : Nat) ({ cls := "PennyJudge$Run", name := "put", desc := "(IJJ)I" } : Jvm.MethodName)) ∈ lw_all := lw_g (lw_at lw_m4 7 rfl) rfl
theorem q931 : (Jvm.Cond.selects "PennyJudge$Tax" ({ cls := "PennyJudge$Done", name := "loosely", desc := "(LPennyJudge$Run;)V" } : Jvm.MethodName) ({ cls := "PennyJudge$Tax", name := "loosely", desc := "(LPennyJudge$Run;)V" } : Jvm.MethodName)) ∈ lw_all := lw_g (lw_at lw_m4 154 rfl) rfl
theorem q932 : (Jvm.Cond.instanceMethod ({ cls := "PennyJudge$Tax", name := "loosely", desc := "(LPennyJudge$Run;)V" } : Jvm.MethodName)) ∈ lw_all := lw_g (lw_at lw_m4 155 rfl) rfl
theorem q933 : (Jvm.Cond.code ({ cls := "PennyJudge$Tax", name := "loosely", desc := "(LPennyJudge$Run;)V" } : Jvm.MethodName) prog_21_method_5_code (7 : Nat) (Option.none : Option Jvm.ClassFile.FieldType)) ∈ lw_all := lw_g (lw_at lw_m4 156 rfl) rfl
theorem q934 : (Jvm.Cond.methodLinkNest "PennyJudge$Tax" (57 : Nat) ({ cls := "PennyJudge", name := "loose", desc := "(DII)D" } : Jvm.MethodName) "PennyJudge") ∈ lw_tbl := lw_at lw_m4 157 rfl
theorem q962 : (Jvm.Cond.instanceMethod ({ cls := "PennyJudge$Tax", name := "choice", desc := "()I" } : Jvm.MethodName)) ∈ lw_all := lw_g (lw_at lw_m4 185 rfl) rfl
theorem q963 : (Jvm.Cond.code ({ cls := "PennyJudge$Tax", name := "choice", desc := "()I" } : Jvm.MethodName) prog_21_method_2_code (1 : Nat) (Option.some Jvm.ClassFile.FieldType.int)) ∈ lw_all := lw_g (lw_at lw_m4 186 rfl) rfl
theorem q976 : (Jvm.Cond.selects "PennyJudge$Tax" ({ cls := "PennyJudge$Act", name := "choice", desc := "()I" } : Jvm.MethodName) ({ cls := "PennyJudge$Tax", name := "choice", desc := "()I" } : Jvm.MethodName)) ∈ lw_all := lw_g (lw_at lw_m4 199 rfl) rfl
theorem q996 : (Jvm.Cond.selects "PennyJudge$Tax" ({ cls := "PennyJudge$Act", name := "choices", desc := "()I" } : Jvm.MethodName) ({ cls := "PennyJudge$Act", name := "choices", desc := "()I" } : Jvm.MethodName)) ∈ lw_all := lw_g (lw_at lw_m4 219 rfl) rfl
theorem q1007 : (Jvm.Cond.instanceMethod ({ cls := "PennyJudge$Tax", name := "choose", desc := "(I)V" } : Jvm.MethodName)) ∈ lw_all := lw_g (lw_at lw_m4 230 rfl) rfl
theorem q1008 : (Jvm.Cond.code ({ cls := "PennyJudge$Tax", name := "choose", desc := "(I)V" } : Jvm.MethodName) prog_21_method_3_code (2 : Nat) (Option.none : Option Jvm.ClassFile.FieldType)) ∈ lw_all := lw_g (lw_at lw_m4 231 rfl) rfl
theorem q1021 : (Jvm.Cond.selects "PennyJudge$Tax" ({ cls := "PennyJudge$Act", name := "choose", desc := "(I)V" } : Jvm.MethodName) ({ cls := "PennyJudge$Tax", name := "choose", desc := "(I)V" } : Jvm.MethodName)) ∈ lw_all := lw_g (lw_at lw_m5 4 rfl) rfl
theorem q1912 : (Jvm.Cond.castable "PennyJudge$Tax" "PennyJudge$Act") ∈ lw_tbl := lw_at lw_m8 175 rfl
theorem in_X8 : ∀ w ∈ wsX80, w ∈ lw_all := lw_in wsX80 [509, 510, 511, 512] (by decide +kernel) (by decide +kernel)

/-! PennyJudge$Flow -/
set_option maxRecDepth 100000
def RX9 : String := "PennyJudge$Flow"
def TX9 : u_T := fun k => match k with
  | 0 => ("PennyJudge$Act", "kind", "I", true)
  | 1 => ("PennyJudge$Act", "s", "I", true)
  | 2 => ("PennyJudge$Act", "t", "I", false)
  | _ => ("PennyJudge$Act", "v", "I", false)
def tyX9 : Nat → FieldType := fun k => match k with
  | 0 => .int
  | 1 => .int
  | 2 => .int
  | _ => .int
abbrev wsX90 : List Cond := u_ws RX9 TX9 4
theorem nmX9 : ∀ a, a < 4 → ∀ b, b < 4 → a ≠ b → (TX9 a).2.1 ≠ (TX9 b).2.1 := by decide +kernel
theorem tyX9_ok : ∀ k, k < 4 → parseFieldDescriptor (TX9 k).2.2.1 = some (tyX9 k) := by decide +kernel
abbrev cX9_init : ByteArray := prog_9_method_1_code
def yX9_init : MethodName := ⟨RX9, "<init>", "(IIII)V"⟩
def dkwX9_init_0 : List UInt8 := [42, 27, 28, 29, 21, 4, 183, 0, 1, 177]
abbrev dktX9_init_0 : List UInt8 := dkwX9_init_0 ++ []
theorem dksX9_init_0 : cX9_init.data.toList.drop 0 = dktX9_init_0 := by decide +kernel
theorem dX9_init_0 : decode cX9_init 0 = .ok (.aload_n 0, 1) := dk_42 (dk_at dksX9_init_0 0 rfl rfl)
theorem dX9_init_1 : decode cX9_init 1 = .ok (.iload_n 1, 1) := dk_27 (dk_at dksX9_init_0 1 rfl rfl)
theorem dX9_init_2 : decode cX9_init 2 = .ok (.iload_n 2, 1) := dk_28 (dk_at dksX9_init_0 2 rfl rfl)
theorem dX9_init_3 : decode cX9_init 3 = .ok (.iload_n 3, 1) := dk_29 (dk_at dksX9_init_0 3 rfl rfl)
theorem dX9_init_4 : decode cX9_init 4 = .ok (.iload 4, 2) := dk_21 4 (dk_at dksX9_init_0 4 rfl rfl)
theorem dX9_init_6 : decode cX9_init 6 = .ok (.invokespecial 1, 3) := dk_183 0 1 (dk_at dksX9_init_0 6 rfl rfl)
theorem dX9_init_9 : decode cX9_init 9 = .ok (.return_, 1) := dk_177 (dk_at dksX9_init_0 9 rfl rfl)
abbrev cX9_does : ByteArray := prog_9_method_2_code
def yX9_does : MethodName := ⟨RX9, "does", "(LPennyJudge$Run;)I"⟩
def dkwX9_does_4 : List UInt8 := [22, 4, 10, 182, 0, 49, 172]
abbrev dktX9_does_4 : List UInt8 := dkwX9_does_4 ++ []
def dkwX9_does_3 : List UInt8 := [21, 6, 47, 97, 55, 4, 132, 6, 1, 167, 255, 184, 42, 43, 3, 182, 0, 42, 43, 42, 180, 0, 46]
abbrev dktX9_does_3 : List UInt8 := dkwX9_does_3 ++ dktX9_does_4
def dkwX9_does_2 : List UInt8 := [180, 0, 21, 182, 0, 30, 133, 42, 180, 0, 33, 184, 0, 36, 22, 4, 101, 80, 22, 4, 43, 180, 0, 17]
abbrev dktX9_does_2 : List UInt8 := dkwX9_does_2 ++ dktX9_does_3
def dkwX9_does_1 : List UInt8 := [46, 133, 97, 65, 43, 180, 0, 17, 21, 6, 32, 43, 42, 180, 0, 21, 182, 0, 26, 133, 105, 43, 42]
abbrev dktX9_does_1 : List UInt8 := dkwX9_does_1 ++ dktX9_does_2
def dkwX9_does_0 : List UInt8 := [9, 65, 9, 55, 4, 3, 54, 6, 21, 6, 43, 180, 0, 7, 162, 0, 69, 32, 43, 180, 0, 13, 21, 6]
abbrev dktX9_does_0 : List UInt8 := dkwX9_does_0 ++ dktX9_does_1
theorem dksX9_does_0 : cX9_does.data.toList.drop 0 = dktX9_does_0 := by decide +kernel
theorem dksX9_does_1 : cX9_does.data.toList.drop 24 = dktX9_does_1 := dk_seg dksX9_does_0 24 rfl rfl
theorem dksX9_does_2 : cX9_does.data.toList.drop 47 = dktX9_does_2 := dk_seg dksX9_does_1 23 rfl rfl
theorem dksX9_does_3 : cX9_does.data.toList.drop 71 = dktX9_does_3 := dk_seg dksX9_does_2 24 rfl rfl
theorem dksX9_does_4 : cX9_does.data.toList.drop 94 = dktX9_does_4 := dk_seg dksX9_does_3 23 rfl rfl
theorem dX9_does_0 : decode cX9_does 0 = .ok (.lconst 0, 1) := dk_9 (dk_at dksX9_does_0 0 rfl rfl)
theorem dX9_does_1 : decode cX9_does 1 = .ok (.lstore_n 2, 1) := dk_65 (dk_at dksX9_does_0 1 rfl rfl)
theorem dX9_does_2 : decode cX9_does 2 = .ok (.lconst 0, 1) := dk_9 (dk_at dksX9_does_0 2 rfl rfl)
theorem dX9_does_3 : decode cX9_does 3 = .ok (.lstore 4, 2) := dk_55 4 (dk_at dksX9_does_0 3 rfl rfl)
theorem dX9_does_5 : decode cX9_does 5 = .ok (.iconst 0, 1) := dk_3 (dk_at dksX9_does_0 5 rfl rfl)
theorem dX9_does_6 : decode cX9_does 6 = .ok (.istore 6, 2) := dk_54 6 (dk_at dksX9_does_0 6 rfl rfl)
theorem dX9_does_8 : decode cX9_does 8 = .ok (.iload 6, 2) := dk_21 6 (dk_at dksX9_does_0 8 rfl rfl)
theorem dX9_does_10 : decode cX9_does 10 = .ok (.aload_n 1, 1) := dk_43 (dk_at dksX9_does_0 10 rfl rfl)
theorem dX9_does_11 : decode cX9_does 11 = .ok (.getfield 7, 3) := dk_180 0 7 (dk_at dksX9_does_0 11 rfl rfl)
theorem dX9_does_14 : decode cX9_does 14 = .ok (.if_icmp .ge 69, 3) := dk_162 0 69 (dk_at dksX9_does_0 14 rfl rfl)
theorem dX9_does_17 : decode cX9_does 17 = .ok (.lload_n 2, 1) := dk_32 (dk_at dksX9_does_0 17 rfl rfl)
theorem dX9_does_18 : decode cX9_does 18 = .ok (.aload_n 1, 1) := dk_43 (dk_at dksX9_does_0 18 rfl rfl)
theorem dX9_does_19 : decode cX9_does 19 = .ok (.getfield 13, 3) := dk_180 0 13 (dk_at dksX9_does_0 19 rfl rfl)
theorem dX9_does_22 : decode cX9_does 22 = .ok (.iload 6, 2) := dk_21 6 (dk_at dksX9_does_0 22 rfl rfl)
theorem dX9_does_24 : decode cX9_does 24 = .ok (.iaload, 1) := dk_46 (dk_at dksX9_does_1 0 rfl rfl)
theorem dX9_does_25 : decode cX9_does 25 = .ok (.i2l, 1) := dk_133 (dk_at dksX9_does_1 1 rfl rfl)
theorem dX9_does_26 : decode cX9_does 26 = .ok (.ladd, 1) := dk_97 (dk_at dksX9_does_1 2 rfl rfl)
theorem dX9_does_27 : decode cX9_does 27 = .ok (.lstore_n 2, 1) := dk_65 (dk_at dksX9_does_1 3 rfl rfl)
theorem dX9_does_28 : decode cX9_does 28 = .ok (.aload_n 1, 1) := dk_43 (dk_at dksX9_does_1 4 rfl rfl)
theorem dX9_does_29 : decode cX9_does 29 = .ok (.getfield 17, 3) := dk_180 0 17 (dk_at dksX9_does_1 5 rfl rfl)
theorem dX9_does_32 : decode cX9_does 32 = .ok (.iload 6, 2) := dk_21 6 (dk_at dksX9_does_1 8 rfl rfl)
theorem dX9_does_34 : decode cX9_does 34 = .ok (.lload_n 2, 1) := dk_32 (dk_at dksX9_does_1 10 rfl rfl)
theorem dX9_does_35 : decode cX9_does 35 = .ok (.aload_n 1, 1) := dk_43 (dk_at dksX9_does_1 11 rfl rfl)
theorem dX9_does_36 : decode cX9_does 36 = .ok (.aload_n 0, 1) := dk_42 (dk_at dksX9_does_1 12 rfl rfl)
theorem dX9_does_37 : decode cX9_does 37 = .ok (.getfield 21, 3) := dk_180 0 21 (dk_at dksX9_does_1 13 rfl rfl)
theorem dX9_does_40 : decode cX9_does 40 = .ok (.invokevirtual 26, 3) := dk_182 0 26 (dk_at dksX9_does_1 16 rfl rfl)
theorem dX9_does_43 : decode cX9_does 43 = .ok (.i2l, 1) := dk_133 (dk_at dksX9_does_1 19 rfl rfl)
theorem dX9_does_44 : decode cX9_does 44 = .ok (.lmul, 1) := dk_105 (dk_at dksX9_does_1 20 rfl rfl)
theorem dX9_does_45 : decode cX9_does 45 = .ok (.aload_n 1, 1) := dk_43 (dk_at dksX9_does_1 21 rfl rfl)
theorem dX9_does_46 : decode cX9_does 46 = .ok (.aload_n 0, 1) := dk_42 (dk_at dksX9_does_1 22 rfl rfl)
theorem dX9_does_47 : decode cX9_does 47 = .ok (.getfield 21, 3) := dk_180 0 21 (dk_at dksX9_does_2 0 rfl rfl)
theorem dX9_does_50 : decode cX9_does 50 = .ok (.invokevirtual 30, 3) := dk_182 0 30 (dk_at dksX9_does_2 3 rfl rfl)
theorem dX9_does_53 : decode cX9_does 53 = .ok (.i2l, 1) := dk_133 (dk_at dksX9_does_2 6 rfl rfl)
theorem dX9_does_54 : decode cX9_does 54 = .ok (.aload_n 0, 1) := dk_42 (dk_at dksX9_does_2 7 rfl rfl)
theorem dX9_does_55 : decode cX9_does 55 = .ok (.getfield 33, 3) := dk_180 0 33 (dk_at dksX9_does_2 8 rfl rfl)
theorem dX9_does_58 : decode cX9_does 58 = .ok (.invokestatic 36, 3) := dk_184 0 36 (dk_at dksX9_does_2 11 rfl rfl)
theorem dX9_does_61 : decode cX9_does 61 = .ok (.lload 4, 2) := dk_22 4 (dk_at dksX9_does_2 14 rfl rfl)
theorem dX9_does_63 : decode cX9_does 63 = .ok (.lsub, 1) := dk_101 (dk_at dksX9_does_2 16 rfl rfl)
theorem dX9_does_64 : decode cX9_does 64 = .ok (.lastore, 1) := dk_80 (dk_at dksX9_does_2 17 rfl rfl)
theorem dX9_does_65 : decode cX9_does 65 = .ok (.lload 4, 2) := dk_22 4 (dk_at dksX9_does_2 18 rfl rfl)
theorem dX9_does_67 : decode cX9_does 67 = .ok (.aload_n 1, 1) := dk_43 (dk_at dksX9_does_2 20 rfl rfl)
theorem dX9_does_68 : decode cX9_does 68 = .ok (.getfield 17, 3) := dk_180 0 17 (dk_at dksX9_does_2 21 rfl rfl)
theorem dX9_does_71 : decode cX9_does 71 = .ok (.iload 6, 2) := dk_21 6 (dk_at dksX9_does_3 0 rfl rfl)
theorem dX9_does_73 : decode cX9_does 73 = .ok (.laload, 1) := dk_47 (dk_at dksX9_does_3 2 rfl rfl)
theorem dX9_does_74 : decode cX9_does 74 = .ok (.ladd, 1) := dk_97 (dk_at dksX9_does_3 3 rfl rfl)
theorem dX9_does_75 : decode cX9_does 75 = .ok (.lstore 4, 2) := dk_55 4 (dk_at dksX9_does_3 4 rfl rfl)
theorem dX9_does_77 : decode cX9_does 77 = .ok (.iinc 6 1, 3) := dk_132 6 1 (dk_at dksX9_does_3 6 rfl rfl)
theorem dX9_does_80 : decode cX9_does 80 = .ok (.goto (-72), 3) := dk_167 255 184 (dk_at dksX9_does_3 9 rfl rfl)
theorem dX9_does_83 : decode cX9_does 83 = .ok (.aload_n 0, 1) := dk_42 (dk_at dksX9_does_3 12 rfl rfl)
theorem dX9_does_84 : decode cX9_does 84 = .ok (.aload_n 1, 1) := dk_43 (dk_at dksX9_does_3 13 rfl rfl)
theorem dX9_does_85 : decode cX9_does 85 = .ok (.iconst 0, 1) := dk_3 (dk_at dksX9_does_3 14 rfl rfl)
theorem dX9_does_86 : decode cX9_does 86 = .ok (.invokevirtual 42, 3) := dk_182 0 42 (dk_at dksX9_does_3 15 rfl rfl)
theorem dX9_does_89 : decode cX9_does 89 = .ok (.aload_n 1, 1) := dk_43 (dk_at dksX9_does_3 18 rfl rfl)
theorem dX9_does_90 : decode cX9_does 90 = .ok (.aload_n 0, 1) := dk_42 (dk_at dksX9_does_3 19 rfl rfl)
theorem dX9_does_91 : decode cX9_does 91 = .ok (.getfield 46, 3) := dk_180 0 46 (dk_at dksX9_does_3 20 rfl rfl)
theorem dX9_does_94 : decode cX9_does 94 = .ok (.lload 4, 2) := dk_22 4 (dk_at dksX9_does_4 0 rfl rfl)
theorem dX9_does_96 : decode cX9_does 96 = .ok (.lconst 1, 1) := dk_10 (dk_at dksX9_does_4 2 rfl rfl)
theorem dX9_does_97 : decode cX9_does 97 = .ok (.invokevirtual 49, 3) := dk_182 0 49 (dk_at dksX9_does_4 3 rfl rfl)
theorem dX9_does_100 : decode cX9_does 100 = .ok (.ireturn, 1) := dk_172 (dk_at dksX9_does_4 6 rfl rfl)
abbrev cX9_loosely : ByteArray := prog_9_method_3_code
def yX9_loosely : MethodName := ⟨RX9, "loosely", "(LPennyJudge$Run;)V"⟩
def dkwX9_loosely_4 : List UInt8 := [180, 0, 46, 24, 6, 82, 177]
abbrev dktX9_loosely_4 : List UInt8 := dkwX9_loosely_4 ++ []
def dkwX9_loosely_3 : List UInt8 := [82, 24, 6, 43, 180, 0, 53, 21, 8, 49, 99, 57, 6, 132, 8, 1, 167, 255, 197, 43, 180, 0, 61, 42]
abbrev dktX9_loosely_3 : List UInt8 := dkwX9_loosely_3 ++ dktX9_loosely_4
def dkwX9_loosely_2 : List UInt8 := [99, 57, 4, 43, 180, 0, 53, 21, 8, 24, 4, 40, 107, 4, 42, 180, 0, 33, 184, 0, 57, 24, 6, 103]
abbrev dktX9_loosely_2 : List UInt8 := dkwX9_loosely_2 ++ dktX9_loosely_3
def dkwX9_loosely_1 : List UInt8 := [57, 6, 3, 54, 8, 21, 8, 43, 180, 0, 7, 162, 0, 56, 24, 4, 43, 180, 0, 13, 21, 8, 46, 135]
abbrev dktX9_loosely_1 : List UInt8 := dkwX9_loosely_1 ++ dktX9_loosely_2
def dkwX9_loosely_0 : List UInt8 := [43, 42, 180, 0, 21, 182, 0, 26, 135, 43, 42, 180, 0, 21, 182, 0, 30, 135, 111, 73, 14, 57, 4, 14]
abbrev dktX9_loosely_0 : List UInt8 := dkwX9_loosely_0 ++ dktX9_loosely_1
theorem dksX9_loosely_0 : cX9_loosely.data.toList.drop 0 = dktX9_loosely_0 := by decide +kernel
theorem dksX9_loosely_1 : cX9_loosely.data.toList.drop 24 = dktX9_loosely_1 := dk_seg dksX9_loosely_0 24 rfl rfl
theorem dksX9_loosely_2 : cX9_loosely.data.toList.drop 48 = dktX9_loosely_2 := dk_seg dksX9_loosely_1 24 rfl rfl
theorem dksX9_loosely_3 : cX9_loosely.data.toList.drop 72 = dktX9_loosely_3 := dk_seg dksX9_loosely_2 24 rfl rfl
theorem dksX9_loosely_4 : cX9_loosely.data.toList.drop 96 = dktX9_loosely_4 := dk_seg dksX9_loosely_3 24 rfl rfl
theorem dX9_loosely_0 : decode cX9_loosely 0 = .ok (.aload_n 1, 1) := dk_43 (dk_at dksX9_loosely_0 0 rfl rfl)
theorem dX9_loosely_1 : decode cX9_loosely 1 = .ok (.aload_n 0, 1) := dk_42 (dk_at dksX9_loosely_0 1 rfl rfl)
theorem dX9_loosely_2 : decode cX9_loosely 2 = .ok (.getfield 21, 3) := dk_180 0 21 (dk_at dksX9_loosely_0 2 rfl rfl)
theorem dX9_loosely_5 : decode cX9_loosely 5 = .ok (.invokevirtual 26, 3) := dk_182 0 26 (dk_at dksX9_loosely_0 5 rfl rfl)
theorem dX9_loosely_8 : decode cX9_loosely 8 = .ok (.i2d, 1) := dk_135 (dk_at dksX9_loosely_0 8 rfl rfl)
theorem dX9_loosely_9 : decode cX9_loosely 9 = .ok (.aload_n 1, 1) := dk_43 (dk_at dksX9_loosely_0 9 rfl rfl)
theorem dX9_loosely_10 : decode cX9_loosely 10 = .ok (.aload_n 0, 1) := dk_42 (dk_at dksX9_loosely_0 10 rfl rfl)
theorem dX9_loosely_11 : decode cX9_loosely 11 = .ok (.getfield 21, 3) := dk_180 0 21 (dk_at dksX9_loosely_0 11 rfl rfl)
theorem dX9_loosely_14 : decode cX9_loosely 14 = .ok (.invokevirtual 30, 3) := dk_182 0 30 (dk_at dksX9_loosely_0 14 rfl rfl)
theorem dX9_loosely_17 : decode cX9_loosely 17 = .ok (.i2d, 1) := dk_135 (dk_at dksX9_loosely_0 17 rfl rfl)
theorem dX9_loosely_18 : decode cX9_loosely 18 = .ok (.ddiv, 1) := dk_111 (dk_at dksX9_loosely_0 18 rfl rfl)
theorem dX9_loosely_19 : decode cX9_loosely 19 = .ok (.dstore_n 2, 1) := dk_73 (dk_at dksX9_loosely_0 19 rfl rfl)
theorem dX9_loosely_20 : decode cX9_loosely 20 = .ok (.dconst 0, 1) := dk_14 (dk_at dksX9_loosely_0 20 rfl rfl)
theorem dX9_loosely_21 : decode cX9_loosely 21 = .ok (.dstore 4, 2) := dk_57 4 (dk_at dksX9_loosely_0 21 rfl rfl)
theorem dX9_loosely_23 : decode cX9_loosely 23 = .ok (.dconst 0, 1) := dk_14 (dk_at dksX9_loosely_0 23 rfl rfl)
theorem dX9_loosely_24 : decode cX9_loosely 24 = .ok (.dstore 6, 2) := dk_57 6 (dk_at dksX9_loosely_1 0 rfl rfl)
theorem dX9_loosely_26 : decode cX9_loosely 26 = .ok (.iconst 0, 1) := dk_3 (dk_at dksX9_loosely_1 2 rfl rfl)
theorem dX9_loosely_27 : decode cX9_loosely 27 = .ok (.istore 8, 2) := dk_54 8 (dk_at dksX9_loosely_1 3 rfl rfl)
theorem dX9_loosely_29 : decode cX9_loosely 29 = .ok (.iload 8, 2) := dk_21 8 (dk_at dksX9_loosely_1 5 rfl rfl)
theorem dX9_loosely_31 : decode cX9_loosely 31 = .ok (.aload_n 1, 1) := dk_43 (dk_at dksX9_loosely_1 7 rfl rfl)
theorem dX9_loosely_32 : decode cX9_loosely 32 = .ok (.getfield 7, 3) := dk_180 0 7 (dk_at dksX9_loosely_1 8 rfl rfl)
theorem dX9_loosely_35 : decode cX9_loosely 35 = .ok (.if_icmp .ge 56, 3) := dk_162 0 56 (dk_at dksX9_loosely_1 11 rfl rfl)
theorem dX9_loosely_38 : decode cX9_loosely 38 = .ok (.dload 4, 2) := dk_24 4 (dk_at dksX9_loosely_1 14 rfl rfl)
theorem dX9_loosely_40 : decode cX9_loosely 40 = .ok (.aload_n 1, 1) := dk_43 (dk_at dksX9_loosely_1 16 rfl rfl)
theorem dX9_loosely_41 : decode cX9_loosely 41 = .ok (.getfield 13, 3) := dk_180 0 13 (dk_at dksX9_loosely_1 17 rfl rfl)
theorem dX9_loosely_44 : decode cX9_loosely 44 = .ok (.iload 8, 2) := dk_21 8 (dk_at dksX9_loosely_1 20 rfl rfl)
theorem dX9_loosely_46 : decode cX9_loosely 46 = .ok (.iaload, 1) := dk_46 (dk_at dksX9_loosely_1 22 rfl rfl)
theorem dX9_loosely_47 : decode cX9_loosely 47 = .ok (.i2d, 1) := dk_135 (dk_at dksX9_loosely_1 23 rfl rfl)
theorem dX9_loosely_48 : decode cX9_loosely 48 = .ok (.dadd, 1) := dk_99 (dk_at dksX9_loosely_2 0 rfl rfl)
theorem dX9_loosely_49 : decode cX9_loosely 49 = .ok (.dstore 4, 2) := dk_57 4 (dk_at dksX9_loosely_2 1 rfl rfl)
theorem dX9_loosely_51 : decode cX9_loosely 51 = .ok (.aload_n 1, 1) := dk_43 (dk_at dksX9_loosely_2 3 rfl rfl)
theorem dX9_loosely_52 : decode cX9_loosely 52 = .ok (.getfield 53, 3) := dk_180 0 53 (dk_at dksX9_loosely_2 4 rfl rfl)
theorem dX9_loosely_55 : decode cX9_loosely 55 = .ok (.iload 8, 2) := dk_21 8 (dk_at dksX9_loosely_2 7 rfl rfl)
theorem dX9_loosely_57 : decode cX9_loosely 57 = .ok (.dload 4, 2) := dk_24 4 (dk_at dksX9_loosely_2 9 rfl rfl)
theorem dX9_loosely_59 : decode cX9_loosely 59 = .ok (.dload_n 2, 1) := dk_40 (dk_at dksX9_loosely_2 11 rfl rfl)
theorem dX9_loosely_60 : decode cX9_loosely 60 = .ok (.dmul, 1) := dk_107 (dk_at dksX9_loosely_2 12 rfl rfl)
theorem dX9_loosely_61 : decode cX9_loosely 61 = .ok (.iconst 1, 1) := dk_4 (dk_at dksX9_loosely_2 13 rfl rfl)
theorem dX9_loosely_62 : decode cX9_loosely 62 = .ok (.aload_n 0, 1) := dk_42 (dk_at dksX9_loosely_2 14 rfl rfl)
theorem dX9_loosely_63 : decode cX9_loosely 63 = .ok (.getfield 33, 3) := dk_180 0 33 (dk_at dksX9_loosely_2 15 rfl rfl)
theorem dX9_loosely_66 : decode cX9_loosely 66 = .ok (.invokestatic 57, 3) := dk_184 0 57 (dk_at dksX9_loosely_2 18 rfl rfl)
theorem dX9_loosely_69 : decode cX9_loosely 69 = .ok (.dload 6, 2) := dk_24 6 (dk_at dksX9_loosely_2 21 rfl rfl)
theorem dX9_loosely_71 : decode cX9_loosely 71 = .ok (.dsub, 1) := dk_103 (dk_at dksX9_loosely_2 23 rfl rfl)
theorem dX9_loosely_72 : decode cX9_loosely 72 = .ok (.dastore, 1) := dk_82 (dk_at dksX9_loosely_3 0 rfl rfl)
theorem dX9_loosely_73 : decode cX9_loosely 73 = .ok (.dload 6, 2) := dk_24 6 (dk_at dksX9_loosely_3 1 rfl rfl)
theorem dX9_loosely_75 : decode cX9_loosely 75 = .ok (.aload_n 1, 1) := dk_43 (dk_at dksX9_loosely_3 3 rfl rfl)
theorem dX9_loosely_76 : decode cX9_loosely 76 = .ok (.getfield 53, 3) := dk_180 0 53 (dk_at dksX9_loosely_3 4 rfl rfl)
theorem dX9_loosely_79 : decode cX9_loosely 79 = .ok (.iload 8, 2) := dk_21 8 (dk_at dksX9_loosely_3 7 rfl rfl)
theorem dX9_loosely_81 : decode cX9_loosely 81 = .ok (.daload, 1) := dk_49 (dk_at dksX9_loosely_3 9 rfl rfl)
theorem dX9_loosely_82 : decode cX9_loosely 82 = .ok (.dadd, 1) := dk_99 (dk_at dksX9_loosely_3 10 rfl rfl)
theorem dX9_loosely_83 : decode cX9_loosely 83 = .ok (.dstore 6, 2) := dk_57 6 (dk_at dksX9_loosely_3 11 rfl rfl)
theorem dX9_loosely_85 : decode cX9_loosely 85 = .ok (.iinc 8 1, 3) := dk_132 8 1 (dk_at dksX9_loosely_3 13 rfl rfl)
theorem dX9_loosely_88 : decode cX9_loosely 88 = .ok (.goto (-59), 3) := dk_167 255 197 (dk_at dksX9_loosely_3 16 rfl rfl)
theorem dX9_loosely_91 : decode cX9_loosely 91 = .ok (.aload_n 1, 1) := dk_43 (dk_at dksX9_loosely_3 19 rfl rfl)
theorem dX9_loosely_92 : decode cX9_loosely 92 = .ok (.getfield 61, 3) := dk_180 0 61 (dk_at dksX9_loosely_3 20 rfl rfl)
theorem dX9_loosely_95 : decode cX9_loosely 95 = .ok (.aload_n 0, 1) := dk_42 (dk_at dksX9_loosely_3 23 rfl rfl)
theorem dX9_loosely_96 : decode cX9_loosely 96 = .ok (.getfield 46, 3) := dk_180 0 46 (dk_at dksX9_loosely_4 0 rfl rfl)
theorem dX9_loosely_99 : decode cX9_loosely 99 = .ok (.dload 6, 2) := dk_24 6 (dk_at dksX9_loosely_4 3 rfl rfl)
theorem dX9_loosely_101 : decode cX9_loosely 101 = .ok (.dastore, 1) := dk_82 (dk_at dksX9_loosely_4 5 rfl rfl)
theorem dX9_loosely_102 : decode cX9_loosely 102 = .ok (.return_, 1) := dk_177 (dk_at dksX9_loosely_4 6 rfl rfl)
theorem q66 : (Jvm.Cond.initialized "PennyJudge$Flow") ∈ lw_all := lw_g (lw_at lw_m1 9 rfl) rfl
theorem q151 : (Jvm.Cond.fieldLink "PennyJudge$Flow" (17 : Nat) "PennyJudge$Run" "results" "[J") ∈ lw_all := lw_g (lw_at lw_m1 94 rfl) rfl
theorem q156 : (Jvm.Cond.fieldLink "PennyJudge$Flow" (13 : Nat) "PennyJudge$Run" "lines" "[I") ∈ lw_all := lw_g (lw_at lw_m1 99 rfl) rfl
theorem q159 : (Jvm.Cond.fieldLink "PennyJudge$Flow" (7 : Nat) "PennyJudge$Run" "lineCount" "I") ∈ lw_all := lw_g (lw_at lw_m1 102 rfl) rfl
theorem q183 : (Jvm.Cond.fieldLink "PennyJudge$Flow" (61 : Nat) "PennyJudge$Run" "value" "[D") ∈ lw_all := lw_g (lw_at lw_m1 126 rfl) rfl
theorem q190 : (Jvm.Cond.fieldLink "PennyJudge$Flow" (53 : Nat) "PennyJudge$Run" "got" "[D") ∈ lw_all := lw_g (lw_at lw_m1 133 rfl) rfl
theorem q437 : (Jvm.Cond.fieldLink "PennyJudge$Flow" (46 : Nat) "PennyJudge$Flow" "s" "I") ∈ lw_all := lw_g (lw_at lw_m2 140 rfl) rfl
theorem q438 : (Jvm.Cond.sameField "PennyJudge$Flow" "PennyJudge$Act" "s" "I") ∈ lw_all := lw_g (lw_at lw_m2 141 rfl) rfl
theorem q465 : (Jvm.Cond.fieldLink "PennyJudge$Flow" (21 : Nat) "PennyJudge$Flow" "t" "I") ∈ lw_all := lw_g (lw_at lw_m2 168 rfl) rfl
theorem q466 : (Jvm.Cond.sameField "PennyJudge$Flow" "PennyJudge$Act" "t" "I") ∈ lw_all := lw_g (lw_at lw_m2 169 rfl) rfl
theorem q487 : (Jvm.Cond.fieldLink "PennyJudge$Flow" (33 : Nat) "PennyJudge$Flow" "v" "I") ∈ lw_all := lw_g (lw_at lw_m2 190 rfl) rfl
theorem q488 : (Jvm.Cond.sameField "PennyJudge$Flow" "PennyJudge$Act" "v" "I") ∈ lw_all := lw_g (lw_at lw_m2 191 rfl) rfl
theorem q515 : (Jvm.Cond.instantiable "PennyJudge$Flow" (4 : Nat)) ∈ lw_all := lw_g (lw_at lw_m2 218 rfl) rfl
theorem q517 : (Jvm.Cond.instanceMethod ({ cls := "PennyJudge$Flow", name := "<init>", desc := "(IIII)V" } : Jvm.MethodName)) ∈ lw_all := lw_g (lw_at lw_m2 220 rfl) rfl
theorem q518 : (Jvm.Cond.code ({ cls := "PennyJudge$Flow", name := "<init>", desc := "(IIII)V" } : Jvm.MethodName) prog_9_method_1_code (5 : Nat) (Option.none : Option Jvm.ClassFile.FieldType)) ∈ lw_all := lw_g (lw_at lw_m2 221 rfl) rfl
theorem q519 : (Jvm.Cond.methodLink "PennyJudge$Flow" (1 : Nat) ({ cls := "PennyJudge$Tax", name := "<init>", desc := "(IIII)V" } : Jvm.MethodName)) ∈ lw_all := lw_g (lw_at lw_m2 222 rfl) rfl
theorem q520 : (Jvm.Cond.laysFinal "PennyJudge$Flow" "PennyJudge$Act" "kind" "I") ∈ lw_all := lw_g (lw_at lw_m2 223 rfl) rfl
theorem q521 : (Jvm.Cond.laysFinal "PennyJudge$Flow" "PennyJudge$Act" "s" "I") ∈ lw_all := lw_g (lw_at lw_m2 224 rfl) rfl
theorem q522 : (Jvm.Cond.lays "PennyJudge$Flow" "PennyJudge$Act" "t" "I") ∈ lw_all := lw_g (lw_at lw_m2 225 rfl) rfl
theorem q523 : (Jvm.Cond.lays "PennyJudge$Flow" "PennyJudge$Act" "v" "I") ∈ lw_all := lw_g (lw_at lw_m2 226 rfl) rfl
theorem q524 : (Jvm.Cond.superclass "PennyJudge$Flow" "PennyJudge$Tax") ∈ lw_all := lw_g (lw_at lw_m2 227 rfl) rfl
theorem q708 : (Jvm.Cond.selects "PennyJudge$Flow" ({ cls := "PennyJudge$Done", name := "does", desc := "(LPennyJudge$Run;)I" } : Jvm.MethodName) ({ cls := "PennyJudge$Flow", name := "does", desc := "(LPennyJudge$Run;)I" } : Jvm.MethodName)) ∈ lw_all := lw_g (lw_at lw_m3 171 rfl) rfl
theorem q709 : (Jvm.Cond.instanceMethod ({ cls := "PennyJudge$Flow", name := "does", desc := "(LPennyJudge$Run;)I" } : Jvm.MethodName)) ∈ lw_all := lw_g (lw_at lw_m3 172 rfl) rfl
theorem q710 : (Jvm.Cond.code ({ cls := "PennyJudge$Flow", name := "does", desc := "(LPennyJudge$Run;)I" } : Jvm.MethodName) prog_9_method_2_code (7 : Nat) (Option.some Jvm.ClassFile.FieldType.int)) ∈ lw_all := lw_g (lw_at lw_m3 173 rfl) rfl
theorem q711 : (Jvm.Cond.methodLink "PennyJudge$Flow" (26 : Nat) ({ cls := "PennyJudge$Run", name := "p", desc := "(I)I" } : Jvm.MethodName)) ∈ lw_all := lw_g (lw_at lw_m3 174 rfl) rfl
theorem q712 : (Jvm.Cond.methodLink "PennyJudge$Flow" (30 : Nat) ({ cls := "PennyJudge$Run", name := "q", desc := "(I)I" } : Jvm.MethodName)) ∈ lw_all := lw_g (lw_at lw_m3 175 rfl) rfl
theorem q713 : (Jvm.Cond.methodLinkNest "PennyJudge$Flow" (36 : Nat) ({ cls := "PennyJudge", name := "whole", desc := "(JJI)J" } : Jvm.MethodName) "PennyJudge") ∈ lw_tbl := lw_at lw_m3 176 rfl
theorem q714 : (Jvm.Cond.methodLink "PennyJudge$Flow" (42 : Nat) ({ cls := "PennyJudge$Flow", name := "show", desc := "(LPennyJudge$Run;Z)V" } : Jvm.MethodName)) ∈ lw_all := lw_g (lw_at lw_m3 177 rfl) rfl
theorem q715 : (Jvm.Cond.sameMethod "PennyJudge$Flow" "PennyJudge$Act" "show" "(LPennyJudge$Run;Z)V") ∈ lw_all := lw_g (lw_at lw_m3 178 rfl) rfl
theorem q716 : (Jvm.Cond.selects "PennyJudge$Flow" ({ cls := "PennyJudge$Flow", name := "show", desc := "(LPennyJudge$Run;Z)V" } : Jvm.MethodName) ({ cls := "PennyJudge$Act", name := "show", desc := "(LPennyJudge$Run;Z)V" } : Jvm.MethodName)) ∈ lw_all := lw_g (lw_at lw_m3 179 rfl) rfl
theorem q717 : (Jvm.Cond.methodLink "PennyJudge$Flow" (49 : Nat) ({ cls := "PennyJudge$Run", name := "put", desc := "(IJJ)I" } : Jvm.MethodName)) ∈ lw_all := lw_g (lw_at lw_m3 180 rfl) rfl
theorem q770 : (Jvm.Cond.selects "PennyJudge$Flow" ({ cls := "PennyJudge$Sum", name := "show", desc := "(LPennyJudge$Run;Z)V" } : Jvm.MethodName) ({ cls := "PennyJudge$Act", name := "show", desc := "(LPennyJudge$Run;Z)V" } : Jvm.MethodName)) ∈ lw_all := lw_g (lw_at lw_m3 233 rfl) rfl
theorem q782 : (Jvm.Cond.selects "PennyJudge$Flow" ({ cls := "PennyJudge$Tax", name := "show", desc := "(LPennyJudge$Run;Z)V" } : Jvm.MethodName) ({ cls := "PennyJudge$Act", name := "show", desc := "(LPennyJudge$Run;Z)V" } : Jvm.MethodName)) ∈ lw_all := lw_g (lw_at lw_m4 5 rfl) rfl
theorem q905 : (Jvm.Cond.selects "PennyJudge$Flow" ({ cls := "PennyJudge$Done", name := "loosely", desc := "(LPennyJudge$Run;)V" } : Jvm.MethodName) ({ cls := "PennyJudge$Flow", name := "loosely", desc := "(LPennyJudge$Run;)V" } : Jvm.MethodName)) ∈ lw_all := lw_g (lw_at lw_m4 128 rfl) rfl
theorem q906 : (Jvm.Cond.instanceMethod ({ cls := "PennyJudge$Flow", name := "loosely", desc := "(LPennyJudge$Run;)V" } : Jvm.MethodName)) ∈ lw_all := lw_g (lw_at lw_m4 129 rfl) rfl
theorem q907 : (Jvm.Cond.code ({ cls := "PennyJudge$Flow", name := "loosely", desc := "(LPennyJudge$Run;)V" } : Jvm.MethodName) prog_9_method_3_code (9 : Nat) (Option.none : Option Jvm.ClassFile.FieldType)) ∈ lw_all := lw_g (lw_at lw_m4 130 rfl) rfl
theorem q908 : (Jvm.Cond.methodLinkNest "PennyJudge$Flow" (57 : Nat) ({ cls := "PennyJudge", name := "loose", desc := "(DII)D" } : Jvm.MethodName) "PennyJudge") ∈ lw_tbl := lw_at lw_m4 131 rfl
theorem q961 : (Jvm.Cond.selects "PennyJudge$Flow" ({ cls := "PennyJudge$Act", name := "choice", desc := "()I" } : Jvm.MethodName) ({ cls := "PennyJudge$Tax", name := "choice", desc := "()I" } : Jvm.MethodName)) ∈ lw_all := lw_g (lw_at lw_m4 184 rfl) rfl
theorem q986 : (Jvm.Cond.selects "PennyJudge$Flow" ({ cls := "PennyJudge$Act", name := "choices", desc := "()I" } : Jvm.MethodName) ({ cls := "PennyJudge$Act", name := "choices", desc := "()I" } : Jvm.MethodName)) ∈ lw_all := lw_g (lw_at lw_m4 209 rfl) rfl
theorem q1006 : (Jvm.Cond.selects "PennyJudge$Flow" ({ cls := "PennyJudge$Act", name := "choose", desc := "(I)V" } : Jvm.MethodName) ({ cls := "PennyJudge$Tax", name := "choose", desc := "(I)V" } : Jvm.MethodName)) ∈ lw_all := lw_g (lw_at lw_m4 229 rfl) rfl
theorem q1913 : (Jvm.Cond.castable "PennyJudge$Flow" "PennyJudge$Act") ∈ lw_tbl := lw_at lw_m8 176 rfl
theorem in_X9 : ∀ w ∈ wsX90, w ∈ lw_all := lw_in wsX90 [520, 521, 522, 523] (by decide +kernel) (by decide +kernel)

/-! PennyJudge$Rated -/
set_option maxRecDepth 100000
def RX10 : String := "PennyJudge$Rated"
def TX10 : u_T := fun k => match k with
  | 0 => ("PennyJudge$Act", "kind", "I", true)
  | 1 => ("PennyJudge$Act", "s", "I", true)
  | 2 => ("PennyJudge$Act", "t", "I", false)
  | _ => ("PennyJudge$Act", "v", "I", false)
def tyX10 : Nat → FieldType := fun k => match k with
  | 0 => .int
  | 1 => .int
  | 2 => .int
  | _ => .int
abbrev wsX100 : List Cond := u_ws RX10 TX10 4
theorem nmX10 : ∀ a, a < 4 → ∀ b, b < 4 → a ≠ b → (TX10 a).2.1 ≠ (TX10 b).2.1 := by decide +kernel
theorem tyX10_ok : ∀ k, k < 4 → parseFieldDescriptor (TX10 k).2.2.1 = some (tyX10 k) := by decide +kernel
abbrev cX10_init : ByteArray := prog_14_method_1_code
def yX10_init : MethodName := ⟨RX10, "<init>", "(IIII)V"⟩
def dkwX10_init_0 : List UInt8 := [42, 27, 28, 29, 21, 4, 183, 0, 1, 177]
abbrev dktX10_init_0 : List UInt8 := dkwX10_init_0 ++ []
theorem dksX10_init_0 : cX10_init.data.toList.drop 0 = dktX10_init_0 := by decide +kernel
theorem dX10_init_0 : decode cX10_init 0 = .ok (.aload_n 0, 1) := dk_42 (dk_at dksX10_init_0 0 rfl rfl)
theorem dX10_init_1 : decode cX10_init 1 = .ok (.iload_n 1, 1) := dk_27 (dk_at dksX10_init_0 1 rfl rfl)
theorem dX10_init_2 : decode cX10_init 2 = .ok (.iload_n 2, 1) := dk_28 (dk_at dksX10_init_0 2 rfl rfl)
theorem dX10_init_3 : decode cX10_init 3 = .ok (.iload_n 3, 1) := dk_29 (dk_at dksX10_init_0 3 rfl rfl)
theorem dX10_init_4 : decode cX10_init 4 = .ok (.iload 4, 2) := dk_21 4 (dk_at dksX10_init_0 4 rfl rfl)
theorem dX10_init_6 : decode cX10_init 6 = .ok (.invokespecial 1, 3) := dk_183 0 1 (dk_at dksX10_init_0 6 rfl rfl)
theorem dX10_init_9 : decode cX10_init 9 = .ok (.return_, 1) := dk_177 (dk_at dksX10_init_0 9 rfl rfl)
abbrev cX10_does : ByteArray := prog_14_method_2_code
def yX10_does : MethodName := ⟨RX10, "does", "(LPennyJudge$Run;)I"⟩
def dkwX10_does_2 : List UInt8 := [182, 0, 36, 133, 105, 182, 0, 39, 62, 29, 154, 0, 9, 42, 43, 28, 182, 0, 43, 29, 172]
abbrev dktX10_does_2 : List UInt8 := dkwX10_does_2 ++ []
def dkwX10_does_1 : List UInt8 := [43, 42, 180, 0, 26, 182, 0, 29, 133, 105, 43, 180, 0, 33, 42, 180, 0, 13, 47, 43, 42, 180, 0, 26]
abbrev dktX10_does_1 : List UInt8 := dkwX10_does_1 ++ dktX10_does_2
def dkwX10_does_0 : List UInt8 := [43, 180, 0, 7, 42, 180, 0, 13, 51, 61, 43, 42, 180, 0, 19, 43, 180, 0, 22, 42, 180, 0, 13, 47]
abbrev dktX10_does_0 : List UInt8 := dkwX10_does_0 ++ dktX10_does_1
theorem dksX10_does_0 : cX10_does.data.toList.drop 0 = dktX10_does_0 := by decide +kernel
theorem dksX10_does_1 : cX10_does.data.toList.drop 24 = dktX10_does_1 := dk_seg dksX10_does_0 24 rfl rfl
theorem dksX10_does_2 : cX10_does.data.toList.drop 48 = dktX10_does_2 := dk_seg dksX10_does_1 24 rfl rfl
theorem dX10_does_0 : decode cX10_does 0 = .ok (.aload_n 1, 1) := dk_43 (dk_at dksX10_does_0 0 rfl rfl)
theorem dX10_does_1 : decode cX10_does 1 = .ok (.getfield 7, 3) := dk_180 0 7 (dk_at dksX10_does_0 1 rfl rfl)
theorem dX10_does_4 : decode cX10_does 4 = .ok (.aload_n 0, 1) := dk_42 (dk_at dksX10_does_0 4 rfl rfl)
theorem dX10_does_5 : decode cX10_does 5 = .ok (.getfield 13, 3) := dk_180 0 13 (dk_at dksX10_does_0 5 rfl rfl)
theorem dX10_does_8 : decode cX10_does 8 = .ok (.baload, 1) := dk_51 (dk_at dksX10_does_0 8 rfl rfl)
theorem dX10_does_9 : decode cX10_does 9 = .ok (.istore_n 2, 1) := dk_61 (dk_at dksX10_does_0 9 rfl rfl)
theorem dX10_does_10 : decode cX10_does 10 = .ok (.aload_n 1, 1) := dk_43 (dk_at dksX10_does_0 10 rfl rfl)
theorem dX10_does_11 : decode cX10_does 11 = .ok (.aload_n 0, 1) := dk_42 (dk_at dksX10_does_0 11 rfl rfl)
theorem dX10_does_12 : decode cX10_does 12 = .ok (.getfield 19, 3) := dk_180 0 19 (dk_at dksX10_does_0 12 rfl rfl)
theorem dX10_does_15 : decode cX10_does 15 = .ok (.aload_n 1, 1) := dk_43 (dk_at dksX10_does_0 15 rfl rfl)
theorem dX10_does_16 : decode cX10_does 16 = .ok (.getfield 22, 3) := dk_180 0 22 (dk_at dksX10_does_0 16 rfl rfl)
theorem dX10_does_19 : decode cX10_does 19 = .ok (.aload_n 0, 1) := dk_42 (dk_at dksX10_does_0 19 rfl rfl)
theorem dX10_does_20 : decode cX10_does 20 = .ok (.getfield 13, 3) := dk_180 0 13 (dk_at dksX10_does_0 20 rfl rfl)
theorem dX10_does_23 : decode cX10_does 23 = .ok (.laload, 1) := dk_47 (dk_at dksX10_does_0 23 rfl rfl)
theorem dX10_does_24 : decode cX10_does 24 = .ok (.aload_n 1, 1) := dk_43 (dk_at dksX10_does_1 0 rfl rfl)
theorem dX10_does_25 : decode cX10_does 25 = .ok (.aload_n 0, 1) := dk_42 (dk_at dksX10_does_1 1 rfl rfl)
theorem dX10_does_26 : decode cX10_does 26 = .ok (.getfield 26, 3) := dk_180 0 26 (dk_at dksX10_does_1 2 rfl rfl)
theorem dX10_does_29 : decode cX10_does 29 = .ok (.invokevirtual 29, 3) := dk_182 0 29 (dk_at dksX10_does_1 5 rfl rfl)
theorem dX10_does_32 : decode cX10_does 32 = .ok (.i2l, 1) := dk_133 (dk_at dksX10_does_1 8 rfl rfl)
theorem dX10_does_33 : decode cX10_does 33 = .ok (.lmul, 1) := dk_105 (dk_at dksX10_does_1 9 rfl rfl)
theorem dX10_does_34 : decode cX10_does 34 = .ok (.aload_n 1, 1) := dk_43 (dk_at dksX10_does_1 10 rfl rfl)
theorem dX10_does_35 : decode cX10_does 35 = .ok (.getfield 33, 3) := dk_180 0 33 (dk_at dksX10_does_1 11 rfl rfl)
theorem dX10_does_38 : decode cX10_does 38 = .ok (.aload_n 0, 1) := dk_42 (dk_at dksX10_does_1 14 rfl rfl)
theorem dX10_does_39 : decode cX10_does 39 = .ok (.getfield 13, 3) := dk_180 0 13 (dk_at dksX10_does_1 15 rfl rfl)
theorem dX10_does_42 : decode cX10_does 42 = .ok (.laload, 1) := dk_47 (dk_at dksX10_does_1 18 rfl rfl)
theorem dX10_does_43 : decode cX10_does 43 = .ok (.aload_n 1, 1) := dk_43 (dk_at dksX10_does_1 19 rfl rfl)
theorem dX10_does_44 : decode cX10_does 44 = .ok (.aload_n 0, 1) := dk_42 (dk_at dksX10_does_1 20 rfl rfl)
theorem dX10_does_45 : decode cX10_does 45 = .ok (.getfield 26, 3) := dk_180 0 26 (dk_at dksX10_does_1 21 rfl rfl)
theorem dX10_does_48 : decode cX10_does 48 = .ok (.invokevirtual 36, 3) := dk_182 0 36 (dk_at dksX10_does_2 0 rfl rfl)
theorem dX10_does_51 : decode cX10_does 51 = .ok (.i2l, 1) := dk_133 (dk_at dksX10_does_2 3 rfl rfl)
theorem dX10_does_52 : decode cX10_does 52 = .ok (.lmul, 1) := dk_105 (dk_at dksX10_does_2 4 rfl rfl)
theorem dX10_does_53 : decode cX10_does 53 = .ok (.invokevirtual 39, 3) := dk_182 0 39 (dk_at dksX10_does_2 5 rfl rfl)
theorem dX10_does_56 : decode cX10_does 56 = .ok (.istore_n 3, 1) := dk_62 (dk_at dksX10_does_2 8 rfl rfl)
theorem dX10_does_57 : decode cX10_does 57 = .ok (.iload_n 3, 1) := dk_29 (dk_at dksX10_does_2 9 rfl rfl)
theorem dX10_does_58 : decode cX10_does 58 = .ok (.ifCond .ne 9, 3) := dk_154 0 9 (dk_at dksX10_does_2 10 rfl rfl)
theorem dX10_does_61 : decode cX10_does 61 = .ok (.aload_n 0, 1) := dk_42 (dk_at dksX10_does_2 13 rfl rfl)
theorem dX10_does_62 : decode cX10_does 62 = .ok (.aload_n 1, 1) := dk_43 (dk_at dksX10_does_2 14 rfl rfl)
theorem dX10_does_63 : decode cX10_does 63 = .ok (.iload_n 2, 1) := dk_28 (dk_at dksX10_does_2 15 rfl rfl)
theorem dX10_does_64 : decode cX10_does 64 = .ok (.invokevirtual 43, 3) := dk_182 0 43 (dk_at dksX10_does_2 16 rfl rfl)
theorem dX10_does_67 : decode cX10_does 67 = .ok (.iload_n 3, 1) := dk_29 (dk_at dksX10_does_2 19 rfl rfl)
theorem dX10_does_68 : decode cX10_does 68 = .ok (.ireturn, 1) := dk_172 (dk_at dksX10_does_2 20 rfl rfl)
abbrev cX10_loosely : ByteArray := prog_14_method_3_code
def yX10_loosely : MethodName := ⟨RX10, "loosely", "(LPennyJudge$Run;)V"⟩
def dkwX10_loosely_1 : List UInt8 := [182, 0, 29, 135, 43, 42, 180, 0, 26, 182, 0, 36, 135, 111, 107, 82, 177]
abbrev dktX10_loosely_1 : List UInt8 := dkwX10_loosely_1 ++ []
def dkwX10_loosely_0 : List UInt8 := [43, 180, 0, 47, 42, 180, 0, 19, 43, 180, 0, 47, 42, 180, 0, 13, 49, 43, 42, 180, 0, 26]
abbrev dktX10_loosely_0 : List UInt8 := dkwX10_loosely_0 ++ dktX10_loosely_1
theorem dksX10_loosely_0 : cX10_loosely.data.toList.drop 0 = dktX10_loosely_0 := by decide +kernel
theorem dksX10_loosely_1 : cX10_loosely.data.toList.drop 22 = dktX10_loosely_1 := dk_seg dksX10_loosely_0 22 rfl rfl
theorem dX10_loosely_0 : decode cX10_loosely 0 = .ok (.aload_n 1, 1) := dk_43 (dk_at dksX10_loosely_0 0 rfl rfl)
theorem dX10_loosely_1 : decode cX10_loosely 1 = .ok (.getfield 47, 3) := dk_180 0 47 (dk_at dksX10_loosely_0 1 rfl rfl)
theorem dX10_loosely_4 : decode cX10_loosely 4 = .ok (.aload_n 0, 1) := dk_42 (dk_at dksX10_loosely_0 4 rfl rfl)
theorem dX10_loosely_5 : decode cX10_loosely 5 = .ok (.getfield 19, 3) := dk_180 0 19 (dk_at dksX10_loosely_0 5 rfl rfl)
theorem dX10_loosely_8 : decode cX10_loosely 8 = .ok (.aload_n 1, 1) := dk_43 (dk_at dksX10_loosely_0 8 rfl rfl)
theorem dX10_loosely_9 : decode cX10_loosely 9 = .ok (.getfield 47, 3) := dk_180 0 47 (dk_at dksX10_loosely_0 9 rfl rfl)
theorem dX10_loosely_12 : decode cX10_loosely 12 = .ok (.aload_n 0, 1) := dk_42 (dk_at dksX10_loosely_0 12 rfl rfl)
theorem dX10_loosely_13 : decode cX10_loosely 13 = .ok (.getfield 13, 3) := dk_180 0 13 (dk_at dksX10_loosely_0 13 rfl rfl)
theorem dX10_loosely_16 : decode cX10_loosely 16 = .ok (.daload, 1) := dk_49 (dk_at dksX10_loosely_0 16 rfl rfl)
theorem dX10_loosely_17 : decode cX10_loosely 17 = .ok (.aload_n 1, 1) := dk_43 (dk_at dksX10_loosely_0 17 rfl rfl)
theorem dX10_loosely_18 : decode cX10_loosely 18 = .ok (.aload_n 0, 1) := dk_42 (dk_at dksX10_loosely_0 18 rfl rfl)
theorem dX10_loosely_19 : decode cX10_loosely 19 = .ok (.getfield 26, 3) := dk_180 0 26 (dk_at dksX10_loosely_0 19 rfl rfl)
theorem dX10_loosely_22 : decode cX10_loosely 22 = .ok (.invokevirtual 29, 3) := dk_182 0 29 (dk_at dksX10_loosely_1 0 rfl rfl)
theorem dX10_loosely_25 : decode cX10_loosely 25 = .ok (.i2d, 1) := dk_135 (dk_at dksX10_loosely_1 3 rfl rfl)
theorem dX10_loosely_26 : decode cX10_loosely 26 = .ok (.aload_n 1, 1) := dk_43 (dk_at dksX10_loosely_1 4 rfl rfl)
theorem dX10_loosely_27 : decode cX10_loosely 27 = .ok (.aload_n 0, 1) := dk_42 (dk_at dksX10_loosely_1 5 rfl rfl)
theorem dX10_loosely_28 : decode cX10_loosely 28 = .ok (.getfield 26, 3) := dk_180 0 26 (dk_at dksX10_loosely_1 6 rfl rfl)
theorem dX10_loosely_31 : decode cX10_loosely 31 = .ok (.invokevirtual 36, 3) := dk_182 0 36 (dk_at dksX10_loosely_1 9 rfl rfl)
theorem dX10_loosely_34 : decode cX10_loosely 34 = .ok (.i2d, 1) := dk_135 (dk_at dksX10_loosely_1 12 rfl rfl)
theorem dX10_loosely_35 : decode cX10_loosely 35 = .ok (.ddiv, 1) := dk_111 (dk_at dksX10_loosely_1 13 rfl rfl)
theorem dX10_loosely_36 : decode cX10_loosely 36 = .ok (.dmul, 1) := dk_107 (dk_at dksX10_loosely_1 14 rfl rfl)
theorem dX10_loosely_37 : decode cX10_loosely 37 = .ok (.dastore, 1) := dk_82 (dk_at dksX10_loosely_1 15 rfl rfl)
theorem dX10_loosely_38 : decode cX10_loosely 38 = .ok (.return_, 1) := dk_177 (dk_at dksX10_loosely_1 16 rfl rfl)
theorem q67 : (Jvm.Cond.initialized "PennyJudge$Rated") ∈ lw_all := lw_g (lw_at lw_m1 10 rfl) rfl
theorem q114 : (Jvm.Cond.fieldLink "PennyJudge$Rated" (22 : Nat) "PennyJudge$Run" "num" "[J") ∈ lw_all := lw_g (lw_at lw_m1 57 rfl) rfl
theorem q126 : (Jvm.Cond.fieldLink "PennyJudge$Rated" (33 : Nat) "PennyJudge$Run" "den" "[J") ∈ lw_all := lw_g (lw_at lw_m1 69 rfl) rfl
theorem q133 : (Jvm.Cond.fieldLink "PennyJudge$Rated" (7 : Nat) "PennyJudge$Run" "shown" "[Z") ∈ lw_all := lw_g (lw_at lw_m1 76 rfl) rfl
theorem q179 : (Jvm.Cond.fieldLink "PennyJudge$Rated" (47 : Nat) "PennyJudge$Run" "value" "[D") ∈ lw_all := lw_g (lw_at lw_m1 122 rfl) rfl
theorem q431 : (Jvm.Cond.fieldLink "PennyJudge$Rated" (19 : Nat) "PennyJudge$Rated" "s" "I") ∈ lw_all := lw_g (lw_at lw_m2 134 rfl) rfl
theorem q432 : (Jvm.Cond.sameField "PennyJudge$Rated" "PennyJudge$Act" "s" "I") ∈ lw_all := lw_g (lw_at lw_m2 135 rfl) rfl
theorem q453 : (Jvm.Cond.fieldLink "PennyJudge$Rated" (13 : Nat) "PennyJudge$Rated" "t" "I") ∈ lw_all := lw_g (lw_at lw_m2 156 rfl) rfl
theorem q454 : (Jvm.Cond.sameField "PennyJudge$Rated" "PennyJudge$Act" "t" "I") ∈ lw_all := lw_g (lw_at lw_m2 157 rfl) rfl
theorem q483 : (Jvm.Cond.fieldLink "PennyJudge$Rated" (26 : Nat) "PennyJudge$Rated" "v" "I") ∈ lw_all := lw_g (lw_at lw_m2 186 rfl) rfl
theorem q484 : (Jvm.Cond.sameField "PennyJudge$Rated" "PennyJudge$Act" "v" "I") ∈ lw_all := lw_g (lw_at lw_m2 187 rfl) rfl
theorem q526 : (Jvm.Cond.instantiable "PennyJudge$Rated" (4 : Nat)) ∈ lw_all := lw_g (lw_at lw_m2 229 rfl) rfl
theorem q528 : (Jvm.Cond.instanceMethod ({ cls := "PennyJudge$Rated", name := "<init>", desc := "(IIII)V" } : Jvm.MethodName)) ∈ lw_all := lw_g (lw_at lw_m2 231 rfl) rfl
theorem q529 : (Jvm.Cond.code ({ cls := "PennyJudge$Rated", name := "<init>", desc := "(IIII)V" } : Jvm.MethodName) prog_14_method_1_code (5 : Nat) (Option.none : Option Jvm.ClassFile.FieldType)) ∈ lw_all := lw_g (lw_at lw_m2 232 rfl) rfl
theorem q530 : (Jvm.Cond.methodLink "PennyJudge$Rated" (1 : Nat) ({ cls := "PennyJudge$Act", name := "<init>", desc := "(IIII)V" } : Jvm.MethodName)) ∈ lw_all := lw_g (lw_at lw_m2 233 rfl) rfl
theorem q531 : (Jvm.Cond.laysFinal "PennyJudge$Rated" "PennyJudge$Act" "kind" "I") ∈ lw_all := lw_g (lw_at lw_m2 234 rfl) rfl
theorem q532 : (Jvm.Cond.laysFinal "PennyJudge$Rated" "PennyJudge$Act" "s" "I") ∈ lw_all := lw_g (lw_at lw_m2 235 rfl) rfl
theorem q533 : (Jvm.Cond.lays "PennyJudge$Rated" "PennyJudge$Act" "t" "I") ∈ lw_all := lw_g (lw_at lw_m2 236 rfl) rfl
theorem q534 : (Jvm.Cond.lays "PennyJudge$Rated" "PennyJudge$Act" "v" "I") ∈ lw_all := lw_g (lw_at lw_m2 237 rfl) rfl
theorem q535 : (Jvm.Cond.superclass "PennyJudge$Rated" "PennyJudge$Act") ∈ lw_all := lw_g (lw_at lw_m2 238 rfl) rfl
theorem q725 : (Jvm.Cond.selects "PennyJudge$Rated" ({ cls := "PennyJudge$Done", name := "does", desc := "(LPennyJudge$Run;)I" } : Jvm.MethodName) ({ cls := "PennyJudge$Rated", name := "does", desc := "(LPennyJudge$Run;)I" } : Jvm.MethodName)) ∈ lw_all := lw_g (lw_at lw_m3 188 rfl) rfl
theorem q726 : (Jvm.Cond.instanceMethod ({ cls := "PennyJudge$Rated", name := "does", desc := "(LPennyJudge$Run;)I" } : Jvm.MethodName)) ∈ lw_all := lw_g (lw_at lw_m3 189 rfl) rfl
theorem q727 : (Jvm.Cond.code ({ cls := "PennyJudge$Rated", name := "does", desc := "(LPennyJudge$Run;)I" } : Jvm.MethodName) prog_14_method_2_code (4 : Nat) (Option.some Jvm.ClassFile.FieldType.int)) ∈ lw_all := lw_g (lw_at lw_m3 190 rfl) rfl
theorem q728 : (Jvm.Cond.methodLink "PennyJudge$Rated" (29 : Nat) ({ cls := "PennyJudge$Run", name := "p", desc := "(I)I" } : Jvm.MethodName)) ∈ lw_all := lw_g (lw_at lw_m3 191 rfl) rfl
theorem q729 : (Jvm.Cond.methodLink "PennyJudge$Rated" (36 : Nat) ({ cls := "PennyJudge$Run", name := "q", desc := "(I)I" } : Jvm.MethodName)) ∈ lw_all := lw_g (lw_at lw_m3 192 rfl) rfl
theorem q730 : (Jvm.Cond.methodLink "PennyJudge$Rated" (39 : Nat) ({ cls := "PennyJudge$Run", name := "put", desc := "(IJJ)I" } : Jvm.MethodName)) ∈ lw_all := lw_g (lw_at lw_m3 193 rfl) rfl
theorem q731 : (Jvm.Cond.methodLink "PennyJudge$Rated" (43 : Nat) ({ cls := "PennyJudge$Rated", name := "show", desc := "(LPennyJudge$Run;Z)V" } : Jvm.MethodName)) ∈ lw_all := lw_g (lw_at lw_m3 194 rfl) rfl
theorem q732 : (Jvm.Cond.sameMethod "PennyJudge$Rated" "PennyJudge$Act" "show" "(LPennyJudge$Run;Z)V") ∈ lw_all := lw_g (lw_at lw_m3 195 rfl) rfl
theorem q733 : (Jvm.Cond.selects "PennyJudge$Rated" ({ cls := "PennyJudge$Rated", name := "show", desc := "(LPennyJudge$Run;Z)V" } : Jvm.MethodName) ({ cls := "PennyJudge$Act", name := "show", desc := "(LPennyJudge$Run;Z)V" } : Jvm.MethodName)) ∈ lw_all := lw_g (lw_at lw_m3 196 rfl) rfl
theorem q912 : (Jvm.Cond.selects "PennyJudge$Rated" ({ cls := "PennyJudge$Done", name := "loosely", desc := "(LPennyJudge$Run;)V" } : Jvm.MethodName) ({ cls := "PennyJudge$Rated", name := "loosely", desc := "(LPennyJudge$Run;)V" } : Jvm.MethodName)) ∈ lw_all := lw_g (lw_at lw_m4 135 rfl) rfl
theorem q913 : (Jvm.Cond.instanceMethod ({ cls := "PennyJudge$Rated", name := "loosely", desc := "(LPennyJudge$Run;)V" } : Jvm.MethodName)) ∈ lw_all := lw_g (lw_at lw_m4 136 rfl) rfl
theorem q914 : (Jvm.Cond.code ({ cls := "PennyJudge$Rated", name := "loosely", desc := "(LPennyJudge$Run;)V" } : Jvm.MethodName) prog_14_method_3_code (2 : Nat) (Option.none : Option Jvm.ClassFile.FieldType)) ∈ lw_all := lw_g (lw_at lw_m4 137 rfl) rfl
theorem q965 : (Jvm.Cond.selects "PennyJudge$Rated" ({ cls := "PennyJudge$Act", name := "choice", desc := "()I" } : Jvm.MethodName) ({ cls := "PennyJudge$Act", name := "choice", desc := "()I" } : Jvm.MethodName)) ∈ lw_all := lw_g (lw_at lw_m4 188 rfl) rfl
theorem q988 : (Jvm.Cond.selects "PennyJudge$Rated" ({ cls := "PennyJudge$Act", name := "choices", desc := "()I" } : Jvm.MethodName) ({ cls := "PennyJudge$Act", name := "choices", desc := "()I" } : Jvm.MethodName)) ∈ lw_all := lw_g (lw_at lw_m4 211 rfl) rfl
theorem q1010 : (Jvm.Cond.selects "PennyJudge$Rated" ({ cls := "PennyJudge$Act", name := "choose", desc := "(I)V" } : Jvm.MethodName) ({ cls := "PennyJudge$Act", name := "choose", desc := "(I)V" } : Jvm.MethodName)) ∈ lw_all := lw_g (lw_at lw_m4 233 rfl) rfl
theorem q1914 : (Jvm.Cond.castable "PennyJudge$Rated" "PennyJudge$Act") ∈ lw_tbl := lw_at lw_m8 177 rfl
theorem in_X10 : ∀ w ∈ wsX100, w ∈ lw_all := lw_in wsX100 [531, 532, 533, 534] (by decide +kernel) (by decide +kernel)

/-! PennyJudge$Rounded -/
set_option maxRecDepth 100000
def RX11 : String := "PennyJudge$Rounded"
def TX11 : u_T := fun k => match k with
  | 0 => ("PennyJudge$Act", "kind", "I", true)
  | 1 => ("PennyJudge$Act", "s", "I", true)
  | 2 => ("PennyJudge$Act", "t", "I", false)
  | _ => ("PennyJudge$Act", "v", "I", false)
def tyX11 : Nat → FieldType := fun k => match k with
  | 0 => .int
  | 1 => .int
  | 2 => .int
  | _ => .int
abbrev wsX110 : List Cond := u_ws RX11 TX11 4
theorem nmX11 : ∀ a, a < 4 → ∀ b, b < 4 → a ≠ b → (TX11 a).2.1 ≠ (TX11 b).2.1 := by decide +kernel
theorem tyX11_ok : ∀ k, k < 4 → parseFieldDescriptor (TX11 k).2.2.1 = some (tyX11 k) := by decide +kernel
abbrev cX11_init : ByteArray := prog_15_method_1_code
def yX11_init : MethodName := ⟨RX11, "<init>", "(IIII)V"⟩
def dkwX11_init_0 : List UInt8 := [42, 27, 28, 29, 21, 4, 183, 0, 1, 177]
abbrev dktX11_init_0 : List UInt8 := dkwX11_init_0 ++ []
theorem dksX11_init_0 : cX11_init.data.toList.drop 0 = dktX11_init_0 := by decide +kernel
theorem dX11_init_0 : decode cX11_init 0 = .ok (.aload_n 0, 1) := dk_42 (dk_at dksX11_init_0 0 rfl rfl)
theorem dX11_init_1 : decode cX11_init 1 = .ok (.iload_n 1, 1) := dk_27 (dk_at dksX11_init_0 1 rfl rfl)
theorem dX11_init_2 : decode cX11_init 2 = .ok (.iload_n 2, 1) := dk_28 (dk_at dksX11_init_0 2 rfl rfl)
theorem dX11_init_3 : decode cX11_init 3 = .ok (.iload_n 3, 1) := dk_29 (dk_at dksX11_init_0 3 rfl rfl)
theorem dX11_init_4 : decode cX11_init 4 = .ok (.iload 4, 2) := dk_21 4 (dk_at dksX11_init_0 4 rfl rfl)
theorem dX11_init_6 : decode cX11_init 6 = .ok (.invokespecial 1, 3) := dk_183 0 1 (dk_at dksX11_init_0 6 rfl rfl)
theorem dX11_init_9 : decode cX11_init 9 = .ok (.return_, 1) := dk_177 (dk_at dksX11_init_0 9 rfl rfl)
abbrev cX11_does : ByteArray := prog_15_method_4_code
def yX11_does : MethodName := ⟨RX11, "does", "(LPennyJudge$Run;)I"⟩
def dkwX11_does_1 : List UInt8 := [180, 0, 25, 133, 105, 42, 180, 0, 7, 184, 0, 28, 42, 180, 0, 25, 133, 105, 10, 182, 0, 34, 172]
abbrev dktX11_does_1 : List UInt8 := dkwX11_does_1 ++ []
def dkwX11_does_0 : List UInt8 := [43, 42, 180, 0, 13, 43, 180, 0, 16, 42, 180, 0, 13, 47, 43, 180, 0, 22, 42, 180, 0, 13, 47, 42]
abbrev dktX11_does_0 : List UInt8 := dkwX11_does_0 ++ dktX11_does_1
theorem dksX11_does_0 : cX11_does.data.toList.drop 0 = dktX11_does_0 := by decide +kernel
theorem dksX11_does_1 : cX11_does.data.toList.drop 24 = dktX11_does_1 := dk_seg dksX11_does_0 24 rfl rfl
theorem dX11_does_0 : decode cX11_does 0 = .ok (.aload_n 1, 1) := dk_43 (dk_at dksX11_does_0 0 rfl rfl)
theorem dX11_does_1 : decode cX11_does 1 = .ok (.aload_n 0, 1) := dk_42 (dk_at dksX11_does_0 1 rfl rfl)
theorem dX11_does_2 : decode cX11_does 2 = .ok (.getfield 13, 3) := dk_180 0 13 (dk_at dksX11_does_0 2 rfl rfl)
theorem dX11_does_5 : decode cX11_does 5 = .ok (.aload_n 1, 1) := dk_43 (dk_at dksX11_does_0 5 rfl rfl)
theorem dX11_does_6 : decode cX11_does 6 = .ok (.getfield 16, 3) := dk_180 0 16 (dk_at dksX11_does_0 6 rfl rfl)
theorem dX11_does_9 : decode cX11_does 9 = .ok (.aload_n 0, 1) := dk_42 (dk_at dksX11_does_0 9 rfl rfl)
theorem dX11_does_10 : decode cX11_does 10 = .ok (.getfield 13, 3) := dk_180 0 13 (dk_at dksX11_does_0 10 rfl rfl)
theorem dX11_does_13 : decode cX11_does 13 = .ok (.laload, 1) := dk_47 (dk_at dksX11_does_0 13 rfl rfl)
theorem dX11_does_14 : decode cX11_does 14 = .ok (.aload_n 1, 1) := dk_43 (dk_at dksX11_does_0 14 rfl rfl)
theorem dX11_does_15 : decode cX11_does 15 = .ok (.getfield 22, 3) := dk_180 0 22 (dk_at dksX11_does_0 15 rfl rfl)
theorem dX11_does_18 : decode cX11_does 18 = .ok (.aload_n 0, 1) := dk_42 (dk_at dksX11_does_0 18 rfl rfl)
theorem dX11_does_19 : decode cX11_does 19 = .ok (.getfield 13, 3) := dk_180 0 13 (dk_at dksX11_does_0 19 rfl rfl)
theorem dX11_does_22 : decode cX11_does 22 = .ok (.laload, 1) := dk_47 (dk_at dksX11_does_0 22 rfl rfl)
theorem dX11_does_23 : decode cX11_does 23 = .ok (.aload_n 0, 1) := dk_42 (dk_at dksX11_does_0 23 rfl rfl)
theorem dX11_does_24 : decode cX11_does 24 = .ok (.getfield 25, 3) := dk_180 0 25 (dk_at dksX11_does_1 0 rfl rfl)
theorem dX11_does_27 : decode cX11_does 27 = .ok (.i2l, 1) := dk_133 (dk_at dksX11_does_1 3 rfl rfl)
theorem dX11_does_28 : decode cX11_does 28 = .ok (.lmul, 1) := dk_105 (dk_at dksX11_does_1 4 rfl rfl)
theorem dX11_does_29 : decode cX11_does 29 = .ok (.aload_n 0, 1) := dk_42 (dk_at dksX11_does_1 5 rfl rfl)
theorem dX11_does_30 : decode cX11_does 30 = .ok (.getfield 7, 3) := dk_180 0 7 (dk_at dksX11_does_1 6 rfl rfl)
theorem dX11_does_33 : decode cX11_does 33 = .ok (.invokestatic 28, 3) := dk_184 0 28 (dk_at dksX11_does_1 9 rfl rfl)
theorem dX11_does_36 : decode cX11_does 36 = .ok (.aload_n 0, 1) := dk_42 (dk_at dksX11_does_1 12 rfl rfl)
theorem dX11_does_37 : decode cX11_does 37 = .ok (.getfield 25, 3) := dk_180 0 25 (dk_at dksX11_does_1 13 rfl rfl)
theorem dX11_does_40 : decode cX11_does 40 = .ok (.i2l, 1) := dk_133 (dk_at dksX11_does_1 16 rfl rfl)
theorem dX11_does_41 : decode cX11_does 41 = .ok (.lmul, 1) := dk_105 (dk_at dksX11_does_1 17 rfl rfl)
theorem dX11_does_42 : decode cX11_does 42 = .ok (.lconst 1, 1) := dk_10 (dk_at dksX11_does_1 18 rfl rfl)
theorem dX11_does_43 : decode cX11_does 43 = .ok (.invokevirtual 34, 3) := dk_182 0 34 (dk_at dksX11_does_1 19 rfl rfl)
theorem dX11_does_46 : decode cX11_does 46 = .ok (.ireturn, 1) := dk_172 (dk_at dksX11_does_1 22 rfl rfl)
abbrev cX11_loosely : ByteArray := prog_15_method_5_code
def yX11_loosely : MethodName := ⟨RX11, "loosely", "(LPennyJudge$Run;)V"⟩
def dkwX11_loosely_1 : List UInt8 := [180, 0, 7, 184, 0, 42, 82, 177]
abbrev dktX11_loosely_1 : List UInt8 := dkwX11_loosely_1 ++ []
def dkwX11_loosely_0 : List UInt8 := [43, 180, 0, 38, 42, 180, 0, 13, 43, 180, 0, 38, 42, 180, 0, 13, 49, 42, 180, 0, 25, 42]
abbrev dktX11_loosely_0 : List UInt8 := dkwX11_loosely_0 ++ dktX11_loosely_1
theorem dksX11_loosely_0 : cX11_loosely.data.toList.drop 0 = dktX11_loosely_0 := by decide +kernel
theorem dksX11_loosely_1 : cX11_loosely.data.toList.drop 22 = dktX11_loosely_1 := dk_seg dksX11_loosely_0 22 rfl rfl
theorem dX11_loosely_0 : decode cX11_loosely 0 = .ok (.aload_n 1, 1) := dk_43 (dk_at dksX11_loosely_0 0 rfl rfl)
theorem dX11_loosely_1 : decode cX11_loosely 1 = .ok (.getfield 38, 3) := dk_180 0 38 (dk_at dksX11_loosely_0 1 rfl rfl)
theorem dX11_loosely_4 : decode cX11_loosely 4 = .ok (.aload_n 0, 1) := dk_42 (dk_at dksX11_loosely_0 4 rfl rfl)
theorem dX11_loosely_5 : decode cX11_loosely 5 = .ok (.getfield 13, 3) := dk_180 0 13 (dk_at dksX11_loosely_0 5 rfl rfl)
theorem dX11_loosely_8 : decode cX11_loosely 8 = .ok (.aload_n 1, 1) := dk_43 (dk_at dksX11_loosely_0 8 rfl rfl)
theorem dX11_loosely_9 : decode cX11_loosely 9 = .ok (.getfield 38, 3) := dk_180 0 38 (dk_at dksX11_loosely_0 9 rfl rfl)
theorem dX11_loosely_12 : decode cX11_loosely 12 = .ok (.aload_n 0, 1) := dk_42 (dk_at dksX11_loosely_0 12 rfl rfl)
theorem dX11_loosely_13 : decode cX11_loosely 13 = .ok (.getfield 13, 3) := dk_180 0 13 (dk_at dksX11_loosely_0 13 rfl rfl)
theorem dX11_loosely_16 : decode cX11_loosely 16 = .ok (.daload, 1) := dk_49 (dk_at dksX11_loosely_0 16 rfl rfl)
theorem dX11_loosely_17 : decode cX11_loosely 17 = .ok (.aload_n 0, 1) := dk_42 (dk_at dksX11_loosely_0 17 rfl rfl)
theorem dX11_loosely_18 : decode cX11_loosely 18 = .ok (.getfield 25, 3) := dk_180 0 25 (dk_at dksX11_loosely_0 18 rfl rfl)
theorem dX11_loosely_21 : decode cX11_loosely 21 = .ok (.aload_n 0, 1) := dk_42 (dk_at dksX11_loosely_0 21 rfl rfl)
theorem dX11_loosely_22 : decode cX11_loosely 22 = .ok (.getfield 7, 3) := dk_180 0 7 (dk_at dksX11_loosely_1 0 rfl rfl)
theorem dX11_loosely_25 : decode cX11_loosely 25 = .ok (.invokestatic 42, 3) := dk_184 0 42 (dk_at dksX11_loosely_1 3 rfl rfl)
theorem dX11_loosely_28 : decode cX11_loosely 28 = .ok (.dastore, 1) := dk_82 (dk_at dksX11_loosely_1 6 rfl rfl)
theorem dX11_loosely_29 : decode cX11_loosely 29 = .ok (.return_, 1) := dk_177 (dk_at dksX11_loosely_1 7 rfl rfl)
abbrev cX11_choice : ByteArray := prog_15_method_2_code
def yX11_choice : MethodName := ⟨RX11, "choice", "()I"⟩
theorem dX11_choice_0 : decode cX11_choice 0 = .ok (.aload_n 0, 1) := by decide +kernel
theorem dX11_choice_1 : decode cX11_choice 1 = .ok (.getfield 7, 3) := by decide +kernel
theorem dX11_choice_4 : decode cX11_choice 4 = .ok (.ireturn, 1) := by decide +kernel
abbrev cX11_choose : ByteArray := prog_15_method_3_code
def yX11_choose : MethodName := ⟨RX11, "choose", "(I)V"⟩
def dkwX11_choose_0 : List UInt8 := [42, 27, 181, 0, 7, 177]
abbrev dktX11_choose_0 : List UInt8 := dkwX11_choose_0 ++ []
theorem dksX11_choose_0 : cX11_choose.data.toList.drop 0 = dktX11_choose_0 := by decide +kernel
theorem dX11_choose_0 : decode cX11_choose 0 = .ok (.aload_n 0, 1) := dk_42 (dk_at dksX11_choose_0 0 rfl rfl)
theorem dX11_choose_1 : decode cX11_choose 1 = .ok (.iload_n 1, 1) := dk_27 (dk_at dksX11_choose_0 1 rfl rfl)
theorem dX11_choose_2 : decode cX11_choose 2 = .ok (.putfield 7, 3) := dk_181 0 7 (dk_at dksX11_choose_0 2 rfl rfl)
theorem dX11_choose_5 : decode cX11_choose 5 = .ok (.return_, 1) := dk_177 (dk_at dksX11_choose_0 5 rfl rfl)
theorem q68 : (Jvm.Cond.initialized "PennyJudge$Rounded") ∈ lw_all := lw_g (lw_at lw_m1 11 rfl) rfl
theorem q118 : (Jvm.Cond.fieldLink "PennyJudge$Rounded" (16 : Nat) "PennyJudge$Run" "num" "[J") ∈ lw_all := lw_g (lw_at lw_m1 61 rfl) rfl
theorem q128 : (Jvm.Cond.fieldLink "PennyJudge$Rounded" (22 : Nat) "PennyJudge$Run" "den" "[J") ∈ lw_all := lw_g (lw_at lw_m1 71 rfl) rfl
theorem q185 : (Jvm.Cond.fieldLink "PennyJudge$Rounded" (38 : Nat) "PennyJudge$Run" "value" "[D") ∈ lw_all := lw_g (lw_at lw_m1 128 rfl) rfl
theorem q439 : (Jvm.Cond.fieldLink "PennyJudge$Rounded" (13 : Nat) "PennyJudge$Rounded" "s" "I") ∈ lw_all := lw_g (lw_at lw_m2 142 rfl) rfl
theorem q440 : (Jvm.Cond.sameField "PennyJudge$Rounded" "PennyJudge$Act" "s" "I") ∈ lw_all := lw_g (lw_at lw_m2 143 rfl) rfl
theorem q449 : (Jvm.Cond.fieldLink "PennyJudge$Rounded" (7 : Nat) "PennyJudge$Rounded" "t" "I") ∈ lw_all := lw_g (lw_at lw_m2 152 rfl) rfl
theorem q450 : (Jvm.Cond.sameField "PennyJudge$Rounded" "PennyJudge$Act" "t" "I") ∈ lw_all := lw_g (lw_at lw_m2 153 rfl) rfl
theorem q489 : (Jvm.Cond.fieldLink "PennyJudge$Rounded" (25 : Nat) "PennyJudge$Rounded" "v" "I") ∈ lw_all := lw_g (lw_at lw_m2 192 rfl) rfl
theorem q490 : (Jvm.Cond.sameField "PennyJudge$Rounded" "PennyJudge$Act" "v" "I") ∈ lw_all := lw_g (lw_at lw_m2 193 rfl) rfl
theorem q537 : (Jvm.Cond.instantiable "PennyJudge$Rounded" (4 : Nat)) ∈ lw_all := lw_g (lw_at lw_m3 0 rfl) rfl
theorem q539 : (Jvm.Cond.instanceMethod ({ cls := "PennyJudge$Rounded", name := "<init>", desc := "(IIII)V" } : Jvm.MethodName)) ∈ lw_all := lw_g (lw_at lw_m3 2 rfl) rfl
theorem q540 : (Jvm.Cond.code ({ cls := "PennyJudge$Rounded", name := "<init>", desc := "(IIII)V" } : Jvm.MethodName) prog_15_method_1_code (5 : Nat) (Option.none : Option Jvm.ClassFile.FieldType)) ∈ lw_all := lw_g (lw_at lw_m3 3 rfl) rfl
theorem q541 : (Jvm.Cond.methodLink "PennyJudge$Rounded" (1 : Nat) ({ cls := "PennyJudge$Act", name := "<init>", desc := "(IIII)V" } : Jvm.MethodName)) ∈ lw_all := lw_g (lw_at lw_m3 4 rfl) rfl
theorem q542 : (Jvm.Cond.laysFinal "PennyJudge$Rounded" "PennyJudge$Act" "kind" "I") ∈ lw_all := lw_g (lw_at lw_m3 5 rfl) rfl
theorem q543 : (Jvm.Cond.laysFinal "PennyJudge$Rounded" "PennyJudge$Act" "s" "I") ∈ lw_all := lw_g (lw_at lw_m3 6 rfl) rfl
theorem q544 : (Jvm.Cond.lays "PennyJudge$Rounded" "PennyJudge$Act" "t" "I") ∈ lw_all := lw_g (lw_at lw_m3 7 rfl) rfl
theorem q545 : (Jvm.Cond.lays "PennyJudge$Rounded" "PennyJudge$Act" "v" "I") ∈ lw_all := lw_g (lw_at lw_m3 8 rfl) rfl
theorem q546 : (Jvm.Cond.superclass "PennyJudge$Rounded" "PennyJudge$Act") ∈ lw_all := lw_g (lw_at lw_m3 9 rfl) rfl
theorem q734 : (Jvm.Cond.selects "PennyJudge$Rounded" ({ cls := "PennyJudge$Done", name := "does", desc := "(LPennyJudge$Run;)I" } : Jvm.MethodName) ({ cls := "PennyJudge$Rounded", name := "does", desc := "(LPennyJudge$Run;)I" } : Jvm.MethodName)) ∈ lw_all := lw_g (lw_at lw_m3 197 rfl) rfl
theorem q735 : (Jvm.Cond.instanceMethod ({ cls := "PennyJudge$Rounded", name := "does", desc := "(LPennyJudge$Run;)I" } : Jvm.MethodName)) ∈ lw_all := lw_g (lw_at lw_m3 198 rfl) rfl
theorem q736 : (Jvm.Cond.code ({ cls := "PennyJudge$Rounded", name := "does", desc := "(LPennyJudge$Run;)I" } : Jvm.MethodName) prog_15_method_4_code (2 : Nat) (Option.some Jvm.ClassFile.FieldType.int)) ∈ lw_all := lw_g (lw_at lw_m3 199 rfl) rfl
theorem q737 : (Jvm.Cond.methodLinkNest "PennyJudge$Rounded" (28 : Nat) ({ cls := "PennyJudge", name := "whole", desc := "(JJI)J" } : Jvm.MethodName) "PennyJudge") ∈ lw_tbl := lw_at lw_m3 200 rfl
theorem q738 : (Jvm.Cond.methodLink "PennyJudge$Rounded" (34 : Nat) ({ cls := "PennyJudge$Run", name := "put", desc := "(IJJ)I" } : Jvm.MethodName)) ∈ lw_all := lw_g (lw_at lw_m3 201 rfl) rfl
theorem q915 : (Jvm.Cond.selects "PennyJudge$Rounded" ({ cls := "PennyJudge$Done", name := "loosely", desc := "(LPennyJudge$Run;)V" } : Jvm.MethodName) ({ cls := "PennyJudge$Rounded", name := "loosely", desc := "(LPennyJudge$Run;)V" } : Jvm.MethodName)) ∈ lw_all := lw_g (lw_at lw_m4 138 rfl) rfl
theorem q916 : (Jvm.Cond.instanceMethod ({ cls := "PennyJudge$Rounded", name := "loosely", desc := "(LPennyJudge$Run;)V" } : Jvm.MethodName)) ∈ lw_all := lw_g (lw_at lw_m4 139 rfl) rfl
theorem q917 : (Jvm.Cond.code ({ cls := "PennyJudge$Rounded", name := "loosely", desc := "(LPennyJudge$Run;)V" } : Jvm.MethodName) prog_15_method_5_code (2 : Nat) (Option.none : Option Jvm.ClassFile.FieldType)) ∈ lw_all := lw_g (lw_at lw_m4 140 rfl) rfl
theorem q918 : (Jvm.Cond.methodLinkNest "PennyJudge$Rounded" (42 : Nat) ({ cls := "PennyJudge", name := "loose", desc := "(DII)D" } : Jvm.MethodName) "PennyJudge") ∈ lw_tbl := lw_at lw_m4 141 rfl
theorem q966 : (Jvm.Cond.selects "PennyJudge$Rounded" ({ cls := "PennyJudge$Act", name := "choice", desc := "()I" } : Jvm.MethodName) ({ cls := "PennyJudge$Rounded", name := "choice", desc := "()I" } : Jvm.MethodName)) ∈ lw_all := lw_g (lw_at lw_m4 189 rfl) rfl
theorem q967 : (Jvm.Cond.instanceMethod ({ cls := "PennyJudge$Rounded", name := "choice", desc := "()I" } : Jvm.MethodName)) ∈ lw_all := lw_g (lw_at lw_m4 190 rfl) rfl
theorem q968 : (Jvm.Cond.code ({ cls := "PennyJudge$Rounded", name := "choice", desc := "()I" } : Jvm.MethodName) prog_15_method_2_code (1 : Nat) (Option.some Jvm.ClassFile.FieldType.int)) ∈ lw_all := lw_g (lw_at lw_m4 191 rfl) rfl
theorem q989 : (Jvm.Cond.selects "PennyJudge$Rounded" ({ cls := "PennyJudge$Act", name := "choices", desc := "()I" } : Jvm.MethodName) ({ cls := "PennyJudge$Act", name := "choices", desc := "()I" } : Jvm.MethodName)) ∈ lw_all := lw_g (lw_at lw_m4 212 rfl) rfl
theorem q1011 : (Jvm.Cond.selects "PennyJudge$Rounded" ({ cls := "PennyJudge$Act", name := "choose", desc := "(I)V" } : Jvm.MethodName) ({ cls := "PennyJudge$Rounded", name := "choose", desc := "(I)V" } : Jvm.MethodName)) ∈ lw_all := lw_g (lw_at lw_m4 234 rfl) rfl
theorem q1012 : (Jvm.Cond.instanceMethod ({ cls := "PennyJudge$Rounded", name := "choose", desc := "(I)V" } : Jvm.MethodName)) ∈ lw_all := lw_g (lw_at lw_m4 235 rfl) rfl
theorem q1013 : (Jvm.Cond.code ({ cls := "PennyJudge$Rounded", name := "choose", desc := "(I)V" } : Jvm.MethodName) prog_15_method_3_code (2 : Nat) (Option.none : Option Jvm.ClassFile.FieldType)) ∈ lw_all := lw_g (lw_at lw_m4 236 rfl) rfl
theorem q1915 : (Jvm.Cond.castable "PennyJudge$Rounded" "PennyJudge$Act") ∈ lw_tbl := lw_at lw_m8 178 rfl
theorem in_X11 : ∀ w ∈ wsX110, w ∈ lw_all := lw_in wsX110 [542, 543, 544, 545] (by decide +kernel) (by decide +kernel)

/-! PennyJudge$Added -/
set_option maxRecDepth 100000
def RX12 : String := "PennyJudge$Added"
def TX12 : u_T := fun k => match k with
  | 0 => ("PennyJudge$Act", "kind", "I", true)
  | 1 => ("PennyJudge$Act", "s", "I", true)
  | 2 => ("PennyJudge$Act", "t", "I", false)
  | _ => ("PennyJudge$Act", "v", "I", false)
def tyX12 : Nat → FieldType := fun k => match k with
  | 0 => .int
  | 1 => .int
  | 2 => .int
  | _ => .int
abbrev wsX120 : List Cond := u_ws RX12 TX12 4
theorem nmX12 : ∀ a, a < 4 → ∀ b, b < 4 → a ≠ b → (TX12 a).2.1 ≠ (TX12 b).2.1 := by decide +kernel
theorem tyX12_ok : ∀ k, k < 4 → parseFieldDescriptor (TX12 k).2.2.1 = some (tyX12 k) := by decide +kernel
abbrev cX12_init : ByteArray := prog_3_method_1_code
def yX12_init : MethodName := ⟨RX12, "<init>", "(IIII)V"⟩
def dkwX12_init_0 : List UInt8 := [42, 27, 28, 29, 21, 4, 183, 0, 1, 177]
abbrev dktX12_init_0 : List UInt8 := dkwX12_init_0 ++ []
theorem dksX12_init_0 : cX12_init.data.toList.drop 0 = dktX12_init_0 := by decide +kernel
theorem dX12_init_0 : decode cX12_init 0 = .ok (.aload_n 0, 1) := dk_42 (dk_at dksX12_init_0 0 rfl rfl)
theorem dX12_init_1 : decode cX12_init 1 = .ok (.iload_n 1, 1) := dk_27 (dk_at dksX12_init_0 1 rfl rfl)
theorem dX12_init_2 : decode cX12_init 2 = .ok (.iload_n 2, 1) := dk_28 (dk_at dksX12_init_0 2 rfl rfl)
theorem dX12_init_3 : decode cX12_init 3 = .ok (.iload_n 3, 1) := dk_29 (dk_at dksX12_init_0 3 rfl rfl)
theorem dX12_init_4 : decode cX12_init 4 = .ok (.iload 4, 2) := dk_21 4 (dk_at dksX12_init_0 4 rfl rfl)
theorem dX12_init_6 : decode cX12_init 6 = .ok (.invokespecial 1, 3) := dk_183 0 1 (dk_at dksX12_init_0 6 rfl rfl)
theorem dX12_init_9 : decode cX12_init 9 = .ok (.return_, 1) := dk_177 (dk_at dksX12_init_0 9 rfl rfl)
abbrev cX12_does : ByteArray := prog_3_method_2_code
def yX12_does : MethodName := ⟨RX12, "does", "(LPennyJudge$Run;)I"⟩
def dkwX12_does_5 : List UInt8 := [154, 0, 9, 42, 43, 28, 182, 0, 38, 21, 5, 172]
abbrev dktX12_does_5 : List UInt8 := dkwX12_does_5 ++ []
def dkwX12_does_4 : List UInt8 := [42, 180, 0, 13, 47, 43, 180, 0, 31, 42, 180, 0, 19, 47, 105, 182, 0, 34, 54, 5, 21, 5]
abbrev dktX12_does_4 : List UInt8 := dkwX12_does_4 ++ dktX12_does_5
def dkwX12_does_3 : List UInt8 := [180, 0, 27, 42, 180, 0, 19, 47, 105, 43, 180, 0, 31, 42, 180, 0, 13, 47, 105, 97, 43, 180, 0, 31]
abbrev dktX12_does_3 : List UInt8 := dkwX12_does_3 ++ dktX12_does_4
def dkwX12_does_2 : List UInt8 := [180, 0, 13, 43, 180, 0, 27, 42, 180, 0, 13, 47, 43, 180, 0, 31, 42, 180, 0, 19, 47, 105, 33, 43]
abbrev dktX12_does_2 : List UInt8 := dkwX12_does_2 ++ dktX12_does_3
def dkwX12_does_1 : List UInt8 := [4, 167, 0, 4, 3, 61, 42, 180, 0, 22, 154, 0, 7, 10, 167, 0, 6, 20, 0, 25, 66, 43, 42]
abbrev dktX12_does_1 : List UInt8 := dkwX12_does_1 ++ dktX12_does_2
def dkwX12_does_0 : List UInt8 := [43, 180, 0, 7, 42, 180, 0, 13, 51, 154, 0, 15, 43, 180, 0, 7, 42, 180, 0, 19, 51, 153, 0, 7]
abbrev dktX12_does_0 : List UInt8 := dkwX12_does_0 ++ dktX12_does_1
theorem dksX12_does_0 : cX12_does.data.toList.drop 0 = dktX12_does_0 := by decide +kernel
theorem dksX12_does_1 : cX12_does.data.toList.drop 24 = dktX12_does_1 := dk_seg dksX12_does_0 24 rfl rfl
theorem dksX12_does_2 : cX12_does.data.toList.drop 47 = dktX12_does_2 := dk_seg dksX12_does_1 23 rfl rfl
theorem dksX12_does_3 : cX12_does.data.toList.drop 71 = dktX12_does_3 := dk_seg dksX12_does_2 24 rfl rfl
theorem dksX12_does_4 : cX12_does.data.toList.drop 95 = dktX12_does_4 := dk_seg dksX12_does_3 24 rfl rfl
theorem dksX12_does_5 : cX12_does.data.toList.drop 117 = dktX12_does_5 := dk_seg dksX12_does_4 22 rfl rfl
theorem dX12_does_0 : decode cX12_does 0 = .ok (.aload_n 1, 1) := dk_43 (dk_at dksX12_does_0 0 rfl rfl)
theorem dX12_does_1 : decode cX12_does 1 = .ok (.getfield 7, 3) := dk_180 0 7 (dk_at dksX12_does_0 1 rfl rfl)
theorem dX12_does_4 : decode cX12_does 4 = .ok (.aload_n 0, 1) := dk_42 (dk_at dksX12_does_0 4 rfl rfl)
theorem dX12_does_5 : decode cX12_does 5 = .ok (.getfield 13, 3) := dk_180 0 13 (dk_at dksX12_does_0 5 rfl rfl)
theorem dX12_does_8 : decode cX12_does 8 = .ok (.baload, 1) := dk_51 (dk_at dksX12_does_0 8 rfl rfl)
theorem dX12_does_9 : decode cX12_does 9 = .ok (.ifCond .ne 15, 3) := dk_154 0 15 (dk_at dksX12_does_0 9 rfl rfl)
theorem dX12_does_12 : decode cX12_does 12 = .ok (.aload_n 1, 1) := dk_43 (dk_at dksX12_does_0 12 rfl rfl)
theorem dX12_does_13 : decode cX12_does 13 = .ok (.getfield 7, 3) := dk_180 0 7 (dk_at dksX12_does_0 13 rfl rfl)
theorem dX12_does_16 : decode cX12_does 16 = .ok (.aload_n 0, 1) := dk_42 (dk_at dksX12_does_0 16 rfl rfl)
theorem dX12_does_17 : decode cX12_does 17 = .ok (.getfield 19, 3) := dk_180 0 19 (dk_at dksX12_does_0 17 rfl rfl)
theorem dX12_does_20 : decode cX12_does 20 = .ok (.baload, 1) := dk_51 (dk_at dksX12_does_0 20 rfl rfl)
theorem dX12_does_21 : decode cX12_does 21 = .ok (.ifCond .eq 7, 3) := dk_153 0 7 (dk_at dksX12_does_0 21 rfl rfl)
theorem dX12_does_24 : decode cX12_does 24 = .ok (.iconst 1, 1) := dk_4 (dk_at dksX12_does_1 0 rfl rfl)
theorem dX12_does_25 : decode cX12_does 25 = .ok (.goto 4, 3) := dk_167 0 4 (dk_at dksX12_does_1 1 rfl rfl)
theorem dX12_does_28 : decode cX12_does 28 = .ok (.iconst 0, 1) := dk_3 (dk_at dksX12_does_1 4 rfl rfl)
theorem dX12_does_29 : decode cX12_does 29 = .ok (.istore_n 2, 1) := dk_61 (dk_at dksX12_does_1 5 rfl rfl)
theorem dX12_does_30 : decode cX12_does 30 = .ok (.aload_n 0, 1) := dk_42 (dk_at dksX12_does_1 6 rfl rfl)
theorem dX12_does_31 : decode cX12_does 31 = .ok (.getfield 22, 3) := dk_180 0 22 (dk_at dksX12_does_1 7 rfl rfl)
theorem dX12_does_34 : decode cX12_does 34 = .ok (.ifCond .ne 7, 3) := dk_154 0 7 (dk_at dksX12_does_1 10 rfl rfl)
theorem dX12_does_37 : decode cX12_does 37 = .ok (.lconst 1, 1) := dk_10 (dk_at dksX12_does_1 13 rfl rfl)
theorem dX12_does_38 : decode cX12_does 38 = .ok (.goto 6, 3) := dk_167 0 6 (dk_at dksX12_does_1 14 rfl rfl)
theorem dX12_does_41 : decode cX12_does 41 = .ok (.ldc2_w 25, 3) := dk_20 0 25 (dk_at dksX12_does_1 17 rfl rfl)
theorem dX12_does_44 : decode cX12_does 44 = .ok (.lstore_n 3, 1) := dk_66 (dk_at dksX12_does_1 20 rfl rfl)
theorem dX12_does_45 : decode cX12_does 45 = .ok (.aload_n 1, 1) := dk_43 (dk_at dksX12_does_1 21 rfl rfl)
theorem dX12_does_46 : decode cX12_does 46 = .ok (.aload_n 0, 1) := dk_42 (dk_at dksX12_does_1 22 rfl rfl)
theorem dX12_does_47 : decode cX12_does 47 = .ok (.getfield 13, 3) := dk_180 0 13 (dk_at dksX12_does_2 0 rfl rfl)
theorem dX12_does_50 : decode cX12_does 50 = .ok (.aload_n 1, 1) := dk_43 (dk_at dksX12_does_2 3 rfl rfl)
theorem dX12_does_51 : decode cX12_does 51 = .ok (.getfield 27, 3) := dk_180 0 27 (dk_at dksX12_does_2 4 rfl rfl)
theorem dX12_does_54 : decode cX12_does 54 = .ok (.aload_n 0, 1) := dk_42 (dk_at dksX12_does_2 7 rfl rfl)
theorem dX12_does_55 : decode cX12_does 55 = .ok (.getfield 13, 3) := dk_180 0 13 (dk_at dksX12_does_2 8 rfl rfl)
theorem dX12_does_58 : decode cX12_does 58 = .ok (.laload, 1) := dk_47 (dk_at dksX12_does_2 11 rfl rfl)
theorem dX12_does_59 : decode cX12_does 59 = .ok (.aload_n 1, 1) := dk_43 (dk_at dksX12_does_2 12 rfl rfl)
theorem dX12_does_60 : decode cX12_does 60 = .ok (.getfield 31, 3) := dk_180 0 31 (dk_at dksX12_does_2 13 rfl rfl)
theorem dX12_does_63 : decode cX12_does 63 = .ok (.aload_n 0, 1) := dk_42 (dk_at dksX12_does_2 16 rfl rfl)
theorem dX12_does_64 : decode cX12_does 64 = .ok (.getfield 19, 3) := dk_180 0 19 (dk_at dksX12_does_2 17 rfl rfl)
theorem dX12_does_67 : decode cX12_does 67 = .ok (.laload, 1) := dk_47 (dk_at dksX12_does_2 20 rfl rfl)
theorem dX12_does_68 : decode cX12_does 68 = .ok (.lmul, 1) := dk_105 (dk_at dksX12_does_2 21 rfl rfl)
theorem dX12_does_69 : decode cX12_does 69 = .ok (.lload_n 3, 1) := dk_33 (dk_at dksX12_does_2 22 rfl rfl)
theorem dX12_does_70 : decode cX12_does 70 = .ok (.aload_n 1, 1) := dk_43 (dk_at dksX12_does_2 23 rfl rfl)
theorem dX12_does_71 : decode cX12_does 71 = .ok (.getfield 27, 3) := dk_180 0 27 (dk_at dksX12_does_3 0 rfl rfl)
theorem dX12_does_74 : decode cX12_does 74 = .ok (.aload_n 0, 1) := dk_42 (dk_at dksX12_does_3 3 rfl rfl)
theorem dX12_does_75 : decode cX12_does 75 = .ok (.getfield 19, 3) := dk_180 0 19 (dk_at dksX12_does_3 4 rfl rfl)
theorem dX12_does_78 : decode cX12_does 78 = .ok (.laload, 1) := dk_47 (dk_at dksX12_does_3 7 rfl rfl)
theorem dX12_does_79 : decode cX12_does 79 = .ok (.lmul, 1) := dk_105 (dk_at dksX12_does_3 8 rfl rfl)
theorem dX12_does_80 : decode cX12_does 80 = .ok (.aload_n 1, 1) := dk_43 (dk_at dksX12_does_3 9 rfl rfl)
theorem dX12_does_81 : decode cX12_does 81 = .ok (.getfield 31, 3) := dk_180 0 31 (dk_at dksX12_does_3 10 rfl rfl)
theorem dX12_does_84 : decode cX12_does 84 = .ok (.aload_n 0, 1) := dk_42 (dk_at dksX12_does_3 13 rfl rfl)
theorem dX12_does_85 : decode cX12_does 85 = .ok (.getfield 13, 3) := dk_180 0 13 (dk_at dksX12_does_3 14 rfl rfl)
theorem dX12_does_88 : decode cX12_does 88 = .ok (.laload, 1) := dk_47 (dk_at dksX12_does_3 17 rfl rfl)
theorem dX12_does_89 : decode cX12_does 89 = .ok (.lmul, 1) := dk_105 (dk_at dksX12_does_3 18 rfl rfl)
theorem dX12_does_90 : decode cX12_does 90 = .ok (.ladd, 1) := dk_97 (dk_at dksX12_does_3 19 rfl rfl)
theorem dX12_does_91 : decode cX12_does 91 = .ok (.aload_n 1, 1) := dk_43 (dk_at dksX12_does_3 20 rfl rfl)
theorem dX12_does_92 : decode cX12_does 92 = .ok (.getfield 31, 3) := dk_180 0 31 (dk_at dksX12_does_3 21 rfl rfl)
theorem dX12_does_95 : decode cX12_does 95 = .ok (.aload_n 0, 1) := dk_42 (dk_at dksX12_does_4 0 rfl rfl)
theorem dX12_does_96 : decode cX12_does 96 = .ok (.getfield 13, 3) := dk_180 0 13 (dk_at dksX12_does_4 1 rfl rfl)
theorem dX12_does_99 : decode cX12_does 99 = .ok (.laload, 1) := dk_47 (dk_at dksX12_does_4 4 rfl rfl)
theorem dX12_does_100 : decode cX12_does 100 = .ok (.aload_n 1, 1) := dk_43 (dk_at dksX12_does_4 5 rfl rfl)
theorem dX12_does_101 : decode cX12_does 101 = .ok (.getfield 31, 3) := dk_180 0 31 (dk_at dksX12_does_4 6 rfl rfl)
theorem dX12_does_104 : decode cX12_does 104 = .ok (.aload_n 0, 1) := dk_42 (dk_at dksX12_does_4 9 rfl rfl)
theorem dX12_does_105 : decode cX12_does 105 = .ok (.getfield 19, 3) := dk_180 0 19 (dk_at dksX12_does_4 10 rfl rfl)
theorem dX12_does_108 : decode cX12_does 108 = .ok (.laload, 1) := dk_47 (dk_at dksX12_does_4 13 rfl rfl)
theorem dX12_does_109 : decode cX12_does 109 = .ok (.lmul, 1) := dk_105 (dk_at dksX12_does_4 14 rfl rfl)
theorem dX12_does_110 : decode cX12_does 110 = .ok (.invokevirtual 34, 3) := dk_182 0 34 (dk_at dksX12_does_4 15 rfl rfl)
theorem dX12_does_113 : decode cX12_does 113 = .ok (.istore 5, 2) := dk_54 5 (dk_at dksX12_does_4 18 rfl rfl)
theorem dX12_does_115 : decode cX12_does 115 = .ok (.iload 5, 2) := dk_21 5 (dk_at dksX12_does_4 20 rfl rfl)
theorem dX12_does_117 : decode cX12_does 117 = .ok (.ifCond .ne 9, 3) := dk_154 0 9 (dk_at dksX12_does_5 0 rfl rfl)
theorem dX12_does_120 : decode cX12_does 120 = .ok (.aload_n 0, 1) := dk_42 (dk_at dksX12_does_5 3 rfl rfl)
theorem dX12_does_121 : decode cX12_does 121 = .ok (.aload_n 1, 1) := dk_43 (dk_at dksX12_does_5 4 rfl rfl)
theorem dX12_does_122 : decode cX12_does 122 = .ok (.iload_n 2, 1) := dk_28 (dk_at dksX12_does_5 5 rfl rfl)
theorem dX12_does_123 : decode cX12_does 123 = .ok (.invokevirtual 38, 3) := dk_182 0 38 (dk_at dksX12_does_5 6 rfl rfl)
theorem dX12_does_126 : decode cX12_does 126 = .ok (.iload 5, 2) := dk_21 5 (dk_at dksX12_does_5 9 rfl rfl)
theorem dX12_does_128 : decode cX12_does 128 = .ok (.ireturn, 1) := dk_172 (dk_at dksX12_does_5 11 rfl rfl)
abbrev cX12_loosely : ByteArray := prog_3_method_3_code
def yX12_loosely : MethodName := ⟨RX12, "loosely", "(LPennyJudge$Run;)V"⟩
def dkwX12_loosely_2 : List UInt8 := [180, 0, 42, 42, 180, 0, 19, 49, 103, 82, 177]
abbrev dktX12_loosely_2 : List UInt8 := dkwX12_loosely_2 ++ []
def dkwX12_loosely_1 : List UInt8 := [43, 180, 0, 42, 42, 180, 0, 19, 49, 99, 167, 0, 22, 43, 180, 0, 42, 42, 180, 0, 13, 49, 43]
abbrev dktX12_loosely_1 : List UInt8 := dkwX12_loosely_1 ++ dktX12_loosely_2
def dkwX12_loosely_0 : List UInt8 := [43, 180, 0, 42, 42, 180, 0, 13, 42, 180, 0, 22, 154, 0, 25, 43, 180, 0, 42, 42, 180, 0, 13, 49]
abbrev dktX12_loosely_0 : List UInt8 := dkwX12_loosely_0 ++ dktX12_loosely_1
theorem dksX12_loosely_0 : cX12_loosely.data.toList.drop 0 = dktX12_loosely_0 := by decide +kernel
theorem dksX12_loosely_1 : cX12_loosely.data.toList.drop 24 = dktX12_loosely_1 := dk_seg dksX12_loosely_0 24 rfl rfl
theorem dksX12_loosely_2 : cX12_loosely.data.toList.drop 47 = dktX12_loosely_2 := dk_seg dksX12_loosely_1 23 rfl rfl
theorem dX12_loosely_0 : decode cX12_loosely 0 = .ok (.aload_n 1, 1) := dk_43 (dk_at dksX12_loosely_0 0 rfl rfl)
theorem dX12_loosely_1 : decode cX12_loosely 1 = .ok (.getfield 42, 3) := dk_180 0 42 (dk_at dksX12_loosely_0 1 rfl rfl)
theorem dX12_loosely_4 : decode cX12_loosely 4 = .ok (.aload_n 0, 1) := dk_42 (dk_at dksX12_loosely_0 4 rfl rfl)
theorem dX12_loosely_5 : decode cX12_loosely 5 = .ok (.getfield 13, 3) := dk_180 0 13 (dk_at dksX12_loosely_0 5 rfl rfl)
theorem dX12_loosely_8 : decode cX12_loosely 8 = .ok (.aload_n 0, 1) := dk_42 (dk_at dksX12_loosely_0 8 rfl rfl)
theorem dX12_loosely_9 : decode cX12_loosely 9 = .ok (.getfield 22, 3) := dk_180 0 22 (dk_at dksX12_loosely_0 9 rfl rfl)
theorem dX12_loosely_12 : decode cX12_loosely 12 = .ok (.ifCond .ne 25, 3) := dk_154 0 25 (dk_at dksX12_loosely_0 12 rfl rfl)
theorem dX12_loosely_15 : decode cX12_loosely 15 = .ok (.aload_n 1, 1) := dk_43 (dk_at dksX12_loosely_0 15 rfl rfl)
theorem dX12_loosely_16 : decode cX12_loosely 16 = .ok (.getfield 42, 3) := dk_180 0 42 (dk_at dksX12_loosely_0 16 rfl rfl)
theorem dX12_loosely_19 : decode cX12_loosely 19 = .ok (.aload_n 0, 1) := dk_42 (dk_at dksX12_loosely_0 19 rfl rfl)
theorem dX12_loosely_20 : decode cX12_loosely 20 = .ok (.getfield 13, 3) := dk_180 0 13 (dk_at dksX12_loosely_0 20 rfl rfl)
theorem dX12_loosely_23 : decode cX12_loosely 23 = .ok (.daload, 1) := dk_49 (dk_at dksX12_loosely_0 23 rfl rfl)
theorem dX12_loosely_24 : decode cX12_loosely 24 = .ok (.aload_n 1, 1) := dk_43 (dk_at dksX12_loosely_1 0 rfl rfl)
theorem dX12_loosely_25 : decode cX12_loosely 25 = .ok (.getfield 42, 3) := dk_180 0 42 (dk_at dksX12_loosely_1 1 rfl rfl)
theorem dX12_loosely_28 : decode cX12_loosely 28 = .ok (.aload_n 0, 1) := dk_42 (dk_at dksX12_loosely_1 4 rfl rfl)
theorem dX12_loosely_29 : decode cX12_loosely 29 = .ok (.getfield 19, 3) := dk_180 0 19 (dk_at dksX12_loosely_1 5 rfl rfl)
theorem dX12_loosely_32 : decode cX12_loosely 32 = .ok (.daload, 1) := dk_49 (dk_at dksX12_loosely_1 8 rfl rfl)
theorem dX12_loosely_33 : decode cX12_loosely 33 = .ok (.dadd, 1) := dk_99 (dk_at dksX12_loosely_1 9 rfl rfl)
theorem dX12_loosely_34 : decode cX12_loosely 34 = .ok (.goto 22, 3) := dk_167 0 22 (dk_at dksX12_loosely_1 10 rfl rfl)
theorem dX12_loosely_37 : decode cX12_loosely 37 = .ok (.aload_n 1, 1) := dk_43 (dk_at dksX12_loosely_1 13 rfl rfl)
theorem dX12_loosely_38 : decode cX12_loosely 38 = .ok (.getfield 42, 3) := dk_180 0 42 (dk_at dksX12_loosely_1 14 rfl rfl)
theorem dX12_loosely_41 : decode cX12_loosely 41 = .ok (.aload_n 0, 1) := dk_42 (dk_at dksX12_loosely_1 17 rfl rfl)
theorem dX12_loosely_42 : decode cX12_loosely 42 = .ok (.getfield 13, 3) := dk_180 0 13 (dk_at dksX12_loosely_1 18 rfl rfl)
theorem dX12_loosely_45 : decode cX12_loosely 45 = .ok (.daload, 1) := dk_49 (dk_at dksX12_loosely_1 21 rfl rfl)
theorem dX12_loosely_46 : decode cX12_loosely 46 = .ok (.aload_n 1, 1) := dk_43 (dk_at dksX12_loosely_1 22 rfl rfl)
theorem dX12_loosely_47 : decode cX12_loosely 47 = .ok (.getfield 42, 3) := dk_180 0 42 (dk_at dksX12_loosely_2 0 rfl rfl)
theorem dX12_loosely_50 : decode cX12_loosely 50 = .ok (.aload_n 0, 1) := dk_42 (dk_at dksX12_loosely_2 3 rfl rfl)
theorem dX12_loosely_51 : decode cX12_loosely 51 = .ok (.getfield 19, 3) := dk_180 0 19 (dk_at dksX12_loosely_2 4 rfl rfl)
theorem dX12_loosely_54 : decode cX12_loosely 54 = .ok (.daload, 1) := dk_49 (dk_at dksX12_loosely_2 7 rfl rfl)
theorem dX12_loosely_55 : decode cX12_loosely 55 = .ok (.dsub, 1) := dk_103 (dk_at dksX12_loosely_2 8 rfl rfl)
theorem dX12_loosely_56 : decode cX12_loosely 56 = .ok (.dastore, 1) := dk_82 (dk_at dksX12_loosely_2 9 rfl rfl)
theorem dX12_loosely_57 : decode cX12_loosely 57 = .ok (.return_, 1) := dk_177 (dk_at dksX12_loosely_2 10 rfl rfl)
theorem q69 : (Jvm.Cond.initialized "PennyJudge$Added") ∈ lw_all := lw_g (lw_at lw_m1 12 rfl) rfl
theorem q117 : (Jvm.Cond.fieldLink "PennyJudge$Added" (27 : Nat) "PennyJudge$Run" "num" "[J") ∈ lw_all := lw_g (lw_at lw_m1 60 rfl) rfl
theorem q127 : (Jvm.Cond.fieldLink "PennyJudge$Added" (31 : Nat) "PennyJudge$Run" "den" "[J") ∈ lw_all := lw_g (lw_at lw_m1 70 rfl) rfl
theorem q132 : (Jvm.Cond.fieldLink "PennyJudge$Added" (7 : Nat) "PennyJudge$Run" "shown" "[Z") ∈ lw_all := lw_g (lw_at lw_m1 75 rfl) rfl
theorem q175 : (Jvm.Cond.fieldLink "PennyJudge$Added" (42 : Nat) "PennyJudge$Run" "value" "[D") ∈ lw_all := lw_g (lw_at lw_m1 118 rfl) rfl
theorem q427 : (Jvm.Cond.fieldLink "PennyJudge$Added" (13 : Nat) "PennyJudge$Added" "s" "I") ∈ lw_all := lw_g (lw_at lw_m2 130 rfl) rfl
theorem q428 : (Jvm.Cond.sameField "PennyJudge$Added" "PennyJudge$Act" "s" "I") ∈ lw_all := lw_g (lw_at lw_m2 131 rfl) rfl
theorem q457 : (Jvm.Cond.fieldLink "PennyJudge$Added" (19 : Nat) "PennyJudge$Added" "t" "I") ∈ lw_all := lw_g (lw_at lw_m2 160 rfl) rfl
theorem q458 : (Jvm.Cond.sameField "PennyJudge$Added" "PennyJudge$Act" "t" "I") ∈ lw_all := lw_g (lw_at lw_m2 161 rfl) rfl
theorem q485 : (Jvm.Cond.fieldLink "PennyJudge$Added" (22 : Nat) "PennyJudge$Added" "v" "I") ∈ lw_all := lw_g (lw_at lw_m2 188 rfl) rfl
theorem q486 : (Jvm.Cond.sameField "PennyJudge$Added" "PennyJudge$Act" "v" "I") ∈ lw_all := lw_g (lw_at lw_m2 189 rfl) rfl
theorem q548 : (Jvm.Cond.instantiable "PennyJudge$Added" (4 : Nat)) ∈ lw_all := lw_g (lw_at lw_m3 11 rfl) rfl
theorem q550 : (Jvm.Cond.instanceMethod ({ cls := "PennyJudge$Added", name := "<init>", desc := "(IIII)V" } : Jvm.MethodName)) ∈ lw_all := lw_g (lw_at lw_m3 13 rfl) rfl
theorem q551 : (Jvm.Cond.code ({ cls := "PennyJudge$Added", name := "<init>", desc := "(IIII)V" } : Jvm.MethodName) prog_3_method_1_code (5 : Nat) (Option.none : Option Jvm.ClassFile.FieldType)) ∈ lw_all := lw_g (lw_at lw_m3 14 rfl) rfl
theorem q552 : (Jvm.Cond.methodLink "PennyJudge$Added" (1 : Nat) ({ cls := "PennyJudge$Act", name := "<init>", desc := "(IIII)V" } : Jvm.MethodName)) ∈ lw_all := lw_g (lw_at lw_m3 15 rfl) rfl
theorem q553 : (Jvm.Cond.laysFinal "PennyJudge$Added" "PennyJudge$Act" "kind" "I") ∈ lw_all := lw_g (lw_at lw_m3 16 rfl) rfl
theorem q554 : (Jvm.Cond.laysFinal "PennyJudge$Added" "PennyJudge$Act" "s" "I") ∈ lw_all := lw_g (lw_at lw_m3 17 rfl) rfl
theorem q555 : (Jvm.Cond.lays "PennyJudge$Added" "PennyJudge$Act" "t" "I") ∈ lw_all := lw_g (lw_at lw_m3 18 rfl) rfl
theorem q556 : (Jvm.Cond.lays "PennyJudge$Added" "PennyJudge$Act" "v" "I") ∈ lw_all := lw_g (lw_at lw_m3 19 rfl) rfl
theorem q557 : (Jvm.Cond.superclass "PennyJudge$Added" "PennyJudge$Act") ∈ lw_all := lw_g (lw_at lw_m3 20 rfl) rfl
theorem q653 : (Jvm.Cond.selects "PennyJudge$Added" ({ cls := "PennyJudge$Done", name := "does", desc := "(LPennyJudge$Run;)I" } : Jvm.MethodName) ({ cls := "PennyJudge$Added", name := "does", desc := "(LPennyJudge$Run;)I" } : Jvm.MethodName)) ∈ lw_all := lw_g (lw_at lw_m3 116 rfl) rfl
theorem q654 : (Jvm.Cond.instanceMethod ({ cls := "PennyJudge$Added", name := "does", desc := "(LPennyJudge$Run;)I" } : Jvm.MethodName)) ∈ lw_all := lw_g (lw_at lw_m3 117 rfl) rfl
theorem q655 : (Jvm.Cond.code ({ cls := "PennyJudge$Added", name := "does", desc := "(LPennyJudge$Run;)I" } : Jvm.MethodName) prog_3_method_2_code (6 : Nat) (Option.some Jvm.ClassFile.FieldType.int)) ∈ lw_all := lw_g (lw_at lw_m3 118 rfl) rfl
theorem q656 : (Jvm.Cond.constantLong "PennyJudge$Added" (25 : Nat) (-1 : Int64)) ∈ lw_all := lw_g (lw_at lw_m3 119 rfl) rfl
theorem q657 : (Jvm.Cond.methodLink "PennyJudge$Added" (34 : Nat) ({ cls := "PennyJudge$Run", name := "put", desc := "(IJJ)I" } : Jvm.MethodName)) ∈ lw_all := lw_g (lw_at lw_m3 120 rfl) rfl
theorem q667 : (Jvm.Cond.methodLink "PennyJudge$Added" (38 : Nat) ({ cls := "PennyJudge$Added", name := "show", desc := "(LPennyJudge$Run;Z)V" } : Jvm.MethodName)) ∈ lw_all := lw_g (lw_at lw_m3 130 rfl) rfl
theorem q668 : (Jvm.Cond.sameMethod "PennyJudge$Added" "PennyJudge$Act" "show" "(LPennyJudge$Run;Z)V") ∈ lw_all := lw_g (lw_at lw_m3 131 rfl) rfl
theorem q670 : (Jvm.Cond.selects "PennyJudge$Added" ({ cls := "PennyJudge$Added", name := "show", desc := "(LPennyJudge$Run;Z)V" } : Jvm.MethodName) ({ cls := "PennyJudge$Act", name := "show", desc := "(LPennyJudge$Run;Z)V" } : Jvm.MethodName)) ∈ lw_all := lw_g (lw_at lw_m3 133 rfl) rfl
theorem q831 : (Jvm.Cond.selects "PennyJudge$Added" ({ cls := "PennyJudge$Done", name := "loosely", desc := "(LPennyJudge$Run;)V" } : Jvm.MethodName) ({ cls := "PennyJudge$Added", name := "loosely", desc := "(LPennyJudge$Run;)V" } : Jvm.MethodName)) ∈ lw_all := lw_g (lw_at lw_m4 54 rfl) rfl
theorem q832 : (Jvm.Cond.instanceMethod ({ cls := "PennyJudge$Added", name := "loosely", desc := "(LPennyJudge$Run;)V" } : Jvm.MethodName)) ∈ lw_all := lw_g (lw_at lw_m4 55 rfl) rfl
theorem q833 : (Jvm.Cond.code ({ cls := "PennyJudge$Added", name := "loosely", desc := "(LPennyJudge$Run;)V" } : Jvm.MethodName) prog_3_method_3_code (2 : Nat) (Option.none : Option Jvm.ClassFile.FieldType)) ∈ lw_all := lw_g (lw_at lw_m4 56 rfl) rfl
theorem q956 : (Jvm.Cond.selects "PennyJudge$Added" ({ cls := "PennyJudge$Act", name := "choice", desc := "()I" } : Jvm.MethodName) ({ cls := "PennyJudge$Act", name := "choice", desc := "()I" } : Jvm.MethodName)) ∈ lw_all := lw_g (lw_at lw_m4 179 rfl) rfl
theorem q981 : (Jvm.Cond.selects "PennyJudge$Added" ({ cls := "PennyJudge$Act", name := "choices", desc := "()I" } : Jvm.MethodName) ({ cls := "PennyJudge$Act", name := "choices", desc := "()I" } : Jvm.MethodName)) ∈ lw_all := lw_g (lw_at lw_m4 204 rfl) rfl
theorem q1001 : (Jvm.Cond.selects "PennyJudge$Added" ({ cls := "PennyJudge$Act", name := "choose", desc := "(I)V" } : Jvm.MethodName) ({ cls := "PennyJudge$Act", name := "choose", desc := "(I)V" } : Jvm.MethodName)) ∈ lw_all := lw_g (lw_at lw_m4 224 rfl) rfl
theorem q1916 : (Jvm.Cond.castable "PennyJudge$Added" "PennyJudge$Act") ∈ lw_tbl := lw_at lw_m8 179 rfl
theorem in_X12 : ∀ w ∈ wsX120, w ∈ lw_all := lw_in wsX120 [553, 554, 555, 556] (by decide +kernel) (by decide +kernel)

/-! PennyJudge$Split -/
set_option maxRecDepth 100000
def RX13 : String := "PennyJudge$Split"
def TX13 : u_T := fun k => match k with
  | 0 => ("PennyJudge$Act", "kind", "I", true)
  | 1 => ("PennyJudge$Act", "s", "I", true)
  | 2 => ("PennyJudge$Act", "t", "I", false)
  | _ => ("PennyJudge$Act", "v", "I", false)
def tyX13 : Nat → FieldType := fun k => match k with
  | 0 => .int
  | 1 => .int
  | 2 => .int
  | _ => .int
abbrev wsX130 : List Cond := u_ws RX13 TX13 4
theorem nmX13 : ∀ a, a < 4 → ∀ b, b < 4 → a ≠ b → (TX13 a).2.1 ≠ (TX13 b).2.1 := by decide +kernel
theorem tyX13_ok : ∀ k, k < 4 → parseFieldDescriptor (TX13 k).2.2.1 = some (tyX13 k) := by decide +kernel
abbrev cX13_init : ByteArray := prog_18_method_1_code
def yX13_init : MethodName := ⟨RX13, "<init>", "(IIII)V"⟩
def dkwX13_init_0 : List UInt8 := [42, 27, 28, 29, 21, 4, 183, 0, 3, 177]
abbrev dktX13_init_0 : List UInt8 := dkwX13_init_0 ++ []
theorem dksX13_init_0 : cX13_init.data.toList.drop 0 = dktX13_init_0 := by decide +kernel
theorem dX13_init_0 : decode cX13_init 0 = .ok (.aload_n 0, 1) := dk_42 (dk_at dksX13_init_0 0 rfl rfl)
theorem dX13_init_1 : decode cX13_init 1 = .ok (.iload_n 1, 1) := dk_27 (dk_at dksX13_init_0 1 rfl rfl)
theorem dX13_init_2 : decode cX13_init 2 = .ok (.iload_n 2, 1) := dk_28 (dk_at dksX13_init_0 2 rfl rfl)
theorem dX13_init_3 : decode cX13_init 3 = .ok (.iload_n 3, 1) := dk_29 (dk_at dksX13_init_0 3 rfl rfl)
theorem dX13_init_4 : decode cX13_init 4 = .ok (.iload 4, 2) := dk_21 4 (dk_at dksX13_init_0 4 rfl rfl)
theorem dX13_init_6 : decode cX13_init 6 = .ok (.invokespecial 3, 3) := dk_183 0 3 (dk_at dksX13_init_0 6 rfl rfl)
theorem dX13_init_9 : decode cX13_init 9 = .ok (.return_, 1) := dk_177 (dk_at dksX13_init_0 9 rfl rfl)
abbrev cX13_does : ByteArray := prog_18_method_5_code
def yX13_does : MethodName := ⟨RX13, "does", "(LPennyJudge$Run;)I"⟩
def dkwX13_does_3 : List UInt8 := [180, 0, 19, 47, 181, 0, 57, 3, 172]
abbrev dktX13_does_3 : List UInt8 := dkwX13_does_3 ++ []
def dkwX13_does_2 : List UInt8 := [42, 180, 0, 19, 51, 181, 0, 50, 43, 42, 180, 0, 36, 181, 0, 54, 43, 43, 180, 0, 32, 42]
abbrev dktX13_does_2 : List UInt8 := dkwX13_does_2 ++ dktX13_does_3
def dkwX13_does_1 : List UInt8 := [180, 0, 19, 47, 42, 180, 0, 36, 42, 180, 0, 9, 43, 180, 0, 39, 182, 0, 42, 43, 43, 180, 0, 46]
abbrev dktX13_does_1 : List UInt8 := dkwX13_does_1 ++ dktX13_does_2
def dkwX13_does_0 : List UInt8 := [43, 42, 180, 0, 19, 182, 0, 22, 154, 0, 6, 16, 251, 172, 43, 180, 0, 28, 43, 180, 0, 32, 42]
abbrev dktX13_does_0 : List UInt8 := dkwX13_does_0 ++ dktX13_does_1
theorem dksX13_does_0 : cX13_does.data.toList.drop 0 = dktX13_does_0 := by decide +kernel
theorem dksX13_does_1 : cX13_does.data.toList.drop 23 = dktX13_does_1 := dk_seg dksX13_does_0 23 rfl rfl
theorem dksX13_does_2 : cX13_does.data.toList.drop 47 = dktX13_does_2 := dk_seg dksX13_does_1 24 rfl rfl
theorem dksX13_does_3 : cX13_does.data.toList.drop 69 = dktX13_does_3 := dk_seg dksX13_does_2 22 rfl rfl
theorem dX13_does_0 : decode cX13_does 0 = .ok (.aload_n 1, 1) := dk_43 (dk_at dksX13_does_0 0 rfl rfl)
theorem dX13_does_1 : decode cX13_does 1 = .ok (.aload_n 0, 1) := dk_42 (dk_at dksX13_does_0 1 rfl rfl)
theorem dX13_does_2 : decode cX13_does 2 = .ok (.getfield 19, 3) := dk_180 0 19 (dk_at dksX13_does_0 2 rfl rfl)
theorem dX13_does_5 : decode cX13_does 5 = .ok (.invokevirtual 22, 3) := dk_182 0 22 (dk_at dksX13_does_0 5 rfl rfl)
theorem dX13_does_8 : decode cX13_does 8 = .ok (.ifCond .ne 6, 3) := dk_154 0 6 (dk_at dksX13_does_0 8 rfl rfl)
theorem dX13_does_11 : decode cX13_does 11 = .ok (.bipush (-5), 2) := dk_16 251 (dk_at dksX13_does_0 11 rfl rfl)
theorem dX13_does_13 : decode cX13_does 13 = .ok (.ireturn, 1) := dk_172 (dk_at dksX13_does_0 13 rfl rfl)
theorem dX13_does_14 : decode cX13_does 14 = .ok (.aload_n 1, 1) := dk_43 (dk_at dksX13_does_0 14 rfl rfl)
theorem dX13_does_15 : decode cX13_does 15 = .ok (.getfield 28, 3) := dk_180 0 28 (dk_at dksX13_does_0 15 rfl rfl)
theorem dX13_does_18 : decode cX13_does 18 = .ok (.aload_n 1, 1) := dk_43 (dk_at dksX13_does_0 18 rfl rfl)
theorem dX13_does_19 : decode cX13_does 19 = .ok (.getfield 32, 3) := dk_180 0 32 (dk_at dksX13_does_0 19 rfl rfl)
theorem dX13_does_22 : decode cX13_does 22 = .ok (.aload_n 0, 1) := dk_42 (dk_at dksX13_does_0 22 rfl rfl)
theorem dX13_does_23 : decode cX13_does 23 = .ok (.getfield 19, 3) := dk_180 0 19 (dk_at dksX13_does_1 0 rfl rfl)
theorem dX13_does_26 : decode cX13_does 26 = .ok (.laload, 1) := dk_47 (dk_at dksX13_does_1 3 rfl rfl)
theorem dX13_does_27 : decode cX13_does 27 = .ok (.aload_n 0, 1) := dk_42 (dk_at dksX13_does_1 4 rfl rfl)
theorem dX13_does_28 : decode cX13_does 28 = .ok (.getfield 36, 3) := dk_180 0 36 (dk_at dksX13_does_1 5 rfl rfl)
theorem dX13_does_31 : decode cX13_does 31 = .ok (.aload_n 0, 1) := dk_42 (dk_at dksX13_does_1 8 rfl rfl)
theorem dX13_does_32 : decode cX13_does 32 = .ok (.getfield 9, 3) := dk_180 0 9 (dk_at dksX13_does_1 9 rfl rfl)
theorem dX13_does_35 : decode cX13_does 35 = .ok (.aload_n 1, 1) := dk_43 (dk_at dksX13_does_1 12 rfl rfl)
theorem dX13_does_36 : decode cX13_does 36 = .ok (.getfield 39, 3) := dk_180 0 39 (dk_at dksX13_does_1 13 rfl rfl)
theorem dX13_does_39 : decode cX13_does 39 = .ok (.invokevirtual 42, 3) := dk_182 0 42 (dk_at dksX13_does_1 16 rfl rfl)
theorem dX13_does_42 : decode cX13_does 42 = .ok (.aload_n 1, 1) := dk_43 (dk_at dksX13_does_1 19 rfl rfl)
theorem dX13_does_43 : decode cX13_does 43 = .ok (.aload_n 1, 1) := dk_43 (dk_at dksX13_does_1 20 rfl rfl)
theorem dX13_does_44 : decode cX13_does 44 = .ok (.getfield 46, 3) := dk_180 0 46 (dk_at dksX13_does_1 21 rfl rfl)
theorem dX13_does_47 : decode cX13_does 47 = .ok (.aload_n 0, 1) := dk_42 (dk_at dksX13_does_2 0 rfl rfl)
theorem dX13_does_48 : decode cX13_does 48 = .ok (.getfield 19, 3) := dk_180 0 19 (dk_at dksX13_does_2 1 rfl rfl)
theorem dX13_does_51 : decode cX13_does 51 = .ok (.baload, 1) := dk_51 (dk_at dksX13_does_2 4 rfl rfl)
theorem dX13_does_52 : decode cX13_does 52 = .ok (.putfield 50, 3) := dk_181 0 50 (dk_at dksX13_does_2 5 rfl rfl)
theorem dX13_does_55 : decode cX13_does 55 = .ok (.aload_n 1, 1) := dk_43 (dk_at dksX13_does_2 8 rfl rfl)
theorem dX13_does_56 : decode cX13_does 56 = .ok (.aload_n 0, 1) := dk_42 (dk_at dksX13_does_2 9 rfl rfl)
theorem dX13_does_57 : decode cX13_does 57 = .ok (.getfield 36, 3) := dk_180 0 36 (dk_at dksX13_does_2 10 rfl rfl)
theorem dX13_does_60 : decode cX13_does 60 = .ok (.putfield 54, 3) := dk_181 0 54 (dk_at dksX13_does_2 13 rfl rfl)
theorem dX13_does_63 : decode cX13_does 63 = .ok (.aload_n 1, 1) := dk_43 (dk_at dksX13_does_2 16 rfl rfl)
theorem dX13_does_64 : decode cX13_does 64 = .ok (.aload_n 1, 1) := dk_43 (dk_at dksX13_does_2 17 rfl rfl)
theorem dX13_does_65 : decode cX13_does 65 = .ok (.getfield 32, 3) := dk_180 0 32 (dk_at dksX13_does_2 18 rfl rfl)
theorem dX13_does_68 : decode cX13_does 68 = .ok (.aload_n 0, 1) := dk_42 (dk_at dksX13_does_2 21 rfl rfl)
theorem dX13_does_69 : decode cX13_does 69 = .ok (.getfield 19, 3) := dk_180 0 19 (dk_at dksX13_does_3 0 rfl rfl)
theorem dX13_does_72 : decode cX13_does 72 = .ok (.laload, 1) := dk_47 (dk_at dksX13_does_3 3 rfl rfl)
theorem dX13_does_73 : decode cX13_does 73 = .ok (.putfield 57, 3) := dk_181 0 57 (dk_at dksX13_does_3 4 rfl rfl)
theorem dX13_does_76 : decode cX13_does 76 = .ok (.iconst 0, 1) := dk_3 (dk_at dksX13_does_3 7 rfl rfl)
theorem dX13_does_77 : decode cX13_does 77 = .ok (.ireturn, 1) := dk_172 (dk_at dksX13_does_3 8 rfl rfl)
abbrev cX13_loosely : ByteArray := prog_18_method_6_code
def yX13_loosely : MethodName := ⟨RX13, "loosely", "(LPennyJudge$Run;)V"⟩
def dkwX13_loosely_3 : List UInt8 := [180, 0, 28, 180, 0, 69, 21, 4, 47, 138, 82, 132, 4, 1, 167, 255, 228, 177]
abbrev dktX13_loosely_3 : List UInt8 := dkwX13_loosely_3 ++ []
def dkwX13_loosely_2 : List UInt8 := [180, 0, 69, 182, 0, 42, 3, 54, 4, 21, 4, 16, 8, 162, 0, 27, 43, 180, 0, 72, 21, 4, 43]
abbrev dktX13_loosely_2 : List UInt8 := dkwX13_loosely_2 ++ dktX13_loosely_3
def dkwX13_loosely_1 : List UInt8 := [20, 0, 67, 148, 156, 0, 7, 9, 167, 0, 4, 32, 42, 180, 0, 36, 42, 180, 0, 9, 43, 180, 0, 28]
abbrev dktX13_loosely_1 : List UInt8 := dkwX13_loosely_1 ++ dktX13_loosely_2
def dkwX13_loosely_0 : List UInt8 := [43, 180, 0, 61, 42, 180, 0, 19, 49, 143, 65, 43, 180, 0, 28, 32, 20, 0, 65, 148, 157, 0, 11, 32]
abbrev dktX13_loosely_0 : List UInt8 := dkwX13_loosely_0 ++ dktX13_loosely_1
theorem dksX13_loosely_0 : cX13_loosely.data.toList.drop 0 = dktX13_loosely_0 := by decide +kernel
theorem dksX13_loosely_1 : cX13_loosely.data.toList.drop 24 = dktX13_loosely_1 := dk_seg dksX13_loosely_0 24 rfl rfl
theorem dksX13_loosely_2 : cX13_loosely.data.toList.drop 48 = dktX13_loosely_2 := dk_seg dksX13_loosely_1 24 rfl rfl
theorem dksX13_loosely_3 : cX13_loosely.data.toList.drop 71 = dktX13_loosely_3 := dk_seg dksX13_loosely_2 23 rfl rfl
theorem dX13_loosely_0 : decode cX13_loosely 0 = .ok (.aload_n 1, 1) := dk_43 (dk_at dksX13_loosely_0 0 rfl rfl)
theorem dX13_loosely_1 : decode cX13_loosely 1 = .ok (.getfield 61, 3) := dk_180 0 61 (dk_at dksX13_loosely_0 1 rfl rfl)
theorem dX13_loosely_4 : decode cX13_loosely 4 = .ok (.aload_n 0, 1) := dk_42 (dk_at dksX13_loosely_0 4 rfl rfl)
theorem dX13_loosely_5 : decode cX13_loosely 5 = .ok (.getfield 19, 3) := dk_180 0 19 (dk_at dksX13_loosely_0 5 rfl rfl)
theorem dX13_loosely_8 : decode cX13_loosely 8 = .ok (.daload, 1) := dk_49 (dk_at dksX13_loosely_0 8 rfl rfl)
theorem dX13_loosely_9 : decode cX13_loosely 9 = .ok (.d2l, 1) := dk_143 (dk_at dksX13_loosely_0 9 rfl rfl)
theorem dX13_loosely_10 : decode cX13_loosely 10 = .ok (.lstore_n 2, 1) := dk_65 (dk_at dksX13_loosely_0 10 rfl rfl)
theorem dX13_loosely_11 : decode cX13_loosely 11 = .ok (.aload_n 1, 1) := dk_43 (dk_at dksX13_loosely_0 11 rfl rfl)
theorem dX13_loosely_12 : decode cX13_loosely 12 = .ok (.getfield 28, 3) := dk_180 0 28 (dk_at dksX13_loosely_0 12 rfl rfl)
theorem dX13_loosely_15 : decode cX13_loosely 15 = .ok (.lload_n 2, 1) := dk_32 (dk_at dksX13_loosely_0 15 rfl rfl)
theorem dX13_loosely_16 : decode cX13_loosely 16 = .ok (.ldc2_w 65, 3) := dk_20 0 65 (dk_at dksX13_loosely_0 16 rfl rfl)
theorem dX13_loosely_19 : decode cX13_loosely 19 = .ok (.lcmp, 1) := dk_148 (dk_at dksX13_loosely_0 19 rfl rfl)
theorem dX13_loosely_20 : decode cX13_loosely 20 = .ok (.ifCond .gt 11, 3) := dk_157 0 11 (dk_at dksX13_loosely_0 20 rfl rfl)
theorem dX13_loosely_23 : decode cX13_loosely 23 = .ok (.lload_n 2, 1) := dk_32 (dk_at dksX13_loosely_0 23 rfl rfl)
theorem dX13_loosely_24 : decode cX13_loosely 24 = .ok (.ldc2_w 67, 3) := dk_20 0 67 (dk_at dksX13_loosely_1 0 rfl rfl)
theorem dX13_loosely_27 : decode cX13_loosely 27 = .ok (.lcmp, 1) := dk_148 (dk_at dksX13_loosely_1 3 rfl rfl)
theorem dX13_loosely_28 : decode cX13_loosely 28 = .ok (.ifCond .ge 7, 3) := dk_156 0 7 (dk_at dksX13_loosely_1 4 rfl rfl)
theorem dX13_loosely_31 : decode cX13_loosely 31 = .ok (.lconst 0, 1) := dk_9 (dk_at dksX13_loosely_1 7 rfl rfl)
theorem dX13_loosely_32 : decode cX13_loosely 32 = .ok (.goto 4, 3) := dk_167 0 4 (dk_at dksX13_loosely_1 8 rfl rfl)
theorem dX13_loosely_35 : decode cX13_loosely 35 = .ok (.lload_n 2, 1) := dk_32 (dk_at dksX13_loosely_1 11 rfl rfl)
theorem dX13_loosely_36 : decode cX13_loosely 36 = .ok (.aload_n 0, 1) := dk_42 (dk_at dksX13_loosely_1 12 rfl rfl)
theorem dX13_loosely_37 : decode cX13_loosely 37 = .ok (.getfield 36, 3) := dk_180 0 36 (dk_at dksX13_loosely_1 13 rfl rfl)
theorem dX13_loosely_40 : decode cX13_loosely 40 = .ok (.aload_n 0, 1) := dk_42 (dk_at dksX13_loosely_1 16 rfl rfl)
theorem dX13_loosely_41 : decode cX13_loosely 41 = .ok (.getfield 9, 3) := dk_180 0 9 (dk_at dksX13_loosely_1 17 rfl rfl)
theorem dX13_loosely_44 : decode cX13_loosely 44 = .ok (.aload_n 1, 1) := dk_43 (dk_at dksX13_loosely_1 20 rfl rfl)
theorem dX13_loosely_45 : decode cX13_loosely 45 = .ok (.getfield 28, 3) := dk_180 0 28 (dk_at dksX13_loosely_1 21 rfl rfl)
theorem dX13_loosely_48 : decode cX13_loosely 48 = .ok (.getfield 69, 3) := dk_180 0 69 (dk_at dksX13_loosely_2 0 rfl rfl)
theorem dX13_loosely_51 : decode cX13_loosely 51 = .ok (.invokevirtual 42, 3) := dk_182 0 42 (dk_at dksX13_loosely_2 3 rfl rfl)
theorem dX13_loosely_54 : decode cX13_loosely 54 = .ok (.iconst 0, 1) := dk_3 (dk_at dksX13_loosely_2 6 rfl rfl)
theorem dX13_loosely_55 : decode cX13_loosely 55 = .ok (.istore 4, 2) := dk_54 4 (dk_at dksX13_loosely_2 7 rfl rfl)
theorem dX13_loosely_57 : decode cX13_loosely 57 = .ok (.iload 4, 2) := dk_21 4 (dk_at dksX13_loosely_2 9 rfl rfl)
theorem dX13_loosely_59 : decode cX13_loosely 59 = .ok (.bipush 8, 2) := dk_16 8 (dk_at dksX13_loosely_2 11 rfl rfl)
theorem dX13_loosely_61 : decode cX13_loosely 61 = .ok (.if_icmp .ge 27, 3) := dk_162 0 27 (dk_at dksX13_loosely_2 13 rfl rfl)
theorem dX13_loosely_64 : decode cX13_loosely 64 = .ok (.aload_n 1, 1) := dk_43 (dk_at dksX13_loosely_2 16 rfl rfl)
theorem dX13_loosely_65 : decode cX13_loosely 65 = .ok (.getfield 72, 3) := dk_180 0 72 (dk_at dksX13_loosely_2 17 rfl rfl)
theorem dX13_loosely_68 : decode cX13_loosely 68 = .ok (.iload 4, 2) := dk_21 4 (dk_at dksX13_loosely_2 20 rfl rfl)
theorem dX13_loosely_70 : decode cX13_loosely 70 = .ok (.aload_n 1, 1) := dk_43 (dk_at dksX13_loosely_2 22 rfl rfl)
theorem dX13_loosely_71 : decode cX13_loosely 71 = .ok (.getfield 28, 3) := dk_180 0 28 (dk_at dksX13_loosely_3 0 rfl rfl)
theorem dX13_loosely_74 : decode cX13_loosely 74 = .ok (.getfield 69, 3) := dk_180 0 69 (dk_at dksX13_loosely_3 3 rfl rfl)
theorem dX13_loosely_77 : decode cX13_loosely 77 = .ok (.iload 4, 2) := dk_21 4 (dk_at dksX13_loosely_3 6 rfl rfl)
theorem dX13_loosely_79 : decode cX13_loosely 79 = .ok (.laload, 1) := dk_47 (dk_at dksX13_loosely_3 8 rfl rfl)
theorem dX13_loosely_80 : decode cX13_loosely 80 = .ok (.l2d, 1) := dk_138 (dk_at dksX13_loosely_3 9 rfl rfl)
theorem dX13_loosely_81 : decode cX13_loosely 81 = .ok (.dastore, 1) := dk_82 (dk_at dksX13_loosely_3 10 rfl rfl)
theorem dX13_loosely_82 : decode cX13_loosely 82 = .ok (.iinc 4 1, 3) := dk_132 4 1 (dk_at dksX13_loosely_3 11 rfl rfl)
theorem dX13_loosely_85 : decode cX13_loosely 85 = .ok (.goto (-28), 3) := dk_167 255 228 (dk_at dksX13_loosely_3 14 rfl rfl)
theorem dX13_loosely_88 : decode cX13_loosely 88 = .ok (.return_, 1) := dk_177 (dk_at dksX13_loosely_3 17 rfl rfl)
abbrev cX13_choice : ByteArray := prog_18_method_2_code
def yX13_choice : MethodName := ⟨RX13, "choice", "()I"⟩
theorem dX13_choice_0 : decode cX13_choice 0 = .ok (.aload_n 0, 1) := by decide +kernel
theorem dX13_choice_1 : decode cX13_choice 1 = .ok (.getfield 9, 3) := by decide +kernel
theorem dX13_choice_4 : decode cX13_choice 4 = .ok (.ireturn, 1) := by decide +kernel
abbrev cX13_choices : ByteArray := prog_18_method_3_code
def yX13_choices : MethodName := ⟨RX13, "choices", "()I"⟩
def dkwX13_choices_0 : List UInt8 := [42, 183, 0, 15, 5, 100, 172]
abbrev dktX13_choices_0 : List UInt8 := dkwX13_choices_0 ++ []
theorem dksX13_choices_0 : cX13_choices.data.toList.drop 0 = dktX13_choices_0 := by decide +kernel
theorem dX13_choices_0 : decode cX13_choices 0 = .ok (.aload_n 0, 1) := dk_42 (dk_at dksX13_choices_0 0 rfl rfl)
theorem dX13_choices_1 : decode cX13_choices 1 = .ok (.invokespecial 15, 3) := dk_183 0 15 (dk_at dksX13_choices_0 1 rfl rfl)
theorem dX13_choices_4 : decode cX13_choices 4 = .ok (.iconst 2, 1) := dk_5 (dk_at dksX13_choices_0 4 rfl rfl)
theorem dX13_choices_5 : decode cX13_choices 5 = .ok (.isub, 1) := dk_100 (dk_at dksX13_choices_0 5 rfl rfl)
theorem dX13_choices_6 : decode cX13_choices 6 = .ok (.ireturn, 1) := dk_172 (dk_at dksX13_choices_0 6 rfl rfl)
abbrev cX13_choose : ByteArray := prog_18_method_4_code
def yX13_choose : MethodName := ⟨RX13, "choose", "(I)V"⟩
def dkwX13_choose_0 : List UInt8 := [42, 27, 181, 0, 9, 177]
abbrev dktX13_choose_0 : List UInt8 := dkwX13_choose_0 ++ []
theorem dksX13_choose_0 : cX13_choose.data.toList.drop 0 = dktX13_choose_0 := by decide +kernel
theorem dX13_choose_0 : decode cX13_choose 0 = .ok (.aload_n 0, 1) := dk_42 (dk_at dksX13_choose_0 0 rfl rfl)
theorem dX13_choose_1 : decode cX13_choose 1 = .ok (.iload_n 1, 1) := dk_27 (dk_at dksX13_choose_0 1 rfl rfl)
theorem dX13_choose_2 : decode cX13_choose 2 = .ok (.putfield 9, 3) := dk_181 0 9 (dk_at dksX13_choose_0 2 rfl rfl)
theorem dX13_choose_5 : decode cX13_choose 5 = .ok (.return_, 1) := dk_177 (dk_at dksX13_choose_0 5 rfl rfl)
theorem q70 : (Jvm.Cond.initialized "PennyJudge$Split") ∈ lw_all := lw_g (lw_at lw_m1 13 rfl) rfl
theorem q120 : (Jvm.Cond.fieldLink "PennyJudge$Split" (32 : Nat) "PennyJudge$Run" "num" "[J") ∈ lw_all := lw_g (lw_at lw_m1 63 rfl) rfl
theorem q136 : (Jvm.Cond.fieldLink "PennyJudge$Split" (46 : Nat) "PennyJudge$Run" "shown" "[Z") ∈ lw_all := lw_g (lw_at lw_m1 79 rfl) rfl
theorem q140 : (Jvm.Cond.fieldLink "PennyJudge$Split" (39 : Nat) "PennyJudge$Run" "parts" "[J") ∈ lw_all := lw_g (lw_at lw_m1 83 rfl) rfl
theorem q144 : (Jvm.Cond.fieldLink "PennyJudge$Split" (50 : Nat) "PennyJudge$Run" "partsShown" "Z") ∈ lw_all := lw_g (lw_at lw_m1 87 rfl) rfl
theorem q146 : (Jvm.Cond.fieldLink "PennyJudge$Split" (54 : Nat) "PennyJudge$Run" "splitSet" "I") ∈ lw_all := lw_g (lw_at lw_m1 89 rfl) rfl
theorem q148 : (Jvm.Cond.fieldLink "PennyJudge$Split" (57 : Nat) "PennyJudge$Run" "splitValue" "J") ∈ lw_all := lw_g (lw_at lw_m1 91 rfl) rfl
theorem q188 : (Jvm.Cond.fieldLink "PennyJudge$Split" (61 : Nat) "PennyJudge$Run" "value" "[D") ∈ lw_all := lw_g (lw_at lw_m1 131 rfl) rfl
theorem q194 : (Jvm.Cond.fieldLink "PennyJudge$Split" (72 : Nat) "PennyJudge$Run" "piece" "[D") ∈ lw_all := lw_g (lw_at lw_m1 137 rfl) rfl
theorem q197 : (Jvm.Cond.fieldLink "PennyJudge$Split" (28 : Nat) "PennyJudge$Run" "of" "LPennyJudge;") ∈ lw_all := lw_g (lw_at lw_m1 140 rfl) rfl
theorem q282 : (Jvm.Cond.fieldLinkNest "PennyJudge$Split" (69 : Nat) "PennyJudge" "pieces" "[J" "PennyJudge") ∈ lw_tbl := lw_at lw_m1 225 rfl
theorem q445 : (Jvm.Cond.fieldLink "PennyJudge$Split" (19 : Nat) "PennyJudge$Split" "s" "I") ∈ lw_all := lw_g (lw_at lw_m2 148 rfl) rfl
theorem q446 : (Jvm.Cond.sameField "PennyJudge$Split" "PennyJudge$Act" "s" "I") ∈ lw_all := lw_g (lw_at lw_m2 149 rfl) rfl
theorem q451 : (Jvm.Cond.fieldLink "PennyJudge$Split" (9 : Nat) "PennyJudge$Split" "t" "I") ∈ lw_all := lw_g (lw_at lw_m2 154 rfl) rfl
theorem q452 : (Jvm.Cond.sameField "PennyJudge$Split" "PennyJudge$Act" "t" "I") ∈ lw_all := lw_g (lw_at lw_m2 155 rfl) rfl
theorem q491 : (Jvm.Cond.fieldLink "PennyJudge$Split" (36 : Nat) "PennyJudge$Split" "v" "I") ∈ lw_all := lw_g (lw_at lw_m2 194 rfl) rfl
theorem q492 : (Jvm.Cond.sameField "PennyJudge$Split" "PennyJudge$Act" "v" "I") ∈ lw_all := lw_g (lw_at lw_m2 195 rfl) rfl
theorem q559 : (Jvm.Cond.instantiable "PennyJudge$Split" (4 : Nat)) ∈ lw_all := lw_g (lw_at lw_m3 22 rfl) rfl
theorem q561 : (Jvm.Cond.instanceMethod ({ cls := "PennyJudge$Split", name := "<init>", desc := "(IIII)V" } : Jvm.MethodName)) ∈ lw_all := lw_g (lw_at lw_m3 24 rfl) rfl
theorem q562 : (Jvm.Cond.code ({ cls := "PennyJudge$Split", name := "<init>", desc := "(IIII)V" } : Jvm.MethodName) prog_18_method_1_code (5 : Nat) (Option.none : Option Jvm.ClassFile.FieldType)) ∈ lw_all := lw_g (lw_at lw_m3 25 rfl) rfl
theorem q563 : (Jvm.Cond.methodLink "PennyJudge$Split" (3 : Nat) ({ cls := "PennyJudge$Act", name := "<init>", desc := "(IIII)V" } : Jvm.MethodName)) ∈ lw_all := lw_g (lw_at lw_m3 26 rfl) rfl
theorem q564 : (Jvm.Cond.laysFinal "PennyJudge$Split" "PennyJudge$Act" "kind" "I") ∈ lw_all := lw_g (lw_at lw_m3 27 rfl) rfl
theorem q565 : (Jvm.Cond.laysFinal "PennyJudge$Split" "PennyJudge$Act" "s" "I") ∈ lw_all := lw_g (lw_at lw_m3 28 rfl) rfl
theorem q566 : (Jvm.Cond.lays "PennyJudge$Split" "PennyJudge$Act" "t" "I") ∈ lw_all := lw_g (lw_at lw_m3 29 rfl) rfl
theorem q567 : (Jvm.Cond.lays "PennyJudge$Split" "PennyJudge$Act" "v" "I") ∈ lw_all := lw_g (lw_at lw_m3 30 rfl) rfl
theorem q568 : (Jvm.Cond.superclass "PennyJudge$Split" "PennyJudge$Act") ∈ lw_all := lw_g (lw_at lw_m3 31 rfl) rfl
theorem q747 : (Jvm.Cond.selects "PennyJudge$Split" ({ cls := "PennyJudge$Done", name := "does", desc := "(LPennyJudge$Run;)I" } : Jvm.MethodName) ({ cls := "PennyJudge$Split", name := "does", desc := "(LPennyJudge$Run;)I" } : Jvm.MethodName)) ∈ lw_all := lw_g (lw_at lw_m3 210 rfl) rfl
theorem q748 : (Jvm.Cond.instanceMethod ({ cls := "PennyJudge$Split", name := "does", desc := "(LPennyJudge$Run;)I" } : Jvm.MethodName)) ∈ lw_all := lw_g (lw_at lw_m3 211 rfl) rfl
theorem q749 : (Jvm.Cond.code ({ cls := "PennyJudge$Split", name := "does", desc := "(LPennyJudge$Run;)I" } : Jvm.MethodName) prog_18_method_5_code (2 : Nat) (Option.some Jvm.ClassFile.FieldType.int)) ∈ lw_all := lw_g (lw_at lw_m3 212 rfl) rfl
theorem q750 : (Jvm.Cond.methodLink "PennyJudge$Split" (22 : Nat) ({ cls := "PennyJudge$Run", name := "isWhole", desc := "(I)Z" } : Jvm.MethodName)) ∈ lw_all := lw_g (lw_at lw_m3 213 rfl) rfl
theorem q751 : (Jvm.Cond.methodLinkNest "PennyJudge$Split" (42 : Nat) ({ cls := "PennyJudge", name := "share", desc := "(JII[J)V" } : Jvm.MethodName) "PennyJudge") ∈ lw_tbl := lw_at lw_m3 214 rfl
theorem q923 : (Jvm.Cond.selects "PennyJudge$Split" ({ cls := "PennyJudge$Done", name := "loosely", desc := "(LPennyJudge$Run;)V" } : Jvm.MethodName) ({ cls := "PennyJudge$Split", name := "loosely", desc := "(LPennyJudge$Run;)V" } : Jvm.MethodName)) ∈ lw_all := lw_g (lw_at lw_m4 146 rfl) rfl
theorem q924 : (Jvm.Cond.instanceMethod ({ cls := "PennyJudge$Split", name := "loosely", desc := "(LPennyJudge$Run;)V" } : Jvm.MethodName)) ∈ lw_all := lw_g (lw_at lw_m4 147 rfl) rfl
theorem q925 : (Jvm.Cond.code ({ cls := "PennyJudge$Split", name := "loosely", desc := "(LPennyJudge$Run;)V" } : Jvm.MethodName) prog_18_method_6_code (5 : Nat) (Option.none : Option Jvm.ClassFile.FieldType)) ∈ lw_all := lw_g (lw_at lw_m4 148 rfl) rfl
theorem q926 : (Jvm.Cond.constantLong "PennyJudge$Split" (65 : Nat) (1099511627776 : Int64)) ∈ lw_all := lw_g (lw_at lw_m4 149 rfl) rfl
theorem q927 : (Jvm.Cond.constantLong "PennyJudge$Split" (67 : Nat) (-1099511627776 : Int64)) ∈ lw_all := lw_g (lw_at lw_m4 150 rfl) rfl
theorem q972 : (Jvm.Cond.selects "PennyJudge$Split" ({ cls := "PennyJudge$Act", name := "choice", desc := "()I" } : Jvm.MethodName) ({ cls := "PennyJudge$Split", name := "choice", desc := "()I" } : Jvm.MethodName)) ∈ lw_all := lw_g (lw_at lw_m4 195 rfl) rfl
theorem q973 : (Jvm.Cond.instanceMethod ({ cls := "PennyJudge$Split", name := "choice", desc := "()I" } : Jvm.MethodName)) ∈ lw_all := lw_g (lw_at lw_m4 196 rfl) rfl
theorem q974 : (Jvm.Cond.code ({ cls := "PennyJudge$Split", name := "choice", desc := "()I" } : Jvm.MethodName) prog_18_method_2_code (1 : Nat) (Option.some Jvm.ClassFile.FieldType.int)) ∈ lw_all := lw_g (lw_at lw_m4 197 rfl) rfl
theorem q991 : (Jvm.Cond.selects "PennyJudge$Split" ({ cls := "PennyJudge$Act", name := "choices", desc := "()I" } : Jvm.MethodName) ({ cls := "PennyJudge$Split", name := "choices", desc := "()I" } : Jvm.MethodName)) ∈ lw_all := lw_g (lw_at lw_m4 214 rfl) rfl
theorem q992 : (Jvm.Cond.instanceMethod ({ cls := "PennyJudge$Split", name := "choices", desc := "()I" } : Jvm.MethodName)) ∈ lw_all := lw_g (lw_at lw_m4 215 rfl) rfl
theorem q993 : (Jvm.Cond.code ({ cls := "PennyJudge$Split", name := "choices", desc := "()I" } : Jvm.MethodName) prog_18_method_3_code (1 : Nat) (Option.some Jvm.ClassFile.FieldType.int)) ∈ lw_all := lw_g (lw_at lw_m4 216 rfl) rfl
theorem q994 : (Jvm.Cond.methodLink "PennyJudge$Split" (15 : Nat) ({ cls := "PennyJudge$Act", name := "choices", desc := "()I" } : Jvm.MethodName)) ∈ lw_all := lw_g (lw_at lw_m4 217 rfl) rfl
theorem q1017 : (Jvm.Cond.selects "PennyJudge$Split" ({ cls := "PennyJudge$Act", name := "choose", desc := "(I)V" } : Jvm.MethodName) ({ cls := "PennyJudge$Split", name := "choose", desc := "(I)V" } : Jvm.MethodName)) ∈ lw_all := lw_g (lw_at lw_m5 0 rfl) rfl
theorem q1018 : (Jvm.Cond.instanceMethod ({ cls := "PennyJudge$Split", name := "choose", desc := "(I)V" } : Jvm.MethodName)) ∈ lw_all := lw_g (lw_at lw_m5 1 rfl) rfl
theorem q1019 : (Jvm.Cond.code ({ cls := "PennyJudge$Split", name := "choose", desc := "(I)V" } : Jvm.MethodName) prog_18_method_4_code (2 : Nat) (Option.none : Option Jvm.ClassFile.FieldType)) ∈ lw_all := lw_g (lw_at lw_m5 2 rfl) rfl
theorem q1917 : (Jvm.Cond.castable "PennyJudge$Split" "PennyJudge$Act") ∈ lw_tbl := lw_at lw_m8 180 rfl
theorem in_X13 : ∀ w ∈ wsX130, w ∈ lw_all := lw_in wsX130 [564, 565, 566, 567] (by decide +kernel) (by decide +kernel)

/-! PennyJudge$Part -/
set_option maxRecDepth 100000
def RX14 : String := "PennyJudge$Part"
def TX14 : u_T := fun k => match k with
  | 0 => ("PennyJudge$Act", "kind", "I", true)
  | 1 => ("PennyJudge$Act", "s", "I", true)
  | 2 => ("PennyJudge$Act", "t", "I", false)
  | _ => ("PennyJudge$Act", "v", "I", false)
def tyX14 : Nat → FieldType := fun k => match k with
  | 0 => .int
  | 1 => .int
  | 2 => .int
  | _ => .int
abbrev wsX140 : List Cond := u_ws RX14 TX14 4
theorem nmX14 : ∀ a, a < 4 → ∀ b, b < 4 → a ≠ b → (TX14 a).2.1 ≠ (TX14 b).2.1 := by decide +kernel
theorem tyX14_ok : ∀ k, k < 4 → parseFieldDescriptor (TX14 k).2.2.1 = some (tyX14 k) := by decide +kernel
abbrev cX14_init : ByteArray := prog_12_method_1_code
def yX14_init : MethodName := ⟨RX14, "<init>", "(IIII)V"⟩
def dkwX14_init_0 : List UInt8 := [42, 27, 28, 29, 21, 4, 183, 0, 1, 177]
abbrev dktX14_init_0 : List UInt8 := dkwX14_init_0 ++ []
theorem dksX14_init_0 : cX14_init.data.toList.drop 0 = dktX14_init_0 := by decide +kernel
theorem dX14_init_0 : decode cX14_init 0 = .ok (.aload_n 0, 1) := dk_42 (dk_at dksX14_init_0 0 rfl rfl)
theorem dX14_init_1 : decode cX14_init 1 = .ok (.iload_n 1, 1) := dk_27 (dk_at dksX14_init_0 1 rfl rfl)
theorem dX14_init_2 : decode cX14_init 2 = .ok (.iload_n 2, 1) := dk_28 (dk_at dksX14_init_0 2 rfl rfl)
theorem dX14_init_3 : decode cX14_init 3 = .ok (.iload_n 3, 1) := dk_29 (dk_at dksX14_init_0 3 rfl rfl)
theorem dX14_init_4 : decode cX14_init 4 = .ok (.iload 4, 2) := dk_21 4 (dk_at dksX14_init_0 4 rfl rfl)
theorem dX14_init_6 : decode cX14_init 6 = .ok (.invokespecial 1, 3) := dk_183 0 1 (dk_at dksX14_init_0 6 rfl rfl)
theorem dX14_init_9 : decode cX14_init 9 = .ok (.return_, 1) := dk_177 (dk_at dksX14_init_0 9 rfl rfl)
abbrev cX14_does : ByteArray := prog_12_method_2_code
def yX14_does : MethodName := ⟨RX14, "does", "(LPennyJudge$Run;)I"⟩
def dkwX14_does_1 : List UInt8 := [43, 43, 180, 0, 26, 182, 0, 30, 28, 172]
abbrev dktX14_does_1 : List UInt8 := dkwX14_does_1 ++ []
def dkwX14_does_0 : List UInt8 := [43, 42, 180, 0, 7, 43, 180, 0, 13, 42, 180, 0, 19, 47, 10, 182, 0, 22, 61, 28, 154, 0, 12, 42]
abbrev dktX14_does_0 : List UInt8 := dkwX14_does_0 ++ dktX14_does_1
theorem dksX14_does_0 : cX14_does.data.toList.drop 0 = dktX14_does_0 := by decide +kernel
theorem dksX14_does_1 : cX14_does.data.toList.drop 24 = dktX14_does_1 := dk_seg dksX14_does_0 24 rfl rfl
theorem dX14_does_0 : decode cX14_does 0 = .ok (.aload_n 1, 1) := dk_43 (dk_at dksX14_does_0 0 rfl rfl)
theorem dX14_does_1 : decode cX14_does 1 = .ok (.aload_n 0, 1) := dk_42 (dk_at dksX14_does_0 1 rfl rfl)
theorem dX14_does_2 : decode cX14_does 2 = .ok (.getfield 7, 3) := dk_180 0 7 (dk_at dksX14_does_0 2 rfl rfl)
theorem dX14_does_5 : decode cX14_does 5 = .ok (.aload_n 1, 1) := dk_43 (dk_at dksX14_does_0 5 rfl rfl)
theorem dX14_does_6 : decode cX14_does 6 = .ok (.getfield 13, 3) := dk_180 0 13 (dk_at dksX14_does_0 6 rfl rfl)
theorem dX14_does_9 : decode cX14_does 9 = .ok (.aload_n 0, 1) := dk_42 (dk_at dksX14_does_0 9 rfl rfl)
theorem dX14_does_10 : decode cX14_does 10 = .ok (.getfield 19, 3) := dk_180 0 19 (dk_at dksX14_does_0 10 rfl rfl)
theorem dX14_does_13 : decode cX14_does 13 = .ok (.laload, 1) := dk_47 (dk_at dksX14_does_0 13 rfl rfl)
theorem dX14_does_14 : decode cX14_does 14 = .ok (.lconst 1, 1) := dk_10 (dk_at dksX14_does_0 14 rfl rfl)
theorem dX14_does_15 : decode cX14_does 15 = .ok (.invokevirtual 22, 3) := dk_182 0 22 (dk_at dksX14_does_0 15 rfl rfl)
theorem dX14_does_18 : decode cX14_does 18 = .ok (.istore_n 2, 1) := dk_61 (dk_at dksX14_does_0 18 rfl rfl)
theorem dX14_does_19 : decode cX14_does 19 = .ok (.iload_n 2, 1) := dk_28 (dk_at dksX14_does_0 19 rfl rfl)
theorem dX14_does_20 : decode cX14_does 20 = .ok (.ifCond .ne 12, 3) := dk_154 0 12 (dk_at dksX14_does_0 20 rfl rfl)
theorem dX14_does_23 : decode cX14_does 23 = .ok (.aload_n 0, 1) := dk_42 (dk_at dksX14_does_0 23 rfl rfl)
theorem dX14_does_24 : decode cX14_does 24 = .ok (.aload_n 1, 1) := dk_43 (dk_at dksX14_does_1 0 rfl rfl)
theorem dX14_does_25 : decode cX14_does 25 = .ok (.aload_n 1, 1) := dk_43 (dk_at dksX14_does_1 1 rfl rfl)
theorem dX14_does_26 : decode cX14_does 26 = .ok (.getfield 26, 3) := dk_180 0 26 (dk_at dksX14_does_1 2 rfl rfl)
theorem dX14_does_29 : decode cX14_does 29 = .ok (.invokevirtual 30, 3) := dk_182 0 30 (dk_at dksX14_does_1 5 rfl rfl)
theorem dX14_does_32 : decode cX14_does 32 = .ok (.iload_n 2, 1) := dk_28 (dk_at dksX14_does_1 8 rfl rfl)
theorem dX14_does_33 : decode cX14_does 33 = .ok (.ireturn, 1) := dk_172 (dk_at dksX14_does_1 9 rfl rfl)
abbrev cX14_loosely : ByteArray := prog_12_method_3_code
def yX14_loosely : MethodName := ⟨RX14, "loosely", "(LPennyJudge$Run;)V"⟩
def dkwX14_loosely_0 : List UInt8 := [43, 180, 0, 34, 42, 180, 0, 7, 43, 180, 0, 38, 42, 180, 0, 19, 49, 82, 177]
abbrev dktX14_loosely_0 : List UInt8 := dkwX14_loosely_0 ++ []
theorem dksX14_loosely_0 : cX14_loosely.data.toList.drop 0 = dktX14_loosely_0 := by decide +kernel
theorem dX14_loosely_0 : decode cX14_loosely 0 = .ok (.aload_n 1, 1) := dk_43 (dk_at dksX14_loosely_0 0 rfl rfl)
theorem dX14_loosely_1 : decode cX14_loosely 1 = .ok (.getfield 34, 3) := dk_180 0 34 (dk_at dksX14_loosely_0 1 rfl rfl)
theorem dX14_loosely_4 : decode cX14_loosely 4 = .ok (.aload_n 0, 1) := dk_42 (dk_at dksX14_loosely_0 4 rfl rfl)
theorem dX14_loosely_5 : decode cX14_loosely 5 = .ok (.getfield 7, 3) := dk_180 0 7 (dk_at dksX14_loosely_0 5 rfl rfl)
theorem dX14_loosely_8 : decode cX14_loosely 8 = .ok (.aload_n 1, 1) := dk_43 (dk_at dksX14_loosely_0 8 rfl rfl)
theorem dX14_loosely_9 : decode cX14_loosely 9 = .ok (.getfield 38, 3) := dk_180 0 38 (dk_at dksX14_loosely_0 9 rfl rfl)
theorem dX14_loosely_12 : decode cX14_loosely 12 = .ok (.aload_n 0, 1) := dk_42 (dk_at dksX14_loosely_0 12 rfl rfl)
theorem dX14_loosely_13 : decode cX14_loosely 13 = .ok (.getfield 19, 3) := dk_180 0 19 (dk_at dksX14_loosely_0 13 rfl rfl)
theorem dX14_loosely_16 : decode cX14_loosely 16 = .ok (.daload, 1) := dk_49 (dk_at dksX14_loosely_0 16 rfl rfl)
theorem dX14_loosely_17 : decode cX14_loosely 17 = .ok (.dastore, 1) := dk_82 (dk_at dksX14_loosely_0 17 rfl rfl)
theorem dX14_loosely_18 : decode cX14_loosely 18 = .ok (.return_, 1) := dk_177 (dk_at dksX14_loosely_0 18 rfl rfl)
theorem q71 : (Jvm.Cond.initialized "PennyJudge$Part") ∈ lw_all := lw_g (lw_at lw_m1 14 rfl) rfl
theorem q139 : (Jvm.Cond.fieldLink "PennyJudge$Part" (13 : Nat) "PennyJudge$Run" "parts" "[J") ∈ lw_all := lw_g (lw_at lw_m1 82 rfl) rfl
theorem q142 : (Jvm.Cond.fieldLink "PennyJudge$Part" (26 : Nat) "PennyJudge$Run" "partsShown" "Z") ∈ lw_all := lw_g (lw_at lw_m1 85 rfl) rfl
theorem q178 : (Jvm.Cond.fieldLink "PennyJudge$Part" (34 : Nat) "PennyJudge$Run" "value" "[D") ∈ lw_all := lw_g (lw_at lw_m1 121 rfl) rfl
theorem q193 : (Jvm.Cond.fieldLink "PennyJudge$Part" (38 : Nat) "PennyJudge$Run" "piece" "[D") ∈ lw_all := lw_g (lw_at lw_m1 136 rfl) rfl
theorem q425 : (Jvm.Cond.fieldLink "PennyJudge$Part" (7 : Nat) "PennyJudge$Part" "s" "I") ∈ lw_all := lw_g (lw_at lw_m2 128 rfl) rfl
theorem q426 : (Jvm.Cond.sameField "PennyJudge$Part" "PennyJudge$Act" "s" "I") ∈ lw_all := lw_g (lw_at lw_m2 129 rfl) rfl
theorem q455 : (Jvm.Cond.fieldLink "PennyJudge$Part" (19 : Nat) "PennyJudge$Part" "t" "I") ∈ lw_all := lw_g (lw_at lw_m2 158 rfl) rfl
theorem q456 : (Jvm.Cond.sameField "PennyJudge$Part" "PennyJudge$Act" "t" "I") ∈ lw_all := lw_g (lw_at lw_m2 159 rfl) rfl
theorem q570 : (Jvm.Cond.instantiable "PennyJudge$Part" (4 : Nat)) ∈ lw_all := lw_g (lw_at lw_m3 33 rfl) rfl
theorem q572 : (Jvm.Cond.instanceMethod ({ cls := "PennyJudge$Part", name := "<init>", desc := "(IIII)V" } : Jvm.MethodName)) ∈ lw_all := lw_g (lw_at lw_m3 35 rfl) rfl
theorem q573 : (Jvm.Cond.code ({ cls := "PennyJudge$Part", name := "<init>", desc := "(IIII)V" } : Jvm.MethodName) prog_12_method_1_code (5 : Nat) (Option.none : Option Jvm.ClassFile.FieldType)) ∈ lw_all := lw_g (lw_at lw_m3 36 rfl) rfl
theorem q574 : (Jvm.Cond.methodLink "PennyJudge$Part" (1 : Nat) ({ cls := "PennyJudge$Act", name := "<init>", desc := "(IIII)V" } : Jvm.MethodName)) ∈ lw_all := lw_g (lw_at lw_m3 37 rfl) rfl
theorem q575 : (Jvm.Cond.laysFinal "PennyJudge$Part" "PennyJudge$Act" "kind" "I") ∈ lw_all := lw_g (lw_at lw_m3 38 rfl) rfl
theorem q576 : (Jvm.Cond.laysFinal "PennyJudge$Part" "PennyJudge$Act" "s" "I") ∈ lw_all := lw_g (lw_at lw_m3 39 rfl) rfl
theorem q577 : (Jvm.Cond.lays "PennyJudge$Part" "PennyJudge$Act" "t" "I") ∈ lw_all := lw_g (lw_at lw_m3 40 rfl) rfl
theorem q578 : (Jvm.Cond.lays "PennyJudge$Part" "PennyJudge$Act" "v" "I") ∈ lw_all := lw_g (lw_at lw_m3 41 rfl) rfl
theorem q579 : (Jvm.Cond.superclass "PennyJudge$Part" "PennyJudge$Act") ∈ lw_all := lw_g (lw_at lw_m3 42 rfl) rfl
theorem q718 : (Jvm.Cond.selects "PennyJudge$Part" ({ cls := "PennyJudge$Done", name := "does", desc := "(LPennyJudge$Run;)I" } : Jvm.MethodName) ({ cls := "PennyJudge$Part", name := "does", desc := "(LPennyJudge$Run;)I" } : Jvm.MethodName)) ∈ lw_all := lw_g (lw_at lw_m3 181 rfl) rfl
theorem q719 : (Jvm.Cond.instanceMethod ({ cls := "PennyJudge$Part", name := "does", desc := "(LPennyJudge$Run;)I" } : Jvm.MethodName)) ∈ lw_all := lw_g (lw_at lw_m3 182 rfl) rfl
theorem q720 : (Jvm.Cond.code ({ cls := "PennyJudge$Part", name := "does", desc := "(LPennyJudge$Run;)I" } : Jvm.MethodName) prog_12_method_2_code (3 : Nat) (Option.some Jvm.ClassFile.FieldType.int)) ∈ lw_all := lw_g (lw_at lw_m3 183 rfl) rfl
theorem q721 : (Jvm.Cond.methodLink "PennyJudge$Part" (22 : Nat) ({ cls := "PennyJudge$Run", name := "put", desc := "(IJJ)I" } : Jvm.MethodName)) ∈ lw_all := lw_g (lw_at lw_m3 184 rfl) rfl
theorem q722 : (Jvm.Cond.methodLink "PennyJudge$Part" (30 : Nat) ({ cls := "PennyJudge$Part", name := "show", desc := "(LPennyJudge$Run;Z)V" } : Jvm.MethodName)) ∈ lw_all := lw_g (lw_at lw_m3 185 rfl) rfl
theorem q723 : (Jvm.Cond.sameMethod "PennyJudge$Part" "PennyJudge$Act" "show" "(LPennyJudge$Run;Z)V") ∈ lw_all := lw_g (lw_at lw_m3 186 rfl) rfl
theorem q724 : (Jvm.Cond.selects "PennyJudge$Part" ({ cls := "PennyJudge$Part", name := "show", desc := "(LPennyJudge$Run;Z)V" } : Jvm.MethodName) ({ cls := "PennyJudge$Act", name := "show", desc := "(LPennyJudge$Run;Z)V" } : Jvm.MethodName)) ∈ lw_all := lw_g (lw_at lw_m3 187 rfl) rfl
theorem q909 : (Jvm.Cond.selects "PennyJudge$Part" ({ cls := "PennyJudge$Done", name := "loosely", desc := "(LPennyJudge$Run;)V" } : Jvm.MethodName) ({ cls := "PennyJudge$Part", name := "loosely", desc := "(LPennyJudge$Run;)V" } : Jvm.MethodName)) ∈ lw_all := lw_g (lw_at lw_m4 132 rfl) rfl
theorem q910 : (Jvm.Cond.instanceMethod ({ cls := "PennyJudge$Part", name := "loosely", desc := "(LPennyJudge$Run;)V" } : Jvm.MethodName)) ∈ lw_all := lw_g (lw_at lw_m4 133 rfl) rfl
theorem q911 : (Jvm.Cond.code ({ cls := "PennyJudge$Part", name := "loosely", desc := "(LPennyJudge$Run;)V" } : Jvm.MethodName) prog_12_method_3_code (2 : Nat) (Option.none : Option Jvm.ClassFile.FieldType)) ∈ lw_all := lw_g (lw_at lw_m4 134 rfl) rfl
theorem q964 : (Jvm.Cond.selects "PennyJudge$Part" ({ cls := "PennyJudge$Act", name := "choice", desc := "()I" } : Jvm.MethodName) ({ cls := "PennyJudge$Act", name := "choice", desc := "()I" } : Jvm.MethodName)) ∈ lw_all := lw_g (lw_at lw_m4 187 rfl) rfl
theorem q987 : (Jvm.Cond.selects "PennyJudge$Part" ({ cls := "PennyJudge$Act", name := "choices", desc := "()I" } : Jvm.MethodName) ({ cls := "PennyJudge$Act", name := "choices", desc := "()I" } : Jvm.MethodName)) ∈ lw_all := lw_g (lw_at lw_m4 210 rfl) rfl
theorem q1009 : (Jvm.Cond.selects "PennyJudge$Part" ({ cls := "PennyJudge$Act", name := "choose", desc := "(I)V" } : Jvm.MethodName) ({ cls := "PennyJudge$Act", name := "choose", desc := "(I)V" } : Jvm.MethodName)) ∈ lw_all := lw_g (lw_at lw_m4 232 rfl) rfl
theorem q1918 : (Jvm.Cond.castable "PennyJudge$Part" "PennyJudge$Act") ∈ lw_tbl := lw_at lw_m8 181 rfl
theorem in_X14 : ∀ w ∈ wsX140, w ∈ lw_all := lw_in wsX140 [575, 576, 577, 578] (by decide +kernel) (by decide +kernel)

/-! PennyJudge$Carry -/
set_option maxRecDepth 100000
def RX15 : String := "PennyJudge$Carry"
def TX15 : u_T := fun k => match k with
  | 0 => ("PennyJudge$Act", "kind", "I", true)
  | 1 => ("PennyJudge$Act", "s", "I", true)
  | 2 => ("PennyJudge$Act", "t", "I", false)
  | _ => ("PennyJudge$Act", "v", "I", false)
def tyX15 : Nat → FieldType := fun k => match k with
  | 0 => .int
  | 1 => .int
  | 2 => .int
  | _ => .int
abbrev wsX150 : List Cond := u_ws RX15 TX15 4
theorem nmX15 : ∀ a, a < 4 → ∀ b, b < 4 → a ≠ b → (TX15 a).2.1 ≠ (TX15 b).2.1 := by decide +kernel
theorem tyX15_ok : ∀ k, k < 4 → parseFieldDescriptor (TX15 k).2.2.1 = some (tyX15 k) := by decide +kernel
abbrev cX15_init : ByteArray := prog_6_method_1_code
def yX15_init : MethodName := ⟨RX15, "<init>", "(IIII)V"⟩
def dkwX15_init_0 : List UInt8 := [42, 27, 28, 29, 21, 4, 183, 0, 1, 177]
abbrev dktX15_init_0 : List UInt8 := dkwX15_init_0 ++ []
theorem dksX15_init_0 : cX15_init.data.toList.drop 0 = dktX15_init_0 := by decide +kernel
theorem dX15_init_0 : decode cX15_init 0 = .ok (.aload_n 0, 1) := dk_42 (dk_at dksX15_init_0 0 rfl rfl)
theorem dX15_init_1 : decode cX15_init 1 = .ok (.iload_n 1, 1) := dk_27 (dk_at dksX15_init_0 1 rfl rfl)
theorem dX15_init_2 : decode cX15_init 2 = .ok (.iload_n 2, 1) := dk_28 (dk_at dksX15_init_0 2 rfl rfl)
theorem dX15_init_3 : decode cX15_init 3 = .ok (.iload_n 3, 1) := dk_29 (dk_at dksX15_init_0 3 rfl rfl)
theorem dX15_init_4 : decode cX15_init 4 = .ok (.iload 4, 2) := dk_21 4 (dk_at dksX15_init_0 4 rfl rfl)
theorem dX15_init_6 : decode cX15_init 6 = .ok (.invokespecial 1, 3) := dk_183 0 1 (dk_at dksX15_init_0 6 rfl rfl)
theorem dX15_init_9 : decode cX15_init 9 = .ok (.return_, 1) := dk_177 (dk_at dksX15_init_0 9 rfl rfl)
abbrev cX15_does : ByteArray := prog_6_method_2_code
def yX15_does : MethodName := ⟨RX15, "does", "(LPennyJudge$Run;)I"⟩
def dkwX15_does_5 : List UInt8 := [180, 0, 7, 33, 10, 182, 0, 29, 172]
abbrev dktX15_does_5 : List UInt8 := dkwX15_does_5 ++ []
def dkwX15_does_4 : List UInt8 := [180, 0, 7, 47, 105, 101, 181, 0, 23, 43, 43, 180, 0, 26, 42, 180, 0, 7, 47, 181, 0, 19, 43, 42]
abbrev dktX15_does_4 : List UInt8 := dkwX15_does_4 ++ dktX15_does_5
def dkwX15_does_3 : List UInt8 := [180, 0, 7, 47, 184, 0, 33, 66, 43, 43, 180, 0, 13, 42, 180, 0, 7, 47, 33, 43, 180, 0, 26, 42]
abbrev dktX15_does_3 : List UInt8 := dkwX15_does_3 ++ dktX15_does_4
def dkwX15_does_2 : List UInt8 := [182, 0, 29, 61, 28, 153, 0, 5, 28, 172, 43, 180, 0, 13, 42, 180, 0, 7, 47, 43, 180, 0, 26, 42]
abbrev dktX15_does_2 : List UInt8 := dkwX15_does_2 ++ dktX15_does_3
def dkwX15_does_1 : List UInt8 := [180, 0, 26, 42, 180, 0, 7, 47, 105, 97, 43, 180, 0, 26, 42, 180, 0, 7, 47, 43, 180, 0, 19, 105]
abbrev dktX15_does_1 : List UInt8 := dkwX15_does_1 ++ dktX15_does_2
def dkwX15_does_0 : List UInt8 := [43, 42, 180, 0, 7, 43, 180, 0, 13, 42, 180, 0, 7, 47, 43, 180, 0, 19, 105, 43, 180, 0, 23, 43]
abbrev dktX15_does_0 : List UInt8 := dkwX15_does_0 ++ dktX15_does_1
theorem dksX15_does_0 : cX15_does.data.toList.drop 0 = dktX15_does_0 := by decide +kernel
theorem dksX15_does_1 : cX15_does.data.toList.drop 24 = dktX15_does_1 := dk_seg dksX15_does_0 24 rfl rfl
theorem dksX15_does_2 : cX15_does.data.toList.drop 48 = dktX15_does_2 := dk_seg dksX15_does_1 24 rfl rfl
theorem dksX15_does_3 : cX15_does.data.toList.drop 72 = dktX15_does_3 := dk_seg dksX15_does_2 24 rfl rfl
theorem dksX15_does_4 : cX15_does.data.toList.drop 96 = dktX15_does_4 := dk_seg dksX15_does_3 24 rfl rfl
theorem dksX15_does_5 : cX15_does.data.toList.drop 120 = dktX15_does_5 := dk_seg dksX15_does_4 24 rfl rfl
theorem dX15_does_0 : decode cX15_does 0 = .ok (.aload_n 1, 1) := dk_43 (dk_at dksX15_does_0 0 rfl rfl)
theorem dX15_does_1 : decode cX15_does 1 = .ok (.aload_n 0, 1) := dk_42 (dk_at dksX15_does_0 1 rfl rfl)
theorem dX15_does_2 : decode cX15_does 2 = .ok (.getfield 7, 3) := dk_180 0 7 (dk_at dksX15_does_0 2 rfl rfl)
theorem dX15_does_5 : decode cX15_does 5 = .ok (.aload_n 1, 1) := dk_43 (dk_at dksX15_does_0 5 rfl rfl)
theorem dX15_does_6 : decode cX15_does 6 = .ok (.getfield 13, 3) := dk_180 0 13 (dk_at dksX15_does_0 6 rfl rfl)
theorem dX15_does_9 : decode cX15_does 9 = .ok (.aload_n 0, 1) := dk_42 (dk_at dksX15_does_0 9 rfl rfl)
theorem dX15_does_10 : decode cX15_does 10 = .ok (.getfield 7, 3) := dk_180 0 7 (dk_at dksX15_does_0 10 rfl rfl)
theorem dX15_does_13 : decode cX15_does 13 = .ok (.laload, 1) := dk_47 (dk_at dksX15_does_0 13 rfl rfl)
theorem dX15_does_14 : decode cX15_does 14 = .ok (.aload_n 1, 1) := dk_43 (dk_at dksX15_does_0 14 rfl rfl)
theorem dX15_does_15 : decode cX15_does 15 = .ok (.getfield 19, 3) := dk_180 0 19 (dk_at dksX15_does_0 15 rfl rfl)
theorem dX15_does_18 : decode cX15_does 18 = .ok (.lmul, 1) := dk_105 (dk_at dksX15_does_0 18 rfl rfl)
theorem dX15_does_19 : decode cX15_does 19 = .ok (.aload_n 1, 1) := dk_43 (dk_at dksX15_does_0 19 rfl rfl)
theorem dX15_does_20 : decode cX15_does 20 = .ok (.getfield 23, 3) := dk_180 0 23 (dk_at dksX15_does_0 20 rfl rfl)
theorem dX15_does_23 : decode cX15_does 23 = .ok (.aload_n 1, 1) := dk_43 (dk_at dksX15_does_0 23 rfl rfl)
theorem dX15_does_24 : decode cX15_does 24 = .ok (.getfield 26, 3) := dk_180 0 26 (dk_at dksX15_does_1 0 rfl rfl)
theorem dX15_does_27 : decode cX15_does 27 = .ok (.aload_n 0, 1) := dk_42 (dk_at dksX15_does_1 3 rfl rfl)
theorem dX15_does_28 : decode cX15_does 28 = .ok (.getfield 7, 3) := dk_180 0 7 (dk_at dksX15_does_1 4 rfl rfl)
theorem dX15_does_31 : decode cX15_does 31 = .ok (.laload, 1) := dk_47 (dk_at dksX15_does_1 7 rfl rfl)
theorem dX15_does_32 : decode cX15_does 32 = .ok (.lmul, 1) := dk_105 (dk_at dksX15_does_1 8 rfl rfl)
theorem dX15_does_33 : decode cX15_does 33 = .ok (.ladd, 1) := dk_97 (dk_at dksX15_does_1 9 rfl rfl)
theorem dX15_does_34 : decode cX15_does 34 = .ok (.aload_n 1, 1) := dk_43 (dk_at dksX15_does_1 10 rfl rfl)
theorem dX15_does_35 : decode cX15_does 35 = .ok (.getfield 26, 3) := dk_180 0 26 (dk_at dksX15_does_1 11 rfl rfl)
theorem dX15_does_38 : decode cX15_does 38 = .ok (.aload_n 0, 1) := dk_42 (dk_at dksX15_does_1 14 rfl rfl)
theorem dX15_does_39 : decode cX15_does 39 = .ok (.getfield 7, 3) := dk_180 0 7 (dk_at dksX15_does_1 15 rfl rfl)
theorem dX15_does_42 : decode cX15_does 42 = .ok (.laload, 1) := dk_47 (dk_at dksX15_does_1 18 rfl rfl)
theorem dX15_does_43 : decode cX15_does 43 = .ok (.aload_n 1, 1) := dk_43 (dk_at dksX15_does_1 19 rfl rfl)
theorem dX15_does_44 : decode cX15_does 44 = .ok (.getfield 19, 3) := dk_180 0 19 (dk_at dksX15_does_1 20 rfl rfl)
theorem dX15_does_47 : decode cX15_does 47 = .ok (.lmul, 1) := dk_105 (dk_at dksX15_does_1 23 rfl rfl)
theorem dX15_does_48 : decode cX15_does 48 = .ok (.invokevirtual 29, 3) := dk_182 0 29 (dk_at dksX15_does_2 0 rfl rfl)
theorem dX15_does_51 : decode cX15_does 51 = .ok (.istore_n 2, 1) := dk_61 (dk_at dksX15_does_2 3 rfl rfl)
theorem dX15_does_52 : decode cX15_does 52 = .ok (.iload_n 2, 1) := dk_28 (dk_at dksX15_does_2 4 rfl rfl)
theorem dX15_does_53 : decode cX15_does 53 = .ok (.ifCond .eq 5, 3) := dk_153 0 5 (dk_at dksX15_does_2 5 rfl rfl)
theorem dX15_does_56 : decode cX15_does 56 = .ok (.iload_n 2, 1) := dk_28 (dk_at dksX15_does_2 8 rfl rfl)
theorem dX15_does_57 : decode cX15_does 57 = .ok (.ireturn, 1) := dk_172 (dk_at dksX15_does_2 9 rfl rfl)
theorem dX15_does_58 : decode cX15_does 58 = .ok (.aload_n 1, 1) := dk_43 (dk_at dksX15_does_2 10 rfl rfl)
theorem dX15_does_59 : decode cX15_does 59 = .ok (.getfield 13, 3) := dk_180 0 13 (dk_at dksX15_does_2 11 rfl rfl)
theorem dX15_does_62 : decode cX15_does 62 = .ok (.aload_n 0, 1) := dk_42 (dk_at dksX15_does_2 14 rfl rfl)
theorem dX15_does_63 : decode cX15_does 63 = .ok (.getfield 7, 3) := dk_180 0 7 (dk_at dksX15_does_2 15 rfl rfl)
theorem dX15_does_66 : decode cX15_does 66 = .ok (.laload, 1) := dk_47 (dk_at dksX15_does_2 18 rfl rfl)
theorem dX15_does_67 : decode cX15_does 67 = .ok (.aload_n 1, 1) := dk_43 (dk_at dksX15_does_2 19 rfl rfl)
theorem dX15_does_68 : decode cX15_does 68 = .ok (.getfield 26, 3) := dk_180 0 26 (dk_at dksX15_does_2 20 rfl rfl)
theorem dX15_does_71 : decode cX15_does 71 = .ok (.aload_n 0, 1) := dk_42 (dk_at dksX15_does_2 23 rfl rfl)
theorem dX15_does_72 : decode cX15_does 72 = .ok (.getfield 7, 3) := dk_180 0 7 (dk_at dksX15_does_3 0 rfl rfl)
theorem dX15_does_75 : decode cX15_does 75 = .ok (.laload, 1) := dk_47 (dk_at dksX15_does_3 3 rfl rfl)
theorem dX15_does_76 : decode cX15_does 76 = .ok (.invokestatic 33, 3) := dk_184 0 33 (dk_at dksX15_does_3 4 rfl rfl)
theorem dX15_does_79 : decode cX15_does 79 = .ok (.lstore_n 3, 1) := dk_66 (dk_at dksX15_does_3 7 rfl rfl)
theorem dX15_does_80 : decode cX15_does 80 = .ok (.aload_n 1, 1) := dk_43 (dk_at dksX15_does_3 8 rfl rfl)
theorem dX15_does_81 : decode cX15_does 81 = .ok (.aload_n 1, 1) := dk_43 (dk_at dksX15_does_3 9 rfl rfl)
theorem dX15_does_82 : decode cX15_does 82 = .ok (.getfield 13, 3) := dk_180 0 13 (dk_at dksX15_does_3 10 rfl rfl)
theorem dX15_does_85 : decode cX15_does 85 = .ok (.aload_n 0, 1) := dk_42 (dk_at dksX15_does_3 13 rfl rfl)
theorem dX15_does_86 : decode cX15_does 86 = .ok (.getfield 7, 3) := dk_180 0 7 (dk_at dksX15_does_3 14 rfl rfl)
theorem dX15_does_89 : decode cX15_does 89 = .ok (.laload, 1) := dk_47 (dk_at dksX15_does_3 17 rfl rfl)
theorem dX15_does_90 : decode cX15_does 90 = .ok (.lload_n 3, 1) := dk_33 (dk_at dksX15_does_3 18 rfl rfl)
theorem dX15_does_91 : decode cX15_does 91 = .ok (.aload_n 1, 1) := dk_43 (dk_at dksX15_does_3 19 rfl rfl)
theorem dX15_does_92 : decode cX15_does 92 = .ok (.getfield 26, 3) := dk_180 0 26 (dk_at dksX15_does_3 20 rfl rfl)
theorem dX15_does_95 : decode cX15_does 95 = .ok (.aload_n 0, 1) := dk_42 (dk_at dksX15_does_3 23 rfl rfl)
theorem dX15_does_96 : decode cX15_does 96 = .ok (.getfield 7, 3) := dk_180 0 7 (dk_at dksX15_does_4 0 rfl rfl)
theorem dX15_does_99 : decode cX15_does 99 = .ok (.laload, 1) := dk_47 (dk_at dksX15_does_4 3 rfl rfl)
theorem dX15_does_100 : decode cX15_does 100 = .ok (.lmul, 1) := dk_105 (dk_at dksX15_does_4 4 rfl rfl)
theorem dX15_does_101 : decode cX15_does 101 = .ok (.lsub, 1) := dk_101 (dk_at dksX15_does_4 5 rfl rfl)
theorem dX15_does_102 : decode cX15_does 102 = .ok (.putfield 23, 3) := dk_181 0 23 (dk_at dksX15_does_4 6 rfl rfl)
theorem dX15_does_105 : decode cX15_does 105 = .ok (.aload_n 1, 1) := dk_43 (dk_at dksX15_does_4 9 rfl rfl)
theorem dX15_does_106 : decode cX15_does 106 = .ok (.aload_n 1, 1) := dk_43 (dk_at dksX15_does_4 10 rfl rfl)
theorem dX15_does_107 : decode cX15_does 107 = .ok (.getfield 26, 3) := dk_180 0 26 (dk_at dksX15_does_4 11 rfl rfl)
theorem dX15_does_110 : decode cX15_does 110 = .ok (.aload_n 0, 1) := dk_42 (dk_at dksX15_does_4 14 rfl rfl)
theorem dX15_does_111 : decode cX15_does 111 = .ok (.getfield 7, 3) := dk_180 0 7 (dk_at dksX15_does_4 15 rfl rfl)
theorem dX15_does_114 : decode cX15_does 114 = .ok (.laload, 1) := dk_47 (dk_at dksX15_does_4 18 rfl rfl)
theorem dX15_does_115 : decode cX15_does 115 = .ok (.putfield 19, 3) := dk_181 0 19 (dk_at dksX15_does_4 19 rfl rfl)
theorem dX15_does_118 : decode cX15_does 118 = .ok (.aload_n 1, 1) := dk_43 (dk_at dksX15_does_4 22 rfl rfl)
theorem dX15_does_119 : decode cX15_does 119 = .ok (.aload_n 0, 1) := dk_42 (dk_at dksX15_does_4 23 rfl rfl)
theorem dX15_does_120 : decode cX15_does 120 = .ok (.getfield 7, 3) := dk_180 0 7 (dk_at dksX15_does_5 0 rfl rfl)
theorem dX15_does_123 : decode cX15_does 123 = .ok (.lload_n 3, 1) := dk_33 (dk_at dksX15_does_5 3 rfl rfl)
theorem dX15_does_124 : decode cX15_does 124 = .ok (.lconst 1, 1) := dk_10 (dk_at dksX15_does_5 4 rfl rfl)
theorem dX15_does_125 : decode cX15_does 125 = .ok (.invokevirtual 29, 3) := dk_182 0 29 (dk_at dksX15_does_5 5 rfl rfl)
theorem dX15_does_128 : decode cX15_does 128 = .ok (.ireturn, 1) := dk_172 (dk_at dksX15_does_5 8 rfl rfl)
abbrev cX15_loosely : ByteArray := prog_6_method_3_code
def yX15_loosely : MethodName := ⟨RX15, "loosely", "(LPennyJudge$Run;)V"⟩
def dkwX15_loosely_1 : List UInt8 := [184, 0, 47, 82, 43, 40, 43, 180, 0, 39, 42, 180, 0, 7, 49, 103, 181, 0, 43, 177]
abbrev dktX15_loosely_1 : List UInt8 := dkwX15_loosely_1 ++ []
def dkwX15_loosely_0 : List UInt8 := [43, 180, 0, 39, 42, 180, 0, 7, 49, 43, 180, 0, 43, 99, 73, 43, 180, 0, 39, 42, 180, 0, 7, 40]
abbrev dktX15_loosely_0 : List UInt8 := dkwX15_loosely_0 ++ dktX15_loosely_1
theorem dksX15_loosely_0 : cX15_loosely.data.toList.drop 0 = dktX15_loosely_0 := by decide +kernel
theorem dksX15_loosely_1 : cX15_loosely.data.toList.drop 24 = dktX15_loosely_1 := dk_seg dksX15_loosely_0 24 rfl rfl
theorem dX15_loosely_0 : decode cX15_loosely 0 = .ok (.aload_n 1, 1) := dk_43 (dk_at dksX15_loosely_0 0 rfl rfl)
theorem dX15_loosely_1 : decode cX15_loosely 1 = .ok (.getfield 39, 3) := dk_180 0 39 (dk_at dksX15_loosely_0 1 rfl rfl)
theorem dX15_loosely_4 : decode cX15_loosely 4 = .ok (.aload_n 0, 1) := dk_42 (dk_at dksX15_loosely_0 4 rfl rfl)
theorem dX15_loosely_5 : decode cX15_loosely 5 = .ok (.getfield 7, 3) := dk_180 0 7 (dk_at dksX15_loosely_0 5 rfl rfl)
theorem dX15_loosely_8 : decode cX15_loosely 8 = .ok (.daload, 1) := dk_49 (dk_at dksX15_loosely_0 8 rfl rfl)
theorem dX15_loosely_9 : decode cX15_loosely 9 = .ok (.aload_n 1, 1) := dk_43 (dk_at dksX15_loosely_0 9 rfl rfl)
theorem dX15_loosely_10 : decode cX15_loosely 10 = .ok (.getfield 43, 3) := dk_180 0 43 (dk_at dksX15_loosely_0 10 rfl rfl)
theorem dX15_loosely_13 : decode cX15_loosely 13 = .ok (.dadd, 1) := dk_99 (dk_at dksX15_loosely_0 13 rfl rfl)
theorem dX15_loosely_14 : decode cX15_loosely 14 = .ok (.dstore_n 2, 1) := dk_73 (dk_at dksX15_loosely_0 14 rfl rfl)
theorem dX15_loosely_15 : decode cX15_loosely 15 = .ok (.aload_n 1, 1) := dk_43 (dk_at dksX15_loosely_0 15 rfl rfl)
theorem dX15_loosely_16 : decode cX15_loosely 16 = .ok (.getfield 39, 3) := dk_180 0 39 (dk_at dksX15_loosely_0 16 rfl rfl)
theorem dX15_loosely_19 : decode cX15_loosely 19 = .ok (.aload_n 0, 1) := dk_42 (dk_at dksX15_loosely_0 19 rfl rfl)
theorem dX15_loosely_20 : decode cX15_loosely 20 = .ok (.getfield 7, 3) := dk_180 0 7 (dk_at dksX15_loosely_0 20 rfl rfl)
theorem dX15_loosely_23 : decode cX15_loosely 23 = .ok (.dload_n 2, 1) := dk_40 (dk_at dksX15_loosely_0 23 rfl rfl)
theorem dX15_loosely_24 : decode cX15_loosely 24 = .ok (.invokestatic 47, 3) := dk_184 0 47 (dk_at dksX15_loosely_1 0 rfl rfl)
theorem dX15_loosely_27 : decode cX15_loosely 27 = .ok (.dastore, 1) := dk_82 (dk_at dksX15_loosely_1 3 rfl rfl)
theorem dX15_loosely_28 : decode cX15_loosely 28 = .ok (.aload_n 1, 1) := dk_43 (dk_at dksX15_loosely_1 4 rfl rfl)
theorem dX15_loosely_29 : decode cX15_loosely 29 = .ok (.dload_n 2, 1) := dk_40 (dk_at dksX15_loosely_1 5 rfl rfl)
theorem dX15_loosely_30 : decode cX15_loosely 30 = .ok (.aload_n 1, 1) := dk_43 (dk_at dksX15_loosely_1 6 rfl rfl)
theorem dX15_loosely_31 : decode cX15_loosely 31 = .ok (.getfield 39, 3) := dk_180 0 39 (dk_at dksX15_loosely_1 7 rfl rfl)
theorem dX15_loosely_34 : decode cX15_loosely 34 = .ok (.aload_n 0, 1) := dk_42 (dk_at dksX15_loosely_1 10 rfl rfl)
theorem dX15_loosely_35 : decode cX15_loosely 35 = .ok (.getfield 7, 3) := dk_180 0 7 (dk_at dksX15_loosely_1 11 rfl rfl)
theorem dX15_loosely_38 : decode cX15_loosely 38 = .ok (.daload, 1) := dk_49 (dk_at dksX15_loosely_1 14 rfl rfl)
theorem dX15_loosely_39 : decode cX15_loosely 39 = .ok (.dsub, 1) := dk_103 (dk_at dksX15_loosely_1 15 rfl rfl)
theorem dX15_loosely_40 : decode cX15_loosely 40 = .ok (.putfield 43, 3) := dk_181 0 43 (dk_at dksX15_loosely_1 16 rfl rfl)
theorem dX15_loosely_43 : decode cX15_loosely 43 = .ok (.return_, 1) := dk_177 (dk_at dksX15_loosely_1 19 rfl rfl)
theorem q72 : (Jvm.Cond.initialized "PennyJudge$Carry") ∈ lw_all := lw_g (lw_at lw_m1 15 rfl) rfl
theorem q112 : (Jvm.Cond.fieldLink "PennyJudge$Carry" (13 : Nat) "PennyJudge$Run" "num" "[J") ∈ lw_all := lw_g (lw_at lw_m1 55 rfl) rfl
theorem q124 : (Jvm.Cond.fieldLink "PennyJudge$Carry" (26 : Nat) "PennyJudge$Run" "den" "[J") ∈ lw_all := lw_g (lw_at lw_m1 67 rfl) rfl
theorem q162 : (Jvm.Cond.fieldLink "PennyJudge$Carry" (23 : Nat) "PennyJudge$Run" "carriedNum" "J") ∈ lw_all := lw_g (lw_at lw_m1 105 rfl) rfl
theorem q166 : (Jvm.Cond.fieldLink "PennyJudge$Carry" (19 : Nat) "PennyJudge$Run" "carriedDen" "J") ∈ lw_all := lw_g (lw_at lw_m1 109 rfl) rfl
theorem q177 : (Jvm.Cond.fieldLink "PennyJudge$Carry" (39 : Nat) "PennyJudge$Run" "value" "[D") ∈ lw_all := lw_g (lw_at lw_m1 120 rfl) rfl
theorem q195 : (Jvm.Cond.fieldLink "PennyJudge$Carry" (43 : Nat) "PennyJudge$Run" "carried" "D") ∈ lw_all := lw_g (lw_at lw_m1 138 rfl) rfl
theorem q423 : (Jvm.Cond.fieldLink "PennyJudge$Carry" (7 : Nat) "PennyJudge$Carry" "s" "I") ∈ lw_all := lw_g (lw_at lw_m2 126 rfl) rfl
theorem q424 : (Jvm.Cond.sameField "PennyJudge$Carry" "PennyJudge$Act" "s" "I") ∈ lw_all := lw_g (lw_at lw_m2 127 rfl) rfl
theorem q581 : (Jvm.Cond.instantiable "PennyJudge$Carry" (4 : Nat)) ∈ lw_all := lw_g (lw_at lw_m3 44 rfl) rfl
theorem q583 : (Jvm.Cond.instanceMethod ({ cls := "PennyJudge$Carry", name := "<init>", desc := "(IIII)V" } : Jvm.MethodName)) ∈ lw_all := lw_g (lw_at lw_m3 46 rfl) rfl
theorem q584 : (Jvm.Cond.code ({ cls := "PennyJudge$Carry", name := "<init>", desc := "(IIII)V" } : Jvm.MethodName) prog_6_method_1_code (5 : Nat) (Option.none : Option Jvm.ClassFile.FieldType)) ∈ lw_all := lw_g (lw_at lw_m3 47 rfl) rfl
theorem q585 : (Jvm.Cond.methodLink "PennyJudge$Carry" (1 : Nat) ({ cls := "PennyJudge$Act", name := "<init>", desc := "(IIII)V" } : Jvm.MethodName)) ∈ lw_all := lw_g (lw_at lw_m3 48 rfl) rfl
theorem q586 : (Jvm.Cond.laysFinal "PennyJudge$Carry" "PennyJudge$Act" "kind" "I") ∈ lw_all := lw_g (lw_at lw_m3 49 rfl) rfl
theorem q587 : (Jvm.Cond.laysFinal "PennyJudge$Carry" "PennyJudge$Act" "s" "I") ∈ lw_all := lw_g (lw_at lw_m3 50 rfl) rfl
theorem q588 : (Jvm.Cond.lays "PennyJudge$Carry" "PennyJudge$Act" "t" "I") ∈ lw_all := lw_g (lw_at lw_m3 51 rfl) rfl
theorem q589 : (Jvm.Cond.lays "PennyJudge$Carry" "PennyJudge$Act" "v" "I") ∈ lw_all := lw_g (lw_at lw_m3 52 rfl) rfl
theorem q590 : (Jvm.Cond.superclass "PennyJudge$Carry" "PennyJudge$Act") ∈ lw_all := lw_g (lw_at lw_m3 53 rfl) rfl
theorem q684 : (Jvm.Cond.selects "PennyJudge$Carry" ({ cls := "PennyJudge$Done", name := "does", desc := "(LPennyJudge$Run;)I" } : Jvm.MethodName) ({ cls := "PennyJudge$Carry", name := "does", desc := "(LPennyJudge$Run;)I" } : Jvm.MethodName)) ∈ lw_all := lw_g (lw_at lw_m3 147 rfl) rfl
theorem q685 : (Jvm.Cond.instanceMethod ({ cls := "PennyJudge$Carry", name := "does", desc := "(LPennyJudge$Run;)I" } : Jvm.MethodName)) ∈ lw_all := lw_g (lw_at lw_m3 148 rfl) rfl
theorem q686 : (Jvm.Cond.code ({ cls := "PennyJudge$Carry", name := "does", desc := "(LPennyJudge$Run;)I" } : Jvm.MethodName) prog_6_method_2_code (5 : Nat) (Option.some Jvm.ClassFile.FieldType.int)) ∈ lw_all := lw_g (lw_at lw_m3 149 rfl) rfl
theorem q687 : (Jvm.Cond.methodLink "PennyJudge$Carry" (29 : Nat) ({ cls := "PennyJudge$Run", name := "put", desc := "(IJJ)I" } : Jvm.MethodName)) ∈ lw_all := lw_g (lw_at lw_m3 150 rfl) rfl
theorem q688 : (Jvm.Cond.methodLinkNest "PennyJudge$Carry" (33 : Nat) ({ cls := "PennyJudge", name := "floorOf", desc := "(JJ)J" } : Jvm.MethodName) "PennyJudge") ∈ lw_tbl := lw_at lw_m3 151 rfl
theorem q840 : (Jvm.Cond.selects "PennyJudge$Carry" ({ cls := "PennyJudge$Done", name := "loosely", desc := "(LPennyJudge$Run;)V" } : Jvm.MethodName) ({ cls := "PennyJudge$Carry", name := "loosely", desc := "(LPennyJudge$Run;)V" } : Jvm.MethodName)) ∈ lw_all := lw_g (lw_at lw_m4 63 rfl) rfl
theorem q841 : (Jvm.Cond.instanceMethod ({ cls := "PennyJudge$Carry", name := "loosely", desc := "(LPennyJudge$Run;)V" } : Jvm.MethodName)) ∈ lw_all := lw_g (lw_at lw_m4 64 rfl) rfl
theorem q842 : (Jvm.Cond.code ({ cls := "PennyJudge$Carry", name := "loosely", desc := "(LPennyJudge$Run;)V" } : Jvm.MethodName) prog_6_method_3_code (4 : Nat) (Option.none : Option Jvm.ClassFile.FieldType)) ∈ lw_all := lw_g (lw_at lw_m4 65 rfl) rfl
theorem q843 : (Jvm.Cond.methodLink "PennyJudge$Carry" (47 : Nat) ({ cls := "java/lang/Math", name := "floor", desc := "(D)D" } : Jvm.MethodName)) ∈ lw_all := lw_g (lw_at lw_m4 66 rfl) rfl
theorem q959 : (Jvm.Cond.selects "PennyJudge$Carry" ({ cls := "PennyJudge$Act", name := "choice", desc := "()I" } : Jvm.MethodName) ({ cls := "PennyJudge$Act", name := "choice", desc := "()I" } : Jvm.MethodName)) ∈ lw_all := lw_g (lw_at lw_m4 182 rfl) rfl
theorem q984 : (Jvm.Cond.selects "PennyJudge$Carry" ({ cls := "PennyJudge$Act", name := "choices", desc := "()I" } : Jvm.MethodName) ({ cls := "PennyJudge$Act", name := "choices", desc := "()I" } : Jvm.MethodName)) ∈ lw_all := lw_g (lw_at lw_m4 207 rfl) rfl
theorem q1004 : (Jvm.Cond.selects "PennyJudge$Carry" ({ cls := "PennyJudge$Act", name := "choose", desc := "(I)V" } : Jvm.MethodName) ({ cls := "PennyJudge$Act", name := "choose", desc := "(I)V" } : Jvm.MethodName)) ∈ lw_all := lw_g (lw_at lw_m4 227 rfl) rfl
theorem q1919 : (Jvm.Cond.castable "PennyJudge$Carry" "PennyJudge$Act") ∈ lw_tbl := lw_at lw_m8 182 rfl
theorem in_X15 : ∀ w ∈ wsX150, w ∈ lw_all := lw_in wsX150 [586, 587, 588, 589] (by decide +kernel) (by decide +kernel)

/-! PennyJudge$Cap -/
set_option maxRecDepth 100000
def RX16 : String := "PennyJudge$Cap"
def TX16 : u_T := fun k => match k with
  | 0 => ("PennyJudge$Act", "kind", "I", true)
  | 1 => ("PennyJudge$Act", "s", "I", true)
  | 2 => ("PennyJudge$Act", "t", "I", false)
  | _ => ("PennyJudge$Act", "v", "I", false)
def tyX16 : Nat → FieldType := fun k => match k with
  | 0 => .int
  | 1 => .int
  | 2 => .int
  | _ => .int
abbrev wsX160 : List Cond := u_ws RX16 TX16 4
theorem nmX16 : ∀ a, a < 4 → ∀ b, b < 4 → a ≠ b → (TX16 a).2.1 ≠ (TX16 b).2.1 := by decide +kernel
theorem tyX16_ok : ∀ k, k < 4 → parseFieldDescriptor (TX16 k).2.2.1 = some (tyX16 k) := by decide +kernel
abbrev cX16_init : ByteArray := prog_5_method_1_code
def yX16_init : MethodName := ⟨RX16, "<init>", "(IIII)V"⟩
def dkwX16_init_0 : List UInt8 := [42, 27, 28, 29, 21, 4, 183, 0, 1, 177]
abbrev dktX16_init_0 : List UInt8 := dkwX16_init_0 ++ []
theorem dksX16_init_0 : cX16_init.data.toList.drop 0 = dktX16_init_0 := by decide +kernel
theorem dX16_init_0 : decode cX16_init 0 = .ok (.aload_n 0, 1) := dk_42 (dk_at dksX16_init_0 0 rfl rfl)
theorem dX16_init_1 : decode cX16_init 1 = .ok (.iload_n 1, 1) := dk_27 (dk_at dksX16_init_0 1 rfl rfl)
theorem dX16_init_2 : decode cX16_init 2 = .ok (.iload_n 2, 1) := dk_28 (dk_at dksX16_init_0 2 rfl rfl)
theorem dX16_init_3 : decode cX16_init 3 = .ok (.iload_n 3, 1) := dk_29 (dk_at dksX16_init_0 3 rfl rfl)
theorem dX16_init_4 : decode cX16_init 4 = .ok (.iload 4, 2) := dk_21 4 (dk_at dksX16_init_0 4 rfl rfl)
theorem dX16_init_6 : decode cX16_init 6 = .ok (.invokespecial 1, 3) := dk_183 0 1 (dk_at dksX16_init_0 6 rfl rfl)
theorem dX16_init_9 : decode cX16_init 9 = .ok (.return_, 1) := dk_177 (dk_at dksX16_init_0 9 rfl rfl)
abbrev cX16_does : ByteArray := prog_5_method_2_code
def yX16_does : MethodName := ⟨RX16, "does", "(LPennyJudge$Run;)I"⟩
def dkwX16_does_2 : List UInt8 := [47, 32, 148, 156, 0, 18, 43, 42, 180, 0, 19, 42, 180, 0, 7, 133, 10, 182, 0, 28, 172, 3, 172]
abbrev dktX16_does_2 : List UInt8 := dkwX16_does_2 ++ []
def dkwX16_does_1 : List UInt8 := [180, 0, 25, 42, 180, 0, 19, 47, 32, 148, 158, 0, 35, 167, 0, 17, 43, 180, 0, 25, 42, 180, 0, 19]
abbrev dktX16_does_1 : List UInt8 := dkwX16_does_1 ++ dktX16_does_2
def dkwX16_does_0 : List UInt8 := [42, 180, 0, 7, 133, 43, 180, 0, 13, 42, 180, 0, 19, 47, 105, 65, 42, 180, 0, 22, 154, 0, 20, 43]
abbrev dktX16_does_0 : List UInt8 := dkwX16_does_0 ++ dktX16_does_1
theorem dksX16_does_0 : cX16_does.data.toList.drop 0 = dktX16_does_0 := by decide +kernel
theorem dksX16_does_1 : cX16_does.data.toList.drop 24 = dktX16_does_1 := dk_seg dksX16_does_0 24 rfl rfl
theorem dksX16_does_2 : cX16_does.data.toList.drop 48 = dktX16_does_2 := dk_seg dksX16_does_1 24 rfl rfl
theorem dX16_does_0 : decode cX16_does 0 = .ok (.aload_n 0, 1) := dk_42 (dk_at dksX16_does_0 0 rfl rfl)
theorem dX16_does_1 : decode cX16_does 1 = .ok (.getfield 7, 3) := dk_180 0 7 (dk_at dksX16_does_0 1 rfl rfl)
theorem dX16_does_4 : decode cX16_does 4 = .ok (.i2l, 1) := dk_133 (dk_at dksX16_does_0 4 rfl rfl)
theorem dX16_does_5 : decode cX16_does 5 = .ok (.aload_n 1, 1) := dk_43 (dk_at dksX16_does_0 5 rfl rfl)
theorem dX16_does_6 : decode cX16_does 6 = .ok (.getfield 13, 3) := dk_180 0 13 (dk_at dksX16_does_0 6 rfl rfl)
theorem dX16_does_9 : decode cX16_does 9 = .ok (.aload_n 0, 1) := dk_42 (dk_at dksX16_does_0 9 rfl rfl)
theorem dX16_does_10 : decode cX16_does 10 = .ok (.getfield 19, 3) := dk_180 0 19 (dk_at dksX16_does_0 10 rfl rfl)
theorem dX16_does_13 : decode cX16_does 13 = .ok (.laload, 1) := dk_47 (dk_at dksX16_does_0 13 rfl rfl)
theorem dX16_does_14 : decode cX16_does 14 = .ok (.lmul, 1) := dk_105 (dk_at dksX16_does_0 14 rfl rfl)
theorem dX16_does_15 : decode cX16_does 15 = .ok (.lstore_n 2, 1) := dk_65 (dk_at dksX16_does_0 15 rfl rfl)
theorem dX16_does_16 : decode cX16_does 16 = .ok (.aload_n 0, 1) := dk_42 (dk_at dksX16_does_0 16 rfl rfl)
theorem dX16_does_17 : decode cX16_does 17 = .ok (.getfield 22, 3) := dk_180 0 22 (dk_at dksX16_does_0 17 rfl rfl)
theorem dX16_does_20 : decode cX16_does 20 = .ok (.ifCond .ne 20, 3) := dk_154 0 20 (dk_at dksX16_does_0 20 rfl rfl)
theorem dX16_does_23 : decode cX16_does 23 = .ok (.aload_n 1, 1) := dk_43 (dk_at dksX16_does_0 23 rfl rfl)
theorem dX16_does_24 : decode cX16_does 24 = .ok (.getfield 25, 3) := dk_180 0 25 (dk_at dksX16_does_1 0 rfl rfl)
theorem dX16_does_27 : decode cX16_does 27 = .ok (.aload_n 0, 1) := dk_42 (dk_at dksX16_does_1 3 rfl rfl)
theorem dX16_does_28 : decode cX16_does 28 = .ok (.getfield 19, 3) := dk_180 0 19 (dk_at dksX16_does_1 4 rfl rfl)
theorem dX16_does_31 : decode cX16_does 31 = .ok (.laload, 1) := dk_47 (dk_at dksX16_does_1 7 rfl rfl)
theorem dX16_does_32 : decode cX16_does 32 = .ok (.lload_n 2, 1) := dk_32 (dk_at dksX16_does_1 8 rfl rfl)
theorem dX16_does_33 : decode cX16_does 33 = .ok (.lcmp, 1) := dk_148 (dk_at dksX16_does_1 9 rfl rfl)
theorem dX16_does_34 : decode cX16_does 34 = .ok (.ifCond .le 35, 3) := dk_158 0 35 (dk_at dksX16_does_1 10 rfl rfl)
theorem dX16_does_37 : decode cX16_does 37 = .ok (.goto 17, 3) := dk_167 0 17 (dk_at dksX16_does_1 13 rfl rfl)
theorem dX16_does_40 : decode cX16_does 40 = .ok (.aload_n 1, 1) := dk_43 (dk_at dksX16_does_1 16 rfl rfl)
theorem dX16_does_41 : decode cX16_does 41 = .ok (.getfield 25, 3) := dk_180 0 25 (dk_at dksX16_does_1 17 rfl rfl)
theorem dX16_does_44 : decode cX16_does 44 = .ok (.aload_n 0, 1) := dk_42 (dk_at dksX16_does_1 20 rfl rfl)
theorem dX16_does_45 : decode cX16_does 45 = .ok (.getfield 19, 3) := dk_180 0 19 (dk_at dksX16_does_1 21 rfl rfl)
theorem dX16_does_48 : decode cX16_does 48 = .ok (.laload, 1) := dk_47 (dk_at dksX16_does_2 0 rfl rfl)
theorem dX16_does_49 : decode cX16_does 49 = .ok (.lload_n 2, 1) := dk_32 (dk_at dksX16_does_2 1 rfl rfl)
theorem dX16_does_50 : decode cX16_does 50 = .ok (.lcmp, 1) := dk_148 (dk_at dksX16_does_2 2 rfl rfl)
theorem dX16_does_51 : decode cX16_does 51 = .ok (.ifCond .ge 18, 3) := dk_156 0 18 (dk_at dksX16_does_2 3 rfl rfl)
theorem dX16_does_54 : decode cX16_does 54 = .ok (.aload_n 1, 1) := dk_43 (dk_at dksX16_does_2 6 rfl rfl)
theorem dX16_does_55 : decode cX16_does 55 = .ok (.aload_n 0, 1) := dk_42 (dk_at dksX16_does_2 7 rfl rfl)
theorem dX16_does_56 : decode cX16_does 56 = .ok (.getfield 19, 3) := dk_180 0 19 (dk_at dksX16_does_2 8 rfl rfl)
theorem dX16_does_59 : decode cX16_does 59 = .ok (.aload_n 0, 1) := dk_42 (dk_at dksX16_does_2 11 rfl rfl)
theorem dX16_does_60 : decode cX16_does 60 = .ok (.getfield 7, 3) := dk_180 0 7 (dk_at dksX16_does_2 12 rfl rfl)
theorem dX16_does_63 : decode cX16_does 63 = .ok (.i2l, 1) := dk_133 (dk_at dksX16_does_2 15 rfl rfl)
theorem dX16_does_64 : decode cX16_does 64 = .ok (.lconst 1, 1) := dk_10 (dk_at dksX16_does_2 16 rfl rfl)
theorem dX16_does_65 : decode cX16_does 65 = .ok (.invokevirtual 28, 3) := dk_182 0 28 (dk_at dksX16_does_2 17 rfl rfl)
theorem dX16_does_68 : decode cX16_does 68 = .ok (.ireturn, 1) := dk_172 (dk_at dksX16_does_2 20 rfl rfl)
theorem dX16_does_69 : decode cX16_does 69 = .ok (.iconst 0, 1) := dk_3 (dk_at dksX16_does_2 21 rfl rfl)
theorem dX16_does_70 : decode cX16_does 70 = .ok (.ireturn, 1) := dk_172 (dk_at dksX16_does_2 22 rfl rfl)
abbrev cX16_loosely : ByteArray := prog_5_method_3_code
def yX16_loosely : MethodName := ⟨RX16, "loosely", "(LPennyJudge$Run;)V"⟩
def dkwX16_loosely_2 : List UInt8 := [43, 180, 0, 32, 42, 180, 0, 19, 42, 180, 0, 7, 135, 82, 177]
abbrev dktX16_loosely_2 : List UInt8 := dkwX16_loosely_2 ++ []
def dkwX16_loosely_1 : List UInt8 := [158, 0, 38, 167, 0, 21, 43, 180, 0, 32, 42, 180, 0, 19, 49, 42, 180, 0, 7, 135, 152, 156, 0, 17]
abbrev dktX16_loosely_1 : List UInt8 := dkwX16_loosely_1 ++ dktX16_loosely_2
def dkwX16_loosely_0 : List UInt8 := [42, 180, 0, 22, 154, 0, 24, 43, 180, 0, 32, 42, 180, 0, 19, 49, 42, 180, 0, 7, 135, 151]
abbrev dktX16_loosely_0 : List UInt8 := dkwX16_loosely_0 ++ dktX16_loosely_1
theorem dksX16_loosely_0 : cX16_loosely.data.toList.drop 0 = dktX16_loosely_0 := by decide +kernel
theorem dksX16_loosely_1 : cX16_loosely.data.toList.drop 22 = dktX16_loosely_1 := dk_seg dksX16_loosely_0 22 rfl rfl
theorem dksX16_loosely_2 : cX16_loosely.data.toList.drop 46 = dktX16_loosely_2 := dk_seg dksX16_loosely_1 24 rfl rfl
theorem dX16_loosely_0 : decode cX16_loosely 0 = .ok (.aload_n 0, 1) := dk_42 (dk_at dksX16_loosely_0 0 rfl rfl)
theorem dX16_loosely_1 : decode cX16_loosely 1 = .ok (.getfield 22, 3) := dk_180 0 22 (dk_at dksX16_loosely_0 1 rfl rfl)
theorem dX16_loosely_4 : decode cX16_loosely 4 = .ok (.ifCond .ne 24, 3) := dk_154 0 24 (dk_at dksX16_loosely_0 4 rfl rfl)
theorem dX16_loosely_7 : decode cX16_loosely 7 = .ok (.aload_n 1, 1) := dk_43 (dk_at dksX16_loosely_0 7 rfl rfl)
theorem dX16_loosely_8 : decode cX16_loosely 8 = .ok (.getfield 32, 3) := dk_180 0 32 (dk_at dksX16_loosely_0 8 rfl rfl)
theorem dX16_loosely_11 : decode cX16_loosely 11 = .ok (.aload_n 0, 1) := dk_42 (dk_at dksX16_loosely_0 11 rfl rfl)
theorem dX16_loosely_12 : decode cX16_loosely 12 = .ok (.getfield 19, 3) := dk_180 0 19 (dk_at dksX16_loosely_0 12 rfl rfl)
theorem dX16_loosely_15 : decode cX16_loosely 15 = .ok (.daload, 1) := dk_49 (dk_at dksX16_loosely_0 15 rfl rfl)
theorem dX16_loosely_16 : decode cX16_loosely 16 = .ok (.aload_n 0, 1) := dk_42 (dk_at dksX16_loosely_0 16 rfl rfl)
theorem dX16_loosely_17 : decode cX16_loosely 17 = .ok (.getfield 7, 3) := dk_180 0 7 (dk_at dksX16_loosely_0 17 rfl rfl)
theorem dX16_loosely_20 : decode cX16_loosely 20 = .ok (.i2d, 1) := dk_135 (dk_at dksX16_loosely_0 20 rfl rfl)
theorem dX16_loosely_21 : decode cX16_loosely 21 = .ok (.dcmp .l, 1) := dk_151 (dk_at dksX16_loosely_0 21 rfl rfl)
theorem dX16_loosely_22 : decode cX16_loosely 22 = .ok (.ifCond .le 38, 3) := dk_158 0 38 (dk_at dksX16_loosely_1 0 rfl rfl)
theorem dX16_loosely_25 : decode cX16_loosely 25 = .ok (.goto 21, 3) := dk_167 0 21 (dk_at dksX16_loosely_1 3 rfl rfl)
theorem dX16_loosely_28 : decode cX16_loosely 28 = .ok (.aload_n 1, 1) := dk_43 (dk_at dksX16_loosely_1 6 rfl rfl)
theorem dX16_loosely_29 : decode cX16_loosely 29 = .ok (.getfield 32, 3) := dk_180 0 32 (dk_at dksX16_loosely_1 7 rfl rfl)
theorem dX16_loosely_32 : decode cX16_loosely 32 = .ok (.aload_n 0, 1) := dk_42 (dk_at dksX16_loosely_1 10 rfl rfl)
theorem dX16_loosely_33 : decode cX16_loosely 33 = .ok (.getfield 19, 3) := dk_180 0 19 (dk_at dksX16_loosely_1 11 rfl rfl)
theorem dX16_loosely_36 : decode cX16_loosely 36 = .ok (.daload, 1) := dk_49 (dk_at dksX16_loosely_1 14 rfl rfl)
theorem dX16_loosely_37 : decode cX16_loosely 37 = .ok (.aload_n 0, 1) := dk_42 (dk_at dksX16_loosely_1 15 rfl rfl)
theorem dX16_loosely_38 : decode cX16_loosely 38 = .ok (.getfield 7, 3) := dk_180 0 7 (dk_at dksX16_loosely_1 16 rfl rfl)
theorem dX16_loosely_41 : decode cX16_loosely 41 = .ok (.i2d, 1) := dk_135 (dk_at dksX16_loosely_1 19 rfl rfl)
theorem dX16_loosely_42 : decode cX16_loosely 42 = .ok (.dcmp .g, 1) := dk_152 (dk_at dksX16_loosely_1 20 rfl rfl)
theorem dX16_loosely_43 : decode cX16_loosely 43 = .ok (.ifCond .ge 17, 3) := dk_156 0 17 (dk_at dksX16_loosely_1 21 rfl rfl)
theorem dX16_loosely_46 : decode cX16_loosely 46 = .ok (.aload_n 1, 1) := dk_43 (dk_at dksX16_loosely_2 0 rfl rfl)
theorem dX16_loosely_47 : decode cX16_loosely 47 = .ok (.getfield 32, 3) := dk_180 0 32 (dk_at dksX16_loosely_2 1 rfl rfl)
theorem dX16_loosely_50 : decode cX16_loosely 50 = .ok (.aload_n 0, 1) := dk_42 (dk_at dksX16_loosely_2 4 rfl rfl)
theorem dX16_loosely_51 : decode cX16_loosely 51 = .ok (.getfield 19, 3) := dk_180 0 19 (dk_at dksX16_loosely_2 5 rfl rfl)
theorem dX16_loosely_54 : decode cX16_loosely 54 = .ok (.aload_n 0, 1) := dk_42 (dk_at dksX16_loosely_2 8 rfl rfl)
theorem dX16_loosely_55 : decode cX16_loosely 55 = .ok (.getfield 7, 3) := dk_180 0 7 (dk_at dksX16_loosely_2 9 rfl rfl)
theorem dX16_loosely_58 : decode cX16_loosely 58 = .ok (.i2d, 1) := dk_135 (dk_at dksX16_loosely_2 12 rfl rfl)
theorem dX16_loosely_59 : decode cX16_loosely 59 = .ok (.dastore, 1) := dk_82 (dk_at dksX16_loosely_2 13 rfl rfl)
theorem dX16_loosely_60 : decode cX16_loosely 60 = .ok (.return_, 1) := dk_177 (dk_at dksX16_loosely_2 14 rfl rfl)
theorem q73 : (Jvm.Cond.initialized "PennyJudge$Cap") ∈ lw_all := lw_g (lw_at lw_m1 16 rfl) rfl
theorem q115 : (Jvm.Cond.fieldLink "PennyJudge$Cap" (25 : Nat) "PennyJudge$Run" "num" "[J") ∈ lw_all := lw_g (lw_at lw_m1 58 rfl) rfl
theorem q123 : (Jvm.Cond.fieldLink "PennyJudge$Cap" (13 : Nat) "PennyJudge$Run" "den" "[J") ∈ lw_all := lw_g (lw_at lw_m1 66 rfl) rfl
theorem q180 : (Jvm.Cond.fieldLink "PennyJudge$Cap" (32 : Nat) "PennyJudge$Run" "value" "[D") ∈ lw_all := lw_g (lw_at lw_m1 123 rfl) rfl
theorem q429 : (Jvm.Cond.fieldLink "PennyJudge$Cap" (19 : Nat) "PennyJudge$Cap" "s" "I") ∈ lw_all := lw_g (lw_at lw_m2 132 rfl) rfl
theorem q430 : (Jvm.Cond.sameField "PennyJudge$Cap" "PennyJudge$Act" "s" "I") ∈ lw_all := lw_g (lw_at lw_m2 133 rfl) rfl
theorem q459 : (Jvm.Cond.fieldLink "PennyJudge$Cap" (22 : Nat) "PennyJudge$Cap" "t" "I") ∈ lw_all := lw_g (lw_at lw_m2 162 rfl) rfl
theorem q460 : (Jvm.Cond.sameField "PennyJudge$Cap" "PennyJudge$Act" "t" "I") ∈ lw_all := lw_g (lw_at lw_m2 163 rfl) rfl
theorem q473 : (Jvm.Cond.fieldLink "PennyJudge$Cap" (7 : Nat) "PennyJudge$Cap" "v" "I") ∈ lw_all := lw_g (lw_at lw_m2 176 rfl) rfl
theorem q474 : (Jvm.Cond.sameField "PennyJudge$Cap" "PennyJudge$Act" "v" "I") ∈ lw_all := lw_g (lw_at lw_m2 177 rfl) rfl
theorem q592 : (Jvm.Cond.instantiable "PennyJudge$Cap" (4 : Nat)) ∈ lw_all := lw_g (lw_at lw_m3 55 rfl) rfl
theorem q594 : (Jvm.Cond.instanceMethod ({ cls := "PennyJudge$Cap", name := "<init>", desc := "(IIII)V" } : Jvm.MethodName)) ∈ lw_all := lw_g (lw_at lw_m3 57 rfl) rfl
theorem q595 : (Jvm.Cond.code ({ cls := "PennyJudge$Cap", name := "<init>", desc := "(IIII)V" } : Jvm.MethodName) prog_5_method_1_code (5 : Nat) (Option.none : Option Jvm.ClassFile.FieldType)) ∈ lw_all := lw_g (lw_at lw_m3 58 rfl) rfl
theorem q596 : (Jvm.Cond.methodLink "PennyJudge$Cap" (1 : Nat) ({ cls := "PennyJudge$Act", name := "<init>", desc := "(IIII)V" } : Jvm.MethodName)) ∈ lw_all := lw_g (lw_at lw_m3 59 rfl) rfl
theorem q597 : (Jvm.Cond.laysFinal "PennyJudge$Cap" "PennyJudge$Act" "kind" "I") ∈ lw_all := lw_g (lw_at lw_m3 60 rfl) rfl
theorem q598 : (Jvm.Cond.laysFinal "PennyJudge$Cap" "PennyJudge$Act" "s" "I") ∈ lw_all := lw_g (lw_at lw_m3 61 rfl) rfl
theorem q599 : (Jvm.Cond.lays "PennyJudge$Cap" "PennyJudge$Act" "t" "I") ∈ lw_all := lw_g (lw_at lw_m3 62 rfl) rfl
theorem q600 : (Jvm.Cond.lays "PennyJudge$Cap" "PennyJudge$Act" "v" "I") ∈ lw_all := lw_g (lw_at lw_m3 63 rfl) rfl
theorem q601 : (Jvm.Cond.superclass "PennyJudge$Cap" "PennyJudge$Act") ∈ lw_all := lw_g (lw_at lw_m3 64 rfl) rfl
theorem q680 : (Jvm.Cond.selects "PennyJudge$Cap" ({ cls := "PennyJudge$Done", name := "does", desc := "(LPennyJudge$Run;)I" } : Jvm.MethodName) ({ cls := "PennyJudge$Cap", name := "does", desc := "(LPennyJudge$Run;)I" } : Jvm.MethodName)) ∈ lw_all := lw_g (lw_at lw_m3 143 rfl) rfl
theorem q681 : (Jvm.Cond.instanceMethod ({ cls := "PennyJudge$Cap", name := "does", desc := "(LPennyJudge$Run;)I" } : Jvm.MethodName)) ∈ lw_all := lw_g (lw_at lw_m3 144 rfl) rfl
theorem q682 : (Jvm.Cond.code ({ cls := "PennyJudge$Cap", name := "does", desc := "(LPennyJudge$Run;)I" } : Jvm.MethodName) prog_5_method_2_code (4 : Nat) (Option.some Jvm.ClassFile.FieldType.int)) ∈ lw_all := lw_g (lw_at lw_m3 145 rfl) rfl
theorem q683 : (Jvm.Cond.methodLink "PennyJudge$Cap" (28 : Nat) ({ cls := "PennyJudge$Run", name := "put", desc := "(IJJ)I" } : Jvm.MethodName)) ∈ lw_all := lw_g (lw_at lw_m3 146 rfl) rfl
theorem q837 : (Jvm.Cond.selects "PennyJudge$Cap" ({ cls := "PennyJudge$Done", name := "loosely", desc := "(LPennyJudge$Run;)V" } : Jvm.MethodName) ({ cls := "PennyJudge$Cap", name := "loosely", desc := "(LPennyJudge$Run;)V" } : Jvm.MethodName)) ∈ lw_all := lw_g (lw_at lw_m4 60 rfl) rfl
theorem q838 : (Jvm.Cond.instanceMethod ({ cls := "PennyJudge$Cap", name := "loosely", desc := "(LPennyJudge$Run;)V" } : Jvm.MethodName)) ∈ lw_all := lw_g (lw_at lw_m4 61 rfl) rfl
theorem q839 : (Jvm.Cond.code ({ cls := "PennyJudge$Cap", name := "loosely", desc := "(LPennyJudge$Run;)V" } : Jvm.MethodName) prog_5_method_3_code (2 : Nat) (Option.none : Option Jvm.ClassFile.FieldType)) ∈ lw_all := lw_g (lw_at lw_m4 62 rfl) rfl
theorem q958 : (Jvm.Cond.selects "PennyJudge$Cap" ({ cls := "PennyJudge$Act", name := "choice", desc := "()I" } : Jvm.MethodName) ({ cls := "PennyJudge$Act", name := "choice", desc := "()I" } : Jvm.MethodName)) ∈ lw_all := lw_g (lw_at lw_m4 181 rfl) rfl
theorem q983 : (Jvm.Cond.selects "PennyJudge$Cap" ({ cls := "PennyJudge$Act", name := "choices", desc := "()I" } : Jvm.MethodName) ({ cls := "PennyJudge$Act", name := "choices", desc := "()I" } : Jvm.MethodName)) ∈ lw_all := lw_g (lw_at lw_m4 206 rfl) rfl
theorem q1003 : (Jvm.Cond.selects "PennyJudge$Cap" ({ cls := "PennyJudge$Act", name := "choose", desc := "(I)V" } : Jvm.MethodName) ({ cls := "PennyJudge$Act", name := "choose", desc := "(I)V" } : Jvm.MethodName)) ∈ lw_all := lw_g (lw_at lw_m4 226 rfl) rfl
theorem q1920 : (Jvm.Cond.castable "PennyJudge$Cap" "PennyJudge$Act") ∈ lw_tbl := lw_at lw_m8 183 rfl
theorem in_X16 : ∀ w ∈ wsX160, w ∈ lw_all := lw_in wsX160 [597, 598, 599, 600] (by decide +kernel) (by decide +kernel)

/-! PennyJudge$Book -/
set_option maxRecDepth 100000
def RX17 : String := "PennyJudge$Book"
def TX17 : u_T := fun k => match k with
  | 0 => ("PennyJudge$Act", "kind", "I", true)
  | 1 => ("PennyJudge$Act", "s", "I", true)
  | 2 => ("PennyJudge$Act", "t", "I", false)
  | _ => ("PennyJudge$Act", "v", "I", false)
def tyX17 : Nat → FieldType := fun k => match k with
  | 0 => .int
  | 1 => .int
  | 2 => .int
  | _ => .int
abbrev wsX170 : List Cond := u_ws RX17 TX17 4
theorem nmX17 : ∀ a, a < 4 → ∀ b, b < 4 → a ≠ b → (TX17 a).2.1 ≠ (TX17 b).2.1 := by decide +kernel
theorem tyX17_ok : ∀ k, k < 4 → parseFieldDescriptor (TX17 k).2.2.1 = some (tyX17 k) := by decide +kernel
abbrev cX17_init : ByteArray := prog_4_method_1_code
def yX17_init : MethodName := ⟨RX17, "<init>", "(IIII)V"⟩
def dkwX17_init_0 : List UInt8 := [42, 27, 28, 29, 21, 4, 183, 0, 3, 177]
abbrev dktX17_init_0 : List UInt8 := dkwX17_init_0 ++ []
theorem dksX17_init_0 : cX17_init.data.toList.drop 0 = dktX17_init_0 := by decide +kernel
theorem dX17_init_0 : decode cX17_init 0 = .ok (.aload_n 0, 1) := dk_42 (dk_at dksX17_init_0 0 rfl rfl)
theorem dX17_init_1 : decode cX17_init 1 = .ok (.iload_n 1, 1) := dk_27 (dk_at dksX17_init_0 1 rfl rfl)
theorem dX17_init_2 : decode cX17_init 2 = .ok (.iload_n 2, 1) := dk_28 (dk_at dksX17_init_0 2 rfl rfl)
theorem dX17_init_3 : decode cX17_init 3 = .ok (.iload_n 3, 1) := dk_29 (dk_at dksX17_init_0 3 rfl rfl)
theorem dX17_init_4 : decode cX17_init 4 = .ok (.iload 4, 2) := dk_21 4 (dk_at dksX17_init_0 4 rfl rfl)
theorem dX17_init_6 : decode cX17_init 6 = .ok (.invokespecial 3, 3) := dk_183 0 3 (dk_at dksX17_init_0 6 rfl rfl)
theorem dX17_init_9 : decode cX17_init 9 = .ok (.return_, 1) := dk_177 (dk_at dksX17_init_0 9 rfl rfl)
abbrev cX17_does : ByteArray := prog_4_method_2_code
def yX17_does : MethodName := ⟨RX17, "does", "(LPennyJudge$Run;)I"⟩
def dkwX17_does_3 : List UInt8 := [4, 96, 181, 0, 38, 3, 172]
abbrev dktX17_does_3 : List UInt8 := dkwX17_does_3 ++ []
def dkwX17_does_2 : List UInt8 := [180, 0, 9, 47, 117, 97, 80, 43, 180, 0, 34, 42, 180, 0, 9, 51, 153, 0, 13, 43, 89, 180, 0, 38]
abbrev dktX17_does_2 : List UInt8 := dkwX17_does_2 ++ dktX17_does_3
def dkwX17_does_1 : List UInt8 := [42, 180, 0, 28, 154, 0, 15, 43, 180, 0, 31, 42, 180, 0, 9, 47, 167, 0, 13, 43, 180, 0, 31, 42]
abbrev dktX17_does_1 : List UInt8 := dkwX17_does_1 ++ dktX17_does_2
def dkwX17_does_0 : List UInt8 := [43, 42, 180, 0, 9, 182, 0, 15, 154, 0, 6, 16, 251, 172, 43, 180, 0, 21, 42, 180, 0, 25, 92, 47]
abbrev dktX17_does_0 : List UInt8 := dkwX17_does_0 ++ dktX17_does_1
theorem dksX17_does_0 : cX17_does.data.toList.drop 0 = dktX17_does_0 := by decide +kernel
theorem dksX17_does_1 : cX17_does.data.toList.drop 24 = dktX17_does_1 := dk_seg dksX17_does_0 24 rfl rfl
theorem dksX17_does_2 : cX17_does.data.toList.drop 48 = dktX17_does_2 := dk_seg dksX17_does_1 24 rfl rfl
theorem dksX17_does_3 : cX17_does.data.toList.drop 72 = dktX17_does_3 := dk_seg dksX17_does_2 24 rfl rfl
theorem dX17_does_0 : decode cX17_does 0 = .ok (.aload_n 1, 1) := dk_43 (dk_at dksX17_does_0 0 rfl rfl)
theorem dX17_does_1 : decode cX17_does 1 = .ok (.aload_n 0, 1) := dk_42 (dk_at dksX17_does_0 1 rfl rfl)
theorem dX17_does_2 : decode cX17_does 2 = .ok (.getfield 9, 3) := dk_180 0 9 (dk_at dksX17_does_0 2 rfl rfl)
theorem dX17_does_5 : decode cX17_does 5 = .ok (.invokevirtual 15, 3) := dk_182 0 15 (dk_at dksX17_does_0 5 rfl rfl)
theorem dX17_does_8 : decode cX17_does 8 = .ok (.ifCond .ne 6, 3) := dk_154 0 6 (dk_at dksX17_does_0 8 rfl rfl)
theorem dX17_does_11 : decode cX17_does 11 = .ok (.bipush (-5), 2) := dk_16 251 (dk_at dksX17_does_0 11 rfl rfl)
theorem dX17_does_13 : decode cX17_does 13 = .ok (.ireturn, 1) := dk_172 (dk_at dksX17_does_0 13 rfl rfl)
theorem dX17_does_14 : decode cX17_does 14 = .ok (.aload_n 1, 1) := dk_43 (dk_at dksX17_does_0 14 rfl rfl)
theorem dX17_does_15 : decode cX17_does 15 = .ok (.getfield 21, 3) := dk_180 0 21 (dk_at dksX17_does_0 15 rfl rfl)
theorem dX17_does_18 : decode cX17_does 18 = .ok (.aload_n 0, 1) := dk_42 (dk_at dksX17_does_0 18 rfl rfl)
theorem dX17_does_19 : decode cX17_does 19 = .ok (.getfield 25, 3) := dk_180 0 25 (dk_at dksX17_does_0 19 rfl rfl)
theorem dX17_does_22 : decode cX17_does 22 = .ok (.dup2, 1) := dk_92 (dk_at dksX17_does_0 22 rfl rfl)
theorem dX17_does_23 : decode cX17_does 23 = .ok (.laload, 1) := dk_47 (dk_at dksX17_does_0 23 rfl rfl)
theorem dX17_does_24 : decode cX17_does 24 = .ok (.aload_n 0, 1) := dk_42 (dk_at dksX17_does_1 0 rfl rfl)
theorem dX17_does_25 : decode cX17_does 25 = .ok (.getfield 28, 3) := dk_180 0 28 (dk_at dksX17_does_1 1 rfl rfl)
theorem dX17_does_28 : decode cX17_does 28 = .ok (.ifCond .ne 15, 3) := dk_154 0 15 (dk_at dksX17_does_1 4 rfl rfl)
theorem dX17_does_31 : decode cX17_does 31 = .ok (.aload_n 1, 1) := dk_43 (dk_at dksX17_does_1 7 rfl rfl)
theorem dX17_does_32 : decode cX17_does 32 = .ok (.getfield 31, 3) := dk_180 0 31 (dk_at dksX17_does_1 8 rfl rfl)
theorem dX17_does_35 : decode cX17_does 35 = .ok (.aload_n 0, 1) := dk_42 (dk_at dksX17_does_1 11 rfl rfl)
theorem dX17_does_36 : decode cX17_does 36 = .ok (.getfield 9, 3) := dk_180 0 9 (dk_at dksX17_does_1 12 rfl rfl)
theorem dX17_does_39 : decode cX17_does 39 = .ok (.laload, 1) := dk_47 (dk_at dksX17_does_1 15 rfl rfl)
theorem dX17_does_40 : decode cX17_does 40 = .ok (.goto 13, 3) := dk_167 0 13 (dk_at dksX17_does_1 16 rfl rfl)
theorem dX17_does_43 : decode cX17_does 43 = .ok (.aload_n 1, 1) := dk_43 (dk_at dksX17_does_1 19 rfl rfl)
theorem dX17_does_44 : decode cX17_does 44 = .ok (.getfield 31, 3) := dk_180 0 31 (dk_at dksX17_does_1 20 rfl rfl)
theorem dX17_does_47 : decode cX17_does 47 = .ok (.aload_n 0, 1) := dk_42 (dk_at dksX17_does_1 23 rfl rfl)
theorem dX17_does_48 : decode cX17_does 48 = .ok (.getfield 9, 3) := dk_180 0 9 (dk_at dksX17_does_2 0 rfl rfl)
theorem dX17_does_51 : decode cX17_does 51 = .ok (.laload, 1) := dk_47 (dk_at dksX17_does_2 3 rfl rfl)
theorem dX17_does_52 : decode cX17_does 52 = .ok (.lneg, 1) := dk_117 (dk_at dksX17_does_2 4 rfl rfl)
theorem dX17_does_53 : decode cX17_does 53 = .ok (.ladd, 1) := dk_97 (dk_at dksX17_does_2 5 rfl rfl)
theorem dX17_does_54 : decode cX17_does 54 = .ok (.lastore, 1) := dk_80 (dk_at dksX17_does_2 6 rfl rfl)
theorem dX17_does_55 : decode cX17_does 55 = .ok (.aload_n 1, 1) := dk_43 (dk_at dksX17_does_2 7 rfl rfl)
theorem dX17_does_56 : decode cX17_does 56 = .ok (.getfield 34, 3) := dk_180 0 34 (dk_at dksX17_does_2 8 rfl rfl)
theorem dX17_does_59 : decode cX17_does 59 = .ok (.aload_n 0, 1) := dk_42 (dk_at dksX17_does_2 11 rfl rfl)
theorem dX17_does_60 : decode cX17_does 60 = .ok (.getfield 9, 3) := dk_180 0 9 (dk_at dksX17_does_2 12 rfl rfl)
theorem dX17_does_63 : decode cX17_does 63 = .ok (.baload, 1) := dk_51 (dk_at dksX17_does_2 15 rfl rfl)
theorem dX17_does_64 : decode cX17_does 64 = .ok (.ifCond .eq 13, 3) := dk_153 0 13 (dk_at dksX17_does_2 16 rfl rfl)
theorem dX17_does_67 : decode cX17_does 67 = .ok (.aload_n 1, 1) := dk_43 (dk_at dksX17_does_2 19 rfl rfl)
theorem dX17_does_68 : decode cX17_does 68 = .ok (.dup, 1) := dk_89 (dk_at dksX17_does_2 20 rfl rfl)
theorem dX17_does_69 : decode cX17_does 69 = .ok (.getfield 38, 3) := dk_180 0 38 (dk_at dksX17_does_2 21 rfl rfl)
theorem dX17_does_72 : decode cX17_does 72 = .ok (.iconst 1, 1) := dk_4 (dk_at dksX17_does_3 0 rfl rfl)
theorem dX17_does_73 : decode cX17_does 73 = .ok (.iadd, 1) := dk_96 (dk_at dksX17_does_3 1 rfl rfl)
theorem dX17_does_74 : decode cX17_does 74 = .ok (.putfield 38, 3) := dk_181 0 38 (dk_at dksX17_does_3 2 rfl rfl)
theorem dX17_does_77 : decode cX17_does 77 = .ok (.iconst 0, 1) := dk_3 (dk_at dksX17_does_3 5 rfl rfl)
theorem dX17_does_78 : decode cX17_does 78 = .ok (.ireturn, 1) := dk_172 (dk_at dksX17_does_3 6 rfl rfl)
abbrev cX17_loosely : ByteArray := prog_4_method_3_code
def yX17_loosely : MethodName := ⟨RX17, "loosely", "(LPennyJudge$Run;)V"⟩
def dkwX17_loosely_1 : List UInt8 := [180, 0, 28, 154, 0, 7, 32, 167, 0, 5, 32, 117, 97, 80, 177]
abbrev dktX17_loosely_1 : List UInt8 := dkwX17_loosely_1 ++ []
def dkwX17_loosely_0 : List UInt8 := [43, 180, 0, 41, 42, 180, 0, 9, 49, 143, 65, 43, 180, 0, 21, 42, 180, 0, 25, 92, 47, 42]
abbrev dktX17_loosely_0 : List UInt8 := dkwX17_loosely_0 ++ dktX17_loosely_1
theorem dksX17_loosely_0 : cX17_loosely.data.toList.drop 0 = dktX17_loosely_0 := by decide +kernel
theorem dksX17_loosely_1 : cX17_loosely.data.toList.drop 22 = dktX17_loosely_1 := dk_seg dksX17_loosely_0 22 rfl rfl
theorem dX17_loosely_0 : decode cX17_loosely 0 = .ok (.aload_n 1, 1) := dk_43 (dk_at dksX17_loosely_0 0 rfl rfl)
theorem dX17_loosely_1 : decode cX17_loosely 1 = .ok (.getfield 41, 3) := dk_180 0 41 (dk_at dksX17_loosely_0 1 rfl rfl)
theorem dX17_loosely_4 : decode cX17_loosely 4 = .ok (.aload_n 0, 1) := dk_42 (dk_at dksX17_loosely_0 4 rfl rfl)
theorem dX17_loosely_5 : decode cX17_loosely 5 = .ok (.getfield 9, 3) := dk_180 0 9 (dk_at dksX17_loosely_0 5 rfl rfl)
theorem dX17_loosely_8 : decode cX17_loosely 8 = .ok (.daload, 1) := dk_49 (dk_at dksX17_loosely_0 8 rfl rfl)
theorem dX17_loosely_9 : decode cX17_loosely 9 = .ok (.d2l, 1) := dk_143 (dk_at dksX17_loosely_0 9 rfl rfl)
theorem dX17_loosely_10 : decode cX17_loosely 10 = .ok (.lstore_n 2, 1) := dk_65 (dk_at dksX17_loosely_0 10 rfl rfl)
theorem dX17_loosely_11 : decode cX17_loosely 11 = .ok (.aload_n 1, 1) := dk_43 (dk_at dksX17_loosely_0 11 rfl rfl)
theorem dX17_loosely_12 : decode cX17_loosely 12 = .ok (.getfield 21, 3) := dk_180 0 21 (dk_at dksX17_loosely_0 12 rfl rfl)
theorem dX17_loosely_15 : decode cX17_loosely 15 = .ok (.aload_n 0, 1) := dk_42 (dk_at dksX17_loosely_0 15 rfl rfl)
theorem dX17_loosely_16 : decode cX17_loosely 16 = .ok (.getfield 25, 3) := dk_180 0 25 (dk_at dksX17_loosely_0 16 rfl rfl)
theorem dX17_loosely_19 : decode cX17_loosely 19 = .ok (.dup2, 1) := dk_92 (dk_at dksX17_loosely_0 19 rfl rfl)
theorem dX17_loosely_20 : decode cX17_loosely 20 = .ok (.laload, 1) := dk_47 (dk_at dksX17_loosely_0 20 rfl rfl)
theorem dX17_loosely_21 : decode cX17_loosely 21 = .ok (.aload_n 0, 1) := dk_42 (dk_at dksX17_loosely_0 21 rfl rfl)
theorem dX17_loosely_22 : decode cX17_loosely 22 = .ok (.getfield 28, 3) := dk_180 0 28 (dk_at dksX17_loosely_1 0 rfl rfl)
theorem dX17_loosely_25 : decode cX17_loosely 25 = .ok (.ifCond .ne 7, 3) := dk_154 0 7 (dk_at dksX17_loosely_1 3 rfl rfl)
theorem dX17_loosely_28 : decode cX17_loosely 28 = .ok (.lload_n 2, 1) := dk_32 (dk_at dksX17_loosely_1 6 rfl rfl)
theorem dX17_loosely_29 : decode cX17_loosely 29 = .ok (.goto 5, 3) := dk_167 0 5 (dk_at dksX17_loosely_1 7 rfl rfl)
theorem dX17_loosely_32 : decode cX17_loosely 32 = .ok (.lload_n 2, 1) := dk_32 (dk_at dksX17_loosely_1 10 rfl rfl)
theorem dX17_loosely_33 : decode cX17_loosely 33 = .ok (.lneg, 1) := dk_117 (dk_at dksX17_loosely_1 11 rfl rfl)
theorem dX17_loosely_34 : decode cX17_loosely 34 = .ok (.ladd, 1) := dk_97 (dk_at dksX17_loosely_1 12 rfl rfl)
theorem dX17_loosely_35 : decode cX17_loosely 35 = .ok (.lastore, 1) := dk_80 (dk_at dksX17_loosely_1 13 rfl rfl)
theorem dX17_loosely_36 : decode cX17_loosely 36 = .ok (.return_, 1) := dk_177 (dk_at dksX17_loosely_1 14 rfl rfl)
theorem q74 : (Jvm.Cond.initialized "PennyJudge$Book") ∈ lw_all := lw_g (lw_at lw_m1 17 rfl) rfl
theorem q116 : (Jvm.Cond.fieldLink "PennyJudge$Book" (31 : Nat) "PennyJudge$Run" "num" "[J") ∈ lw_all := lw_g (lw_at lw_m1 59 rfl) rfl
theorem q134 : (Jvm.Cond.fieldLink "PennyJudge$Book" (34 : Nat) "PennyJudge$Run" "shown" "[Z") ∈ lw_all := lw_g (lw_at lw_m1 77 rfl) rfl
theorem q169 : (Jvm.Cond.fieldLink "PennyJudge$Book" (21 : Nat) "PennyJudge$Run" "accounts" "[J") ∈ lw_all := lw_g (lw_at lw_m1 112 rfl) rfl
theorem q171 : (Jvm.Cond.fieldLink "PennyJudge$Book" (38 : Nat) "PennyJudge$Run" "leaks" "I") ∈ lw_all := lw_g (lw_at lw_m1 114 rfl) rfl
theorem q176 : (Jvm.Cond.fieldLink "PennyJudge$Book" (41 : Nat) "PennyJudge$Run" "value" "[D") ∈ lw_all := lw_g (lw_at lw_m1 119 rfl) rfl
theorem q421 : (Jvm.Cond.fieldLink "PennyJudge$Book" (9 : Nat) "PennyJudge$Book" "s" "I") ∈ lw_all := lw_g (lw_at lw_m2 124 rfl) rfl
theorem q422 : (Jvm.Cond.sameField "PennyJudge$Book" "PennyJudge$Act" "s" "I") ∈ lw_all := lw_g (lw_at lw_m2 125 rfl) rfl
theorem q461 : (Jvm.Cond.fieldLink "PennyJudge$Book" (25 : Nat) "PennyJudge$Book" "t" "I") ∈ lw_all := lw_g (lw_at lw_m2 164 rfl) rfl
theorem q462 : (Jvm.Cond.sameField "PennyJudge$Book" "PennyJudge$Act" "t" "I") ∈ lw_all := lw_g (lw_at lw_m2 165 rfl) rfl
theorem q481 : (Jvm.Cond.fieldLink "PennyJudge$Book" (28 : Nat) "PennyJudge$Book" "v" "I") ∈ lw_all := lw_g (lw_at lw_m2 184 rfl) rfl
theorem q482 : (Jvm.Cond.sameField "PennyJudge$Book" "PennyJudge$Act" "v" "I") ∈ lw_all := lw_g (lw_at lw_m2 185 rfl) rfl
theorem q603 : (Jvm.Cond.instantiable "PennyJudge$Book" (4 : Nat)) ∈ lw_all := lw_g (lw_at lw_m3 66 rfl) rfl
theorem q605 : (Jvm.Cond.instanceMethod ({ cls := "PennyJudge$Book", name := "<init>", desc := "(IIII)V" } : Jvm.MethodName)) ∈ lw_all := lw_g (lw_at lw_m3 68 rfl) rfl
theorem q606 : (Jvm.Cond.code ({ cls := "PennyJudge$Book", name := "<init>", desc := "(IIII)V" } : Jvm.MethodName) prog_4_method_1_code (5 : Nat) (Option.none : Option Jvm.ClassFile.FieldType)) ∈ lw_all := lw_g (lw_at lw_m3 69 rfl) rfl
theorem q607 : (Jvm.Cond.methodLink "PennyJudge$Book" (3 : Nat) ({ cls := "PennyJudge$Act", name := "<init>", desc := "(IIII)V" } : Jvm.MethodName)) ∈ lw_all := lw_g (lw_at lw_m3 70 rfl) rfl
theorem q608 : (Jvm.Cond.laysFinal "PennyJudge$Book" "PennyJudge$Act" "kind" "I") ∈ lw_all := lw_g (lw_at lw_m3 71 rfl) rfl
theorem q609 : (Jvm.Cond.laysFinal "PennyJudge$Book" "PennyJudge$Act" "s" "I") ∈ lw_all := lw_g (lw_at lw_m3 72 rfl) rfl
theorem q610 : (Jvm.Cond.lays "PennyJudge$Book" "PennyJudge$Act" "t" "I") ∈ lw_all := lw_g (lw_at lw_m3 73 rfl) rfl
theorem q611 : (Jvm.Cond.lays "PennyJudge$Book" "PennyJudge$Act" "v" "I") ∈ lw_all := lw_g (lw_at lw_m3 74 rfl) rfl
theorem q612 : (Jvm.Cond.superclass "PennyJudge$Book" "PennyJudge$Act") ∈ lw_all := lw_g (lw_at lw_m3 75 rfl) rfl
theorem q673 : (Jvm.Cond.selects "PennyJudge$Book" ({ cls := "PennyJudge$Done", name := "does", desc := "(LPennyJudge$Run;)I" } : Jvm.MethodName) ({ cls := "PennyJudge$Book", name := "does", desc := "(LPennyJudge$Run;)I" } : Jvm.MethodName)) ∈ lw_all := lw_g (lw_at lw_m3 136 rfl) rfl
theorem q674 : (Jvm.Cond.instanceMethod ({ cls := "PennyJudge$Book", name := "does", desc := "(LPennyJudge$Run;)I" } : Jvm.MethodName)) ∈ lw_all := lw_g (lw_at lw_m3 137 rfl) rfl
theorem q675 : (Jvm.Cond.code ({ cls := "PennyJudge$Book", name := "does", desc := "(LPennyJudge$Run;)I" } : Jvm.MethodName) prog_4_method_2_code (2 : Nat) (Option.some Jvm.ClassFile.FieldType.int)) ∈ lw_all := lw_g (lw_at lw_m3 138 rfl) rfl
theorem q676 : (Jvm.Cond.methodLink "PennyJudge$Book" (15 : Nat) ({ cls := "PennyJudge$Run", name := "isWhole", desc := "(I)Z" } : Jvm.MethodName)) ∈ lw_all := lw_g (lw_at lw_m3 139 rfl) rfl
theorem q834 : (Jvm.Cond.selects "PennyJudge$Book" ({ cls := "PennyJudge$Done", name := "loosely", desc := "(LPennyJudge$Run;)V" } : Jvm.MethodName) ({ cls := "PennyJudge$Book", name := "loosely", desc := "(LPennyJudge$Run;)V" } : Jvm.MethodName)) ∈ lw_all := lw_g (lw_at lw_m4 57 rfl) rfl
theorem q835 : (Jvm.Cond.instanceMethod ({ cls := "PennyJudge$Book", name := "loosely", desc := "(LPennyJudge$Run;)V" } : Jvm.MethodName)) ∈ lw_all := lw_g (lw_at lw_m4 58 rfl) rfl
theorem q836 : (Jvm.Cond.code ({ cls := "PennyJudge$Book", name := "loosely", desc := "(LPennyJudge$Run;)V" } : Jvm.MethodName) prog_4_method_3_code (4 : Nat) (Option.none : Option Jvm.ClassFile.FieldType)) ∈ lw_all := lw_g (lw_at lw_m4 59 rfl) rfl
theorem q957 : (Jvm.Cond.selects "PennyJudge$Book" ({ cls := "PennyJudge$Act", name := "choice", desc := "()I" } : Jvm.MethodName) ({ cls := "PennyJudge$Act", name := "choice", desc := "()I" } : Jvm.MethodName)) ∈ lw_all := lw_g (lw_at lw_m4 180 rfl) rfl
theorem q982 : (Jvm.Cond.selects "PennyJudge$Book" ({ cls := "PennyJudge$Act", name := "choices", desc := "()I" } : Jvm.MethodName) ({ cls := "PennyJudge$Act", name := "choices", desc := "()I" } : Jvm.MethodName)) ∈ lw_all := lw_g (lw_at lw_m4 205 rfl) rfl
theorem q1002 : (Jvm.Cond.selects "PennyJudge$Book" ({ cls := "PennyJudge$Act", name := "choose", desc := "(I)V" } : Jvm.MethodName) ({ cls := "PennyJudge$Act", name := "choose", desc := "(I)V" } : Jvm.MethodName)) ∈ lw_all := lw_g (lw_at lw_m4 225 rfl) rfl
theorem q1921 : (Jvm.Cond.castable "PennyJudge$Book" "PennyJudge$Act") ∈ lw_tbl := lw_at lw_m8 184 rfl
theorem in_X17 : ∀ w ∈ wsX170, w ∈ lw_all := lw_in wsX170 [608, 609, 610, 611] (by decide +kernel) (by decide +kernel)

/-! PennyJudge$Show -/
set_option maxRecDepth 100000
def RX18 : String := "PennyJudge$Show"
def TX18 : u_T := fun k => match k with
  | 0 => ("PennyJudge$Act", "kind", "I", true)
  | 1 => ("PennyJudge$Act", "s", "I", true)
  | 2 => ("PennyJudge$Act", "t", "I", false)
  | _ => ("PennyJudge$Act", "v", "I", false)
def tyX18 : Nat → FieldType := fun k => match k with
  | 0 => .int
  | 1 => .int
  | 2 => .int
  | _ => .int
abbrev wsX180 : List Cond := u_ws RX18 TX18 4
theorem nmX18 : ∀ a, a < 4 → ∀ b, b < 4 → a ≠ b → (TX18 a).2.1 ≠ (TX18 b).2.1 := by decide +kernel
theorem tyX18_ok : ∀ k, k < 4 → parseFieldDescriptor (TX18 k).2.2.1 = some (tyX18 k) := by decide +kernel
abbrev cX18_init : ByteArray := prog_17_method_1_code
def yX18_init : MethodName := ⟨RX18, "<init>", "(IIII)V"⟩
def dkwX18_init_0 : List UInt8 := [42, 27, 28, 29, 21, 4, 183, 0, 1, 177]
abbrev dktX18_init_0 : List UInt8 := dkwX18_init_0 ++ []
theorem dksX18_init_0 : cX18_init.data.toList.drop 0 = dktX18_init_0 := by decide +kernel
theorem dX18_init_0 : decode cX18_init 0 = .ok (.aload_n 0, 1) := dk_42 (dk_at dksX18_init_0 0 rfl rfl)
theorem dX18_init_1 : decode cX18_init 1 = .ok (.iload_n 1, 1) := dk_27 (dk_at dksX18_init_0 1 rfl rfl)
theorem dX18_init_2 : decode cX18_init 2 = .ok (.iload_n 2, 1) := dk_28 (dk_at dksX18_init_0 2 rfl rfl)
theorem dX18_init_3 : decode cX18_init 3 = .ok (.iload_n 3, 1) := dk_29 (dk_at dksX18_init_0 3 rfl rfl)
theorem dX18_init_4 : decode cX18_init 4 = .ok (.iload 4, 2) := dk_21 4 (dk_at dksX18_init_0 4 rfl rfl)
theorem dX18_init_6 : decode cX18_init 6 = .ok (.invokespecial 1, 3) := dk_183 0 1 (dk_at dksX18_init_0 6 rfl rfl)
theorem dX18_init_9 : decode cX18_init 9 = .ok (.return_, 1) := dk_177 (dk_at dksX18_init_0 9 rfl rfl)
abbrev cX18_does : ByteArray := prog_17_method_4_code
def yX18_does : MethodName := ⟨RX18, "does", "(LPennyJudge$Run;)I"⟩
def dkwX18_does_1 : List UInt8 := [180, 0, 7, 184, 0, 28, 10, 182, 0, 34, 61, 28, 154, 0, 9, 42, 43, 4, 182, 0, 38, 28, 172]
abbrev dktX18_does_1 : List UInt8 := dkwX18_does_1 ++ []
def dkwX18_does_0 : List UInt8 := [43, 42, 180, 0, 13, 43, 180, 0, 16, 42, 180, 0, 22, 47, 43, 180, 0, 25, 42, 180, 0, 22, 47, 42]
abbrev dktX18_does_0 : List UInt8 := dkwX18_does_0 ++ dktX18_does_1
theorem dksX18_does_0 : cX18_does.data.toList.drop 0 = dktX18_does_0 := by decide +kernel
theorem dksX18_does_1 : cX18_does.data.toList.drop 24 = dktX18_does_1 := dk_seg dksX18_does_0 24 rfl rfl
theorem dX18_does_0 : decode cX18_does 0 = .ok (.aload_n 1, 1) := dk_43 (dk_at dksX18_does_0 0 rfl rfl)
theorem dX18_does_1 : decode cX18_does 1 = .ok (.aload_n 0, 1) := dk_42 (dk_at dksX18_does_0 1 rfl rfl)
theorem dX18_does_2 : decode cX18_does 2 = .ok (.getfield 13, 3) := dk_180 0 13 (dk_at dksX18_does_0 2 rfl rfl)
theorem dX18_does_5 : decode cX18_does 5 = .ok (.aload_n 1, 1) := dk_43 (dk_at dksX18_does_0 5 rfl rfl)
theorem dX18_does_6 : decode cX18_does 6 = .ok (.getfield 16, 3) := dk_180 0 16 (dk_at dksX18_does_0 6 rfl rfl)
theorem dX18_does_9 : decode cX18_does 9 = .ok (.aload_n 0, 1) := dk_42 (dk_at dksX18_does_0 9 rfl rfl)
theorem dX18_does_10 : decode cX18_does 10 = .ok (.getfield 22, 3) := dk_180 0 22 (dk_at dksX18_does_0 10 rfl rfl)
theorem dX18_does_13 : decode cX18_does 13 = .ok (.laload, 1) := dk_47 (dk_at dksX18_does_0 13 rfl rfl)
theorem dX18_does_14 : decode cX18_does 14 = .ok (.aload_n 1, 1) := dk_43 (dk_at dksX18_does_0 14 rfl rfl)
theorem dX18_does_15 : decode cX18_does 15 = .ok (.getfield 25, 3) := dk_180 0 25 (dk_at dksX18_does_0 15 rfl rfl)
theorem dX18_does_18 : decode cX18_does 18 = .ok (.aload_n 0, 1) := dk_42 (dk_at dksX18_does_0 18 rfl rfl)
theorem dX18_does_19 : decode cX18_does 19 = .ok (.getfield 22, 3) := dk_180 0 22 (dk_at dksX18_does_0 19 rfl rfl)
theorem dX18_does_22 : decode cX18_does 22 = .ok (.laload, 1) := dk_47 (dk_at dksX18_does_0 22 rfl rfl)
theorem dX18_does_23 : decode cX18_does 23 = .ok (.aload_n 0, 1) := dk_42 (dk_at dksX18_does_0 23 rfl rfl)
theorem dX18_does_24 : decode cX18_does 24 = .ok (.getfield 7, 3) := dk_180 0 7 (dk_at dksX18_does_1 0 rfl rfl)
theorem dX18_does_27 : decode cX18_does 27 = .ok (.invokestatic 28, 3) := dk_184 0 28 (dk_at dksX18_does_1 3 rfl rfl)
theorem dX18_does_30 : decode cX18_does 30 = .ok (.lconst 1, 1) := dk_10 (dk_at dksX18_does_1 6 rfl rfl)
theorem dX18_does_31 : decode cX18_does 31 = .ok (.invokevirtual 34, 3) := dk_182 0 34 (dk_at dksX18_does_1 7 rfl rfl)
theorem dX18_does_34 : decode cX18_does 34 = .ok (.istore_n 2, 1) := dk_61 (dk_at dksX18_does_1 10 rfl rfl)
theorem dX18_does_35 : decode cX18_does 35 = .ok (.iload_n 2, 1) := dk_28 (dk_at dksX18_does_1 11 rfl rfl)
theorem dX18_does_36 : decode cX18_does 36 = .ok (.ifCond .ne 9, 3) := dk_154 0 9 (dk_at dksX18_does_1 12 rfl rfl)
theorem dX18_does_39 : decode cX18_does 39 = .ok (.aload_n 0, 1) := dk_42 (dk_at dksX18_does_1 15 rfl rfl)
theorem dX18_does_40 : decode cX18_does 40 = .ok (.aload_n 1, 1) := dk_43 (dk_at dksX18_does_1 16 rfl rfl)
theorem dX18_does_41 : decode cX18_does 41 = .ok (.iconst 1, 1) := dk_4 (dk_at dksX18_does_1 17 rfl rfl)
theorem dX18_does_42 : decode cX18_does 42 = .ok (.invokevirtual 38, 3) := dk_182 0 38 (dk_at dksX18_does_1 18 rfl rfl)
theorem dX18_does_45 : decode cX18_does 45 = .ok (.iload_n 2, 1) := dk_28 (dk_at dksX18_does_1 21 rfl rfl)
theorem dX18_does_46 : decode cX18_does 46 = .ok (.ireturn, 1) := dk_172 (dk_at dksX18_does_1 22 rfl rfl)
abbrev cX18_loosely : ByteArray := prog_17_method_5_code
def yX18_loosely : MethodName := ⟨RX18, "loosely", "(LPennyJudge$Run;)V"⟩
def dkwX18_loosely_1 : List UInt8 := [184, 0, 46, 82, 177]
abbrev dktX18_loosely_1 : List UInt8 := dkwX18_loosely_1 ++ []
def dkwX18_loosely_0 : List UInt8 := [43, 180, 0, 42, 42, 180, 0, 13, 43, 180, 0, 42, 42, 180, 0, 22, 49, 4, 42, 180, 0, 7]
abbrev dktX18_loosely_0 : List UInt8 := dkwX18_loosely_0 ++ dktX18_loosely_1
theorem dksX18_loosely_0 : cX18_loosely.data.toList.drop 0 = dktX18_loosely_0 := by decide +kernel
theorem dksX18_loosely_1 : cX18_loosely.data.toList.drop 22 = dktX18_loosely_1 := dk_seg dksX18_loosely_0 22 rfl rfl
theorem dX18_loosely_0 : decode cX18_loosely 0 = .ok (.aload_n 1, 1) := dk_43 (dk_at dksX18_loosely_0 0 rfl rfl)
theorem dX18_loosely_1 : decode cX18_loosely 1 = .ok (.getfield 42, 3) := dk_180 0 42 (dk_at dksX18_loosely_0 1 rfl rfl)
theorem dX18_loosely_4 : decode cX18_loosely 4 = .ok (.aload_n 0, 1) := dk_42 (dk_at dksX18_loosely_0 4 rfl rfl)
theorem dX18_loosely_5 : decode cX18_loosely 5 = .ok (.getfield 13, 3) := dk_180 0 13 (dk_at dksX18_loosely_0 5 rfl rfl)
theorem dX18_loosely_8 : decode cX18_loosely 8 = .ok (.aload_n 1, 1) := dk_43 (dk_at dksX18_loosely_0 8 rfl rfl)
theorem dX18_loosely_9 : decode cX18_loosely 9 = .ok (.getfield 42, 3) := dk_180 0 42 (dk_at dksX18_loosely_0 9 rfl rfl)
theorem dX18_loosely_12 : decode cX18_loosely 12 = .ok (.aload_n 0, 1) := dk_42 (dk_at dksX18_loosely_0 12 rfl rfl)
theorem dX18_loosely_13 : decode cX18_loosely 13 = .ok (.getfield 22, 3) := dk_180 0 22 (dk_at dksX18_loosely_0 13 rfl rfl)
theorem dX18_loosely_16 : decode cX18_loosely 16 = .ok (.daload, 1) := dk_49 (dk_at dksX18_loosely_0 16 rfl rfl)
theorem dX18_loosely_17 : decode cX18_loosely 17 = .ok (.iconst 1, 1) := dk_4 (dk_at dksX18_loosely_0 17 rfl rfl)
theorem dX18_loosely_18 : decode cX18_loosely 18 = .ok (.aload_n 0, 1) := dk_42 (dk_at dksX18_loosely_0 18 rfl rfl)
theorem dX18_loosely_19 : decode cX18_loosely 19 = .ok (.getfield 7, 3) := dk_180 0 7 (dk_at dksX18_loosely_0 19 rfl rfl)
theorem dX18_loosely_22 : decode cX18_loosely 22 = .ok (.invokestatic 46, 3) := dk_184 0 46 (dk_at dksX18_loosely_1 0 rfl rfl)
theorem dX18_loosely_25 : decode cX18_loosely 25 = .ok (.dastore, 1) := dk_82 (dk_at dksX18_loosely_1 3 rfl rfl)
theorem dX18_loosely_26 : decode cX18_loosely 26 = .ok (.return_, 1) := dk_177 (dk_at dksX18_loosely_1 4 rfl rfl)
abbrev cX18_choice : ByteArray := prog_17_method_2_code
def yX18_choice : MethodName := ⟨RX18, "choice", "()I"⟩
theorem dX18_choice_0 : decode cX18_choice 0 = .ok (.aload_n 0, 1) := by decide +kernel
theorem dX18_choice_1 : decode cX18_choice 1 = .ok (.getfield 7, 3) := by decide +kernel
theorem dX18_choice_4 : decode cX18_choice 4 = .ok (.ireturn, 1) := by decide +kernel
abbrev cX18_choose : ByteArray := prog_17_method_3_code
def yX18_choose : MethodName := ⟨RX18, "choose", "(I)V"⟩
def dkwX18_choose_0 : List UInt8 := [42, 27, 181, 0, 7, 177]
abbrev dktX18_choose_0 : List UInt8 := dkwX18_choose_0 ++ []
theorem dksX18_choose_0 : cX18_choose.data.toList.drop 0 = dktX18_choose_0 := by decide +kernel
theorem dX18_choose_0 : decode cX18_choose 0 = .ok (.aload_n 0, 1) := dk_42 (dk_at dksX18_choose_0 0 rfl rfl)
theorem dX18_choose_1 : decode cX18_choose 1 = .ok (.iload_n 1, 1) := dk_27 (dk_at dksX18_choose_0 1 rfl rfl)
theorem dX18_choose_2 : decode cX18_choose 2 = .ok (.putfield 7, 3) := dk_181 0 7 (dk_at dksX18_choose_0 2 rfl rfl)
theorem dX18_choose_5 : decode cX18_choose 5 = .ok (.return_, 1) := dk_177 (dk_at dksX18_choose_0 5 rfl rfl)
theorem q75 : (Jvm.Cond.initialized "PennyJudge$Show") ∈ lw_all := lw_g (lw_at lw_m1 18 rfl) rfl
theorem q119 : (Jvm.Cond.fieldLink "PennyJudge$Show" (16 : Nat) "PennyJudge$Run" "num" "[J") ∈ lw_all := lw_g (lw_at lw_m1 62 rfl) rfl
theorem q129 : (Jvm.Cond.fieldLink "PennyJudge$Show" (25 : Nat) "PennyJudge$Run" "den" "[J") ∈ lw_all := lw_g (lw_at lw_m1 72 rfl) rfl
theorem q186 : (Jvm.Cond.fieldLink "PennyJudge$Show" (42 : Nat) "PennyJudge$Run" "value" "[D") ∈ lw_all := lw_g (lw_at lw_m1 129 rfl) rfl
theorem q441 : (Jvm.Cond.fieldLink "PennyJudge$Show" (13 : Nat) "PennyJudge$Show" "s" "I") ∈ lw_all := lw_g (lw_at lw_m2 144 rfl) rfl
theorem q442 : (Jvm.Cond.sameField "PennyJudge$Show" "PennyJudge$Act" "s" "I") ∈ lw_all := lw_g (lw_at lw_m2 145 rfl) rfl
theorem q467 : (Jvm.Cond.fieldLink "PennyJudge$Show" (22 : Nat) "PennyJudge$Show" "t" "I") ∈ lw_all := lw_g (lw_at lw_m2 170 rfl) rfl
theorem q468 : (Jvm.Cond.sameField "PennyJudge$Show" "PennyJudge$Act" "t" "I") ∈ lw_all := lw_g (lw_at lw_m2 171 rfl) rfl
theorem q477 : (Jvm.Cond.fieldLink "PennyJudge$Show" (7 : Nat) "PennyJudge$Show" "v" "I") ∈ lw_all := lw_g (lw_at lw_m2 180 rfl) rfl
theorem q478 : (Jvm.Cond.sameField "PennyJudge$Show" "PennyJudge$Act" "v" "I") ∈ lw_all := lw_g (lw_at lw_m2 181 rfl) rfl
theorem q614 : (Jvm.Cond.instantiable "PennyJudge$Show" (4 : Nat)) ∈ lw_all := lw_g (lw_at lw_m3 77 rfl) rfl
theorem q616 : (Jvm.Cond.instanceMethod ({ cls := "PennyJudge$Show", name := "<init>", desc := "(IIII)V" } : Jvm.MethodName)) ∈ lw_all := lw_g (lw_at lw_m3 79 rfl) rfl
theorem q617 : (Jvm.Cond.code ({ cls := "PennyJudge$Show", name := "<init>", desc := "(IIII)V" } : Jvm.MethodName) prog_17_method_1_code (5 : Nat) (Option.none : Option Jvm.ClassFile.FieldType)) ∈ lw_all := lw_g (lw_at lw_m3 80 rfl) rfl
theorem q618 : (Jvm.Cond.methodLink "PennyJudge$Show" (1 : Nat) ({ cls := "PennyJudge$Act", name := "<init>", desc := "(IIII)V" } : Jvm.MethodName)) ∈ lw_all := lw_g (lw_at lw_m3 81 rfl) rfl
theorem q619 : (Jvm.Cond.laysFinal "PennyJudge$Show" "PennyJudge$Act" "kind" "I") ∈ lw_all := lw_g (lw_at lw_m3 82 rfl) rfl
theorem q620 : (Jvm.Cond.laysFinal "PennyJudge$Show" "PennyJudge$Act" "s" "I") ∈ lw_all := lw_g (lw_at lw_m3 83 rfl) rfl
theorem q621 : (Jvm.Cond.lays "PennyJudge$Show" "PennyJudge$Act" "t" "I") ∈ lw_all := lw_g (lw_at lw_m3 84 rfl) rfl
theorem q622 : (Jvm.Cond.lays "PennyJudge$Show" "PennyJudge$Act" "v" "I") ∈ lw_all := lw_g (lw_at lw_m3 85 rfl) rfl
theorem q623 : (Jvm.Cond.superclass "PennyJudge$Show" "PennyJudge$Act") ∈ lw_all := lw_g (lw_at lw_m3 86 rfl) rfl
theorem q739 : (Jvm.Cond.selects "PennyJudge$Show" ({ cls := "PennyJudge$Done", name := "does", desc := "(LPennyJudge$Run;)I" } : Jvm.MethodName) ({ cls := "PennyJudge$Show", name := "does", desc := "(LPennyJudge$Run;)I" } : Jvm.MethodName)) ∈ lw_all := lw_g (lw_at lw_m3 202 rfl) rfl
theorem q740 : (Jvm.Cond.instanceMethod ({ cls := "PennyJudge$Show", name := "does", desc := "(LPennyJudge$Run;)I" } : Jvm.MethodName)) ∈ lw_all := lw_g (lw_at lw_m3 203 rfl) rfl
theorem q741 : (Jvm.Cond.code ({ cls := "PennyJudge$Show", name := "does", desc := "(LPennyJudge$Run;)I" } : Jvm.MethodName) prog_17_method_4_code (3 : Nat) (Option.some Jvm.ClassFile.FieldType.int)) ∈ lw_all := lw_g (lw_at lw_m3 204 rfl) rfl
theorem q742 : (Jvm.Cond.methodLinkNest "PennyJudge$Show" (28 : Nat) ({ cls := "PennyJudge", name := "whole", desc := "(JJI)J" } : Jvm.MethodName) "PennyJudge") ∈ lw_tbl := lw_at lw_m3 205 rfl
theorem q743 : (Jvm.Cond.methodLink "PennyJudge$Show" (34 : Nat) ({ cls := "PennyJudge$Run", name := "put", desc := "(IJJ)I" } : Jvm.MethodName)) ∈ lw_all := lw_g (lw_at lw_m3 206 rfl) rfl
theorem q744 : (Jvm.Cond.methodLink "PennyJudge$Show" (38 : Nat) ({ cls := "PennyJudge$Show", name := "show", desc := "(LPennyJudge$Run;Z)V" } : Jvm.MethodName)) ∈ lw_all := lw_g (lw_at lw_m3 207 rfl) rfl
theorem q745 : (Jvm.Cond.sameMethod "PennyJudge$Show" "PennyJudge$Act" "show" "(LPennyJudge$Run;Z)V") ∈ lw_all := lw_g (lw_at lw_m3 208 rfl) rfl
theorem q746 : (Jvm.Cond.selects "PennyJudge$Show" ({ cls := "PennyJudge$Show", name := "show", desc := "(LPennyJudge$Run;Z)V" } : Jvm.MethodName) ({ cls := "PennyJudge$Act", name := "show", desc := "(LPennyJudge$Run;Z)V" } : Jvm.MethodName)) ∈ lw_all := lw_g (lw_at lw_m3 209 rfl) rfl
theorem q919 : (Jvm.Cond.selects "PennyJudge$Show" ({ cls := "PennyJudge$Done", name := "loosely", desc := "(LPennyJudge$Run;)V" } : Jvm.MethodName) ({ cls := "PennyJudge$Show", name := "loosely", desc := "(LPennyJudge$Run;)V" } : Jvm.MethodName)) ∈ lw_all := lw_g (lw_at lw_m4 142 rfl) rfl
theorem q920 : (Jvm.Cond.instanceMethod ({ cls := "PennyJudge$Show", name := "loosely", desc := "(LPennyJudge$Run;)V" } : Jvm.MethodName)) ∈ lw_all := lw_g (lw_at lw_m4 143 rfl) rfl
theorem q921 : (Jvm.Cond.code ({ cls := "PennyJudge$Show", name := "loosely", desc := "(LPennyJudge$Run;)V" } : Jvm.MethodName) prog_17_method_5_code (2 : Nat) (Option.none : Option Jvm.ClassFile.FieldType)) ∈ lw_all := lw_g (lw_at lw_m4 144 rfl) rfl
theorem q922 : (Jvm.Cond.methodLinkNest "PennyJudge$Show" (46 : Nat) ({ cls := "PennyJudge", name := "loose", desc := "(DII)D" } : Jvm.MethodName) "PennyJudge") ∈ lw_tbl := lw_at lw_m4 145 rfl
theorem q969 : (Jvm.Cond.selects "PennyJudge$Show" ({ cls := "PennyJudge$Act", name := "choice", desc := "()I" } : Jvm.MethodName) ({ cls := "PennyJudge$Show", name := "choice", desc := "()I" } : Jvm.MethodName)) ∈ lw_all := lw_g (lw_at lw_m4 192 rfl) rfl
theorem q970 : (Jvm.Cond.instanceMethod ({ cls := "PennyJudge$Show", name := "choice", desc := "()I" } : Jvm.MethodName)) ∈ lw_all := lw_g (lw_at lw_m4 193 rfl) rfl
theorem q971 : (Jvm.Cond.code ({ cls := "PennyJudge$Show", name := "choice", desc := "()I" } : Jvm.MethodName) prog_17_method_2_code (1 : Nat) (Option.some Jvm.ClassFile.FieldType.int)) ∈ lw_all := lw_g (lw_at lw_m4 194 rfl) rfl
theorem q990 : (Jvm.Cond.selects "PennyJudge$Show" ({ cls := "PennyJudge$Act", name := "choices", desc := "()I" } : Jvm.MethodName) ({ cls := "PennyJudge$Act", name := "choices", desc := "()I" } : Jvm.MethodName)) ∈ lw_all := lw_g (lw_at lw_m4 213 rfl) rfl
theorem q1014 : (Jvm.Cond.selects "PennyJudge$Show" ({ cls := "PennyJudge$Act", name := "choose", desc := "(I)V" } : Jvm.MethodName) ({ cls := "PennyJudge$Show", name := "choose", desc := "(I)V" } : Jvm.MethodName)) ∈ lw_all := lw_g (lw_at lw_m4 237 rfl) rfl
theorem q1015 : (Jvm.Cond.instanceMethod ({ cls := "PennyJudge$Show", name := "choose", desc := "(I)V" } : Jvm.MethodName)) ∈ lw_all := lw_g (lw_at lw_m4 238 rfl) rfl
theorem q1016 : (Jvm.Cond.code ({ cls := "PennyJudge$Show", name := "choose", desc := "(I)V" } : Jvm.MethodName) prog_17_method_3_code (2 : Nat) (Option.none : Option Jvm.ClassFile.FieldType)) ∈ lw_all := lw_g (lw_at lw_m4 239 rfl) rfl
theorem q1922 : (Jvm.Cond.castable "PennyJudge$Show" "PennyJudge$Act") ∈ lw_tbl := lw_at lw_m8 185 rfl
theorem in_X18 : ∀ w ∈ wsX180, w ∈ lw_all := lw_in wsX180 [619, 620, 621, 622] (by decide +kernel) (by decide +kernel)

/-! PennyJudge$Days -/
set_option maxRecDepth 100000
def RX19 : String := "PennyJudge$Days"
def TX19 : u_T := fun k => match k with
  | 0 => ("PennyJudge$Act", "kind", "I", true)
  | 1 => ("PennyJudge$Act", "s", "I", true)
  | 2 => ("PennyJudge$Act", "t", "I", false)
  | _ => ("PennyJudge$Act", "v", "I", false)
def tyX19 : Nat → FieldType := fun k => match k with
  | 0 => .int
  | 1 => .int
  | 2 => .int
  | _ => .int
abbrev wsX190 : List Cond := u_ws RX19 TX19 4
theorem nmX19 : ∀ a, a < 4 → ∀ b, b < 4 → a ≠ b → (TX19 a).2.1 ≠ (TX19 b).2.1 := by decide +kernel
theorem tyX19_ok : ∀ k, k < 4 → parseFieldDescriptor (TX19 k).2.2.1 = some (tyX19 k) := by decide +kernel
abbrev cX19_init : ByteArray := prog_7_method_1_code
def yX19_init : MethodName := ⟨RX19, "<init>", "(IIII)V"⟩
def dkwX19_init_0 : List UInt8 := [42, 27, 28, 29, 21, 4, 183, 0, 1, 177]
abbrev dktX19_init_0 : List UInt8 := dkwX19_init_0 ++ []
theorem dksX19_init_0 : cX19_init.data.toList.drop 0 = dktX19_init_0 := by decide +kernel
theorem dX19_init_0 : decode cX19_init 0 = .ok (.aload_n 0, 1) := dk_42 (dk_at dksX19_init_0 0 rfl rfl)
theorem dX19_init_1 : decode cX19_init 1 = .ok (.iload_n 1, 1) := dk_27 (dk_at dksX19_init_0 1 rfl rfl)
theorem dX19_init_2 : decode cX19_init 2 = .ok (.iload_n 2, 1) := dk_28 (dk_at dksX19_init_0 2 rfl rfl)
theorem dX19_init_3 : decode cX19_init 3 = .ok (.iload_n 3, 1) := dk_29 (dk_at dksX19_init_0 3 rfl rfl)
theorem dX19_init_4 : decode cX19_init 4 = .ok (.iload 4, 2) := dk_21 4 (dk_at dksX19_init_0 4 rfl rfl)
theorem dX19_init_6 : decode cX19_init 6 = .ok (.invokespecial 1, 3) := dk_183 0 1 (dk_at dksX19_init_0 6 rfl rfl)
theorem dX19_init_9 : decode cX19_init 9 = .ok (.return_, 1) := dk_177 (dk_at dksX19_init_0 9 rfl rfl)
abbrev cX19_does : ByteArray := prog_7_method_2_code
def yX19_does : MethodName := ⟨RX19, "does", "(LPennyJudge$Run;)I"⟩
def dkwX19_does_4 : List UInt8 := [153, 0, 6, 21, 5, 172, 132, 2, 1, 167, 255, 154, 3, 172]
abbrev dktX19_does_4 : List UInt8 := dkwX19_does_4 ++ []
def dkwX19_does_3 : List UInt8 := [42, 180, 0, 19, 47, 105, 97, 43, 180, 0, 29, 42, 180, 0, 19, 47, 182, 0, 41, 54, 5, 21, 5]
abbrev dktX19_does_3 : List UInt8 := dkwX19_does_3 ++ dktX19_does_4
def dkwX19_does_2 : List UInt8 := [4, 184, 0, 35, 66, 43, 42, 180, 0, 19, 43, 180, 0, 13, 42, 180, 0, 19, 47, 33, 43, 180, 0, 29]
abbrev dktX19_does_2 : List UInt8 := dkwX19_does_2 ++ dktX19_does_3
def dkwX19_does_1 : List UInt8 := [182, 0, 25, 133, 105, 43, 180, 0, 29, 42, 180, 0, 19, 47, 43, 42, 180, 0, 22, 182, 0, 32, 133, 105]
abbrev dktX19_does_1 : List UInt8 := dkwX19_does_1 ++ dktX19_does_2
def dkwX19_does_0 : List UInt8 := [3, 61, 28, 42, 180, 0, 7, 162, 0, 100, 43, 180, 0, 13, 42, 180, 0, 19, 47, 43, 42, 180, 0, 22]
abbrev dktX19_does_0 : List UInt8 := dkwX19_does_0 ++ dktX19_does_1
theorem dksX19_does_0 : cX19_does.data.toList.drop 0 = dktX19_does_0 := by decide +kernel
theorem dksX19_does_1 : cX19_does.data.toList.drop 24 = dktX19_does_1 := dk_seg dksX19_does_0 24 rfl rfl
theorem dksX19_does_2 : cX19_does.data.toList.drop 48 = dktX19_does_2 := dk_seg dksX19_does_1 24 rfl rfl
theorem dksX19_does_3 : cX19_does.data.toList.drop 72 = dktX19_does_3 := dk_seg dksX19_does_2 24 rfl rfl
theorem dksX19_does_4 : cX19_does.data.toList.drop 95 = dktX19_does_4 := dk_seg dksX19_does_3 23 rfl rfl
theorem dX19_does_0 : decode cX19_does 0 = .ok (.iconst 0, 1) := dk_3 (dk_at dksX19_does_0 0 rfl rfl)
theorem dX19_does_1 : decode cX19_does 1 = .ok (.istore_n 2, 1) := dk_61 (dk_at dksX19_does_0 1 rfl rfl)
theorem dX19_does_2 : decode cX19_does 2 = .ok (.iload_n 2, 1) := dk_28 (dk_at dksX19_does_0 2 rfl rfl)
theorem dX19_does_3 : decode cX19_does 3 = .ok (.aload_n 0, 1) := dk_42 (dk_at dksX19_does_0 3 rfl rfl)
theorem dX19_does_4 : decode cX19_does 4 = .ok (.getfield 7, 3) := dk_180 0 7 (dk_at dksX19_does_0 4 rfl rfl)
theorem dX19_does_7 : decode cX19_does 7 = .ok (.if_icmp .ge 100, 3) := dk_162 0 100 (dk_at dksX19_does_0 7 rfl rfl)
theorem dX19_does_10 : decode cX19_does 10 = .ok (.aload_n 1, 1) := dk_43 (dk_at dksX19_does_0 10 rfl rfl)
theorem dX19_does_11 : decode cX19_does 11 = .ok (.getfield 13, 3) := dk_180 0 13 (dk_at dksX19_does_0 11 rfl rfl)
theorem dX19_does_14 : decode cX19_does 14 = .ok (.aload_n 0, 1) := dk_42 (dk_at dksX19_does_0 14 rfl rfl)
theorem dX19_does_15 : decode cX19_does 15 = .ok (.getfield 19, 3) := dk_180 0 19 (dk_at dksX19_does_0 15 rfl rfl)
theorem dX19_does_18 : decode cX19_does 18 = .ok (.laload, 1) := dk_47 (dk_at dksX19_does_0 18 rfl rfl)
theorem dX19_does_19 : decode cX19_does 19 = .ok (.aload_n 1, 1) := dk_43 (dk_at dksX19_does_0 19 rfl rfl)
theorem dX19_does_20 : decode cX19_does 20 = .ok (.aload_n 0, 1) := dk_42 (dk_at dksX19_does_0 20 rfl rfl)
theorem dX19_does_21 : decode cX19_does 21 = .ok (.getfield 22, 3) := dk_180 0 22 (dk_at dksX19_does_0 21 rfl rfl)
theorem dX19_does_24 : decode cX19_does 24 = .ok (.invokevirtual 25, 3) := dk_182 0 25 (dk_at dksX19_does_1 0 rfl rfl)
theorem dX19_does_27 : decode cX19_does 27 = .ok (.i2l, 1) := dk_133 (dk_at dksX19_does_1 3 rfl rfl)
theorem dX19_does_28 : decode cX19_does 28 = .ok (.lmul, 1) := dk_105 (dk_at dksX19_does_1 4 rfl rfl)
theorem dX19_does_29 : decode cX19_does 29 = .ok (.aload_n 1, 1) := dk_43 (dk_at dksX19_does_1 5 rfl rfl)
theorem dX19_does_30 : decode cX19_does 30 = .ok (.getfield 29, 3) := dk_180 0 29 (dk_at dksX19_does_1 6 rfl rfl)
theorem dX19_does_33 : decode cX19_does 33 = .ok (.aload_n 0, 1) := dk_42 (dk_at dksX19_does_1 9 rfl rfl)
theorem dX19_does_34 : decode cX19_does 34 = .ok (.getfield 19, 3) := dk_180 0 19 (dk_at dksX19_does_1 10 rfl rfl)
theorem dX19_does_37 : decode cX19_does 37 = .ok (.laload, 1) := dk_47 (dk_at dksX19_does_1 13 rfl rfl)
theorem dX19_does_38 : decode cX19_does 38 = .ok (.aload_n 1, 1) := dk_43 (dk_at dksX19_does_1 14 rfl rfl)
theorem dX19_does_39 : decode cX19_does 39 = .ok (.aload_n 0, 1) := dk_42 (dk_at dksX19_does_1 15 rfl rfl)
theorem dX19_does_40 : decode cX19_does 40 = .ok (.getfield 22, 3) := dk_180 0 22 (dk_at dksX19_does_1 16 rfl rfl)
theorem dX19_does_43 : decode cX19_does 43 = .ok (.invokevirtual 32, 3) := dk_182 0 32 (dk_at dksX19_does_1 19 rfl rfl)
theorem dX19_does_46 : decode cX19_does 46 = .ok (.i2l, 1) := dk_133 (dk_at dksX19_does_1 22 rfl rfl)
theorem dX19_does_47 : decode cX19_does 47 = .ok (.lmul, 1) := dk_105 (dk_at dksX19_does_1 23 rfl rfl)
theorem dX19_does_48 : decode cX19_does 48 = .ok (.iconst 1, 1) := dk_4 (dk_at dksX19_does_2 0 rfl rfl)
theorem dX19_does_49 : decode cX19_does 49 = .ok (.invokestatic 35, 3) := dk_184 0 35 (dk_at dksX19_does_2 1 rfl rfl)
theorem dX19_does_52 : decode cX19_does 52 = .ok (.lstore_n 3, 1) := dk_66 (dk_at dksX19_does_2 4 rfl rfl)
theorem dX19_does_53 : decode cX19_does 53 = .ok (.aload_n 1, 1) := dk_43 (dk_at dksX19_does_2 5 rfl rfl)
theorem dX19_does_54 : decode cX19_does 54 = .ok (.aload_n 0, 1) := dk_42 (dk_at dksX19_does_2 6 rfl rfl)
theorem dX19_does_55 : decode cX19_does 55 = .ok (.getfield 19, 3) := dk_180 0 19 (dk_at dksX19_does_2 7 rfl rfl)
theorem dX19_does_58 : decode cX19_does 58 = .ok (.aload_n 1, 1) := dk_43 (dk_at dksX19_does_2 10 rfl rfl)
theorem dX19_does_59 : decode cX19_does 59 = .ok (.getfield 13, 3) := dk_180 0 13 (dk_at dksX19_does_2 11 rfl rfl)
theorem dX19_does_62 : decode cX19_does 62 = .ok (.aload_n 0, 1) := dk_42 (dk_at dksX19_does_2 14 rfl rfl)
theorem dX19_does_63 : decode cX19_does 63 = .ok (.getfield 19, 3) := dk_180 0 19 (dk_at dksX19_does_2 15 rfl rfl)
theorem dX19_does_66 : decode cX19_does 66 = .ok (.laload, 1) := dk_47 (dk_at dksX19_does_2 18 rfl rfl)
theorem dX19_does_67 : decode cX19_does 67 = .ok (.lload_n 3, 1) := dk_33 (dk_at dksX19_does_2 19 rfl rfl)
theorem dX19_does_68 : decode cX19_does 68 = .ok (.aload_n 1, 1) := dk_43 (dk_at dksX19_does_2 20 rfl rfl)
theorem dX19_does_69 : decode cX19_does 69 = .ok (.getfield 29, 3) := dk_180 0 29 (dk_at dksX19_does_2 21 rfl rfl)
theorem dX19_does_72 : decode cX19_does 72 = .ok (.aload_n 0, 1) := dk_42 (dk_at dksX19_does_3 0 rfl rfl)
theorem dX19_does_73 : decode cX19_does 73 = .ok (.getfield 19, 3) := dk_180 0 19 (dk_at dksX19_does_3 1 rfl rfl)
theorem dX19_does_76 : decode cX19_does 76 = .ok (.laload, 1) := dk_47 (dk_at dksX19_does_3 4 rfl rfl)
theorem dX19_does_77 : decode cX19_does 77 = .ok (.lmul, 1) := dk_105 (dk_at dksX19_does_3 5 rfl rfl)
theorem dX19_does_78 : decode cX19_does 78 = .ok (.ladd, 1) := dk_97 (dk_at dksX19_does_3 6 rfl rfl)
theorem dX19_does_79 : decode cX19_does 79 = .ok (.aload_n 1, 1) := dk_43 (dk_at dksX19_does_3 7 rfl rfl)
theorem dX19_does_80 : decode cX19_does 80 = .ok (.getfield 29, 3) := dk_180 0 29 (dk_at dksX19_does_3 8 rfl rfl)
theorem dX19_does_83 : decode cX19_does 83 = .ok (.aload_n 0, 1) := dk_42 (dk_at dksX19_does_3 11 rfl rfl)
theorem dX19_does_84 : decode cX19_does 84 = .ok (.getfield 19, 3) := dk_180 0 19 (dk_at dksX19_does_3 12 rfl rfl)
theorem dX19_does_87 : decode cX19_does 87 = .ok (.laload, 1) := dk_47 (dk_at dksX19_does_3 15 rfl rfl)
theorem dX19_does_88 : decode cX19_does 88 = .ok (.invokevirtual 41, 3) := dk_182 0 41 (dk_at dksX19_does_3 16 rfl rfl)
theorem dX19_does_91 : decode cX19_does 91 = .ok (.istore 5, 2) := dk_54 5 (dk_at dksX19_does_3 19 rfl rfl)
theorem dX19_does_93 : decode cX19_does 93 = .ok (.iload 5, 2) := dk_21 5 (dk_at dksX19_does_3 21 rfl rfl)
theorem dX19_does_95 : decode cX19_does 95 = .ok (.ifCond .eq 6, 3) := dk_153 0 6 (dk_at dksX19_does_4 0 rfl rfl)
theorem dX19_does_98 : decode cX19_does 98 = .ok (.iload 5, 2) := dk_21 5 (dk_at dksX19_does_4 3 rfl rfl)
theorem dX19_does_100 : decode cX19_does 100 = .ok (.ireturn, 1) := dk_172 (dk_at dksX19_does_4 5 rfl rfl)
theorem dX19_does_101 : decode cX19_does 101 = .ok (.iinc 2 1, 3) := dk_132 2 1 (dk_at dksX19_does_4 6 rfl rfl)
theorem dX19_does_104 : decode cX19_does 104 = .ok (.goto (-102), 3) := dk_167 255 154 (dk_at dksX19_does_4 9 rfl rfl)
theorem dX19_does_107 : decode cX19_does 107 = .ok (.iconst 0, 1) := dk_3 (dk_at dksX19_does_4 12 rfl rfl)
theorem dX19_does_108 : decode cX19_does 108 = .ok (.ireturn, 1) := dk_172 (dk_at dksX19_does_4 13 rfl rfl)
abbrev cX19_loosely : ByteArray := prog_7_method_3_code
def yX19_loosely : MethodName := ⟨RX19, "loosely", "(LPennyJudge$Run;)V"⟩
def dkwX19_loosely_3 : List UInt8 := [82, 132, 4, 1, 167, 255, 206, 177]
abbrev dktX19_loosely_3 : List UInt8 := dkwX19_loosely_3 ++ []
def dkwX19_loosely_2 : List UInt8 := [180, 0, 19, 49, 43, 180, 0, 45, 42, 180, 0, 19, 49, 40, 107, 4, 4, 184, 0, 49, 99, 184, 0, 53]
abbrev dktX19_loosely_2 : List UInt8 := dkwX19_loosely_2 ++ dktX19_loosely_3
def dkwX19_loosely_1 : List UInt8 := [21, 4, 42, 180, 0, 7, 162, 0, 47, 43, 180, 0, 45, 42, 180, 0, 19, 43, 180, 0, 45, 42]
abbrev dktX19_loosely_1 : List UInt8 := dkwX19_loosely_1 ++ dktX19_loosely_2
def dkwX19_loosely_0 : List UInt8 := [43, 42, 180, 0, 22, 182, 0, 25, 135, 43, 42, 180, 0, 22, 182, 0, 32, 135, 111, 73, 3, 54, 4]
abbrev dktX19_loosely_0 : List UInt8 := dkwX19_loosely_0 ++ dktX19_loosely_1
theorem dksX19_loosely_0 : cX19_loosely.data.toList.drop 0 = dktX19_loosely_0 := by decide +kernel
theorem dksX19_loosely_1 : cX19_loosely.data.toList.drop 23 = dktX19_loosely_1 := dk_seg dksX19_loosely_0 23 rfl rfl
theorem dksX19_loosely_2 : cX19_loosely.data.toList.drop 45 = dktX19_loosely_2 := dk_seg dksX19_loosely_1 22 rfl rfl
theorem dksX19_loosely_3 : cX19_loosely.data.toList.drop 69 = dktX19_loosely_3 := dk_seg dksX19_loosely_2 24 rfl rfl
theorem dX19_loosely_0 : decode cX19_loosely 0 = .ok (.aload_n 1, 1) := dk_43 (dk_at dksX19_loosely_0 0 rfl rfl)
theorem dX19_loosely_1 : decode cX19_loosely 1 = .ok (.aload_n 0, 1) := dk_42 (dk_at dksX19_loosely_0 1 rfl rfl)
theorem dX19_loosely_2 : decode cX19_loosely 2 = .ok (.getfield 22, 3) := dk_180 0 22 (dk_at dksX19_loosely_0 2 rfl rfl)
theorem dX19_loosely_5 : decode cX19_loosely 5 = .ok (.invokevirtual 25, 3) := dk_182 0 25 (dk_at dksX19_loosely_0 5 rfl rfl)
theorem dX19_loosely_8 : decode cX19_loosely 8 = .ok (.i2d, 1) := dk_135 (dk_at dksX19_loosely_0 8 rfl rfl)
theorem dX19_loosely_9 : decode cX19_loosely 9 = .ok (.aload_n 1, 1) := dk_43 (dk_at dksX19_loosely_0 9 rfl rfl)
theorem dX19_loosely_10 : decode cX19_loosely 10 = .ok (.aload_n 0, 1) := dk_42 (dk_at dksX19_loosely_0 10 rfl rfl)
theorem dX19_loosely_11 : decode cX19_loosely 11 = .ok (.getfield 22, 3) := dk_180 0 22 (dk_at dksX19_loosely_0 11 rfl rfl)
theorem dX19_loosely_14 : decode cX19_loosely 14 = .ok (.invokevirtual 32, 3) := dk_182 0 32 (dk_at dksX19_loosely_0 14 rfl rfl)
theorem dX19_loosely_17 : decode cX19_loosely 17 = .ok (.i2d, 1) := dk_135 (dk_at dksX19_loosely_0 17 rfl rfl)
theorem dX19_loosely_18 : decode cX19_loosely 18 = .ok (.ddiv, 1) := dk_111 (dk_at dksX19_loosely_0 18 rfl rfl)
theorem dX19_loosely_19 : decode cX19_loosely 19 = .ok (.dstore_n 2, 1) := dk_73 (dk_at dksX19_loosely_0 19 rfl rfl)
theorem dX19_loosely_20 : decode cX19_loosely 20 = .ok (.iconst 0, 1) := dk_3 (dk_at dksX19_loosely_0 20 rfl rfl)
theorem dX19_loosely_21 : decode cX19_loosely 21 = .ok (.istore 4, 2) := dk_54 4 (dk_at dksX19_loosely_0 21 rfl rfl)
theorem dX19_loosely_23 : decode cX19_loosely 23 = .ok (.iload 4, 2) := dk_21 4 (dk_at dksX19_loosely_1 0 rfl rfl)
theorem dX19_loosely_25 : decode cX19_loosely 25 = .ok (.aload_n 0, 1) := dk_42 (dk_at dksX19_loosely_1 2 rfl rfl)
theorem dX19_loosely_26 : decode cX19_loosely 26 = .ok (.getfield 7, 3) := dk_180 0 7 (dk_at dksX19_loosely_1 3 rfl rfl)
theorem dX19_loosely_29 : decode cX19_loosely 29 = .ok (.if_icmp .ge 47, 3) := dk_162 0 47 (dk_at dksX19_loosely_1 6 rfl rfl)
theorem dX19_loosely_32 : decode cX19_loosely 32 = .ok (.aload_n 1, 1) := dk_43 (dk_at dksX19_loosely_1 9 rfl rfl)
theorem dX19_loosely_33 : decode cX19_loosely 33 = .ok (.getfield 45, 3) := dk_180 0 45 (dk_at dksX19_loosely_1 10 rfl rfl)
theorem dX19_loosely_36 : decode cX19_loosely 36 = .ok (.aload_n 0, 1) := dk_42 (dk_at dksX19_loosely_1 13 rfl rfl)
theorem dX19_loosely_37 : decode cX19_loosely 37 = .ok (.getfield 19, 3) := dk_180 0 19 (dk_at dksX19_loosely_1 14 rfl rfl)
theorem dX19_loosely_40 : decode cX19_loosely 40 = .ok (.aload_n 1, 1) := dk_43 (dk_at dksX19_loosely_1 17 rfl rfl)
theorem dX19_loosely_41 : decode cX19_loosely 41 = .ok (.getfield 45, 3) := dk_180 0 45 (dk_at dksX19_loosely_1 18 rfl rfl)
theorem dX19_loosely_44 : decode cX19_loosely 44 = .ok (.aload_n 0, 1) := dk_42 (dk_at dksX19_loosely_1 21 rfl rfl)
theorem dX19_loosely_45 : decode cX19_loosely 45 = .ok (.getfield 19, 3) := dk_180 0 19 (dk_at dksX19_loosely_2 0 rfl rfl)
theorem dX19_loosely_48 : decode cX19_loosely 48 = .ok (.daload, 1) := dk_49 (dk_at dksX19_loosely_2 3 rfl rfl)
theorem dX19_loosely_49 : decode cX19_loosely 49 = .ok (.aload_n 1, 1) := dk_43 (dk_at dksX19_loosely_2 4 rfl rfl)
theorem dX19_loosely_50 : decode cX19_loosely 50 = .ok (.getfield 45, 3) := dk_180 0 45 (dk_at dksX19_loosely_2 5 rfl rfl)
theorem dX19_loosely_53 : decode cX19_loosely 53 = .ok (.aload_n 0, 1) := dk_42 (dk_at dksX19_loosely_2 8 rfl rfl)
theorem dX19_loosely_54 : decode cX19_loosely 54 = .ok (.getfield 19, 3) := dk_180 0 19 (dk_at dksX19_loosely_2 9 rfl rfl)
theorem dX19_loosely_57 : decode cX19_loosely 57 = .ok (.daload, 1) := dk_49 (dk_at dksX19_loosely_2 12 rfl rfl)
theorem dX19_loosely_58 : decode cX19_loosely 58 = .ok (.dload_n 2, 1) := dk_40 (dk_at dksX19_loosely_2 13 rfl rfl)
theorem dX19_loosely_59 : decode cX19_loosely 59 = .ok (.dmul, 1) := dk_107 (dk_at dksX19_loosely_2 14 rfl rfl)
theorem dX19_loosely_60 : decode cX19_loosely 60 = .ok (.iconst 1, 1) := dk_4 (dk_at dksX19_loosely_2 15 rfl rfl)
theorem dX19_loosely_61 : decode cX19_loosely 61 = .ok (.iconst 1, 1) := dk_4 (dk_at dksX19_loosely_2 16 rfl rfl)
theorem dX19_loosely_62 : decode cX19_loosely 62 = .ok (.invokestatic 49, 3) := dk_184 0 49 (dk_at dksX19_loosely_2 17 rfl rfl)
theorem dX19_loosely_65 : decode cX19_loosely 65 = .ok (.dadd, 1) := dk_99 (dk_at dksX19_loosely_2 20 rfl rfl)
theorem dX19_loosely_66 : decode cX19_loosely 66 = .ok (.invokestatic 53, 3) := dk_184 0 53 (dk_at dksX19_loosely_2 21 rfl rfl)
theorem dX19_loosely_69 : decode cX19_loosely 69 = .ok (.dastore, 1) := dk_82 (dk_at dksX19_loosely_3 0 rfl rfl)
theorem dX19_loosely_70 : decode cX19_loosely 70 = .ok (.iinc 4 1, 3) := dk_132 4 1 (dk_at dksX19_loosely_3 1 rfl rfl)
theorem dX19_loosely_73 : decode cX19_loosely 73 = .ok (.goto (-50), 3) := dk_167 255 206 (dk_at dksX19_loosely_3 4 rfl rfl)
theorem dX19_loosely_76 : decode cX19_loosely 76 = .ok (.return_, 1) := dk_177 (dk_at dksX19_loosely_3 7 rfl rfl)
theorem q76 : (Jvm.Cond.initialized "PennyJudge$Days") ∈ lw_all := lw_g (lw_at lw_m1 19 rfl) rfl
theorem q113 : (Jvm.Cond.fieldLink "PennyJudge$Days" (13 : Nat) "PennyJudge$Run" "num" "[J") ∈ lw_all := lw_g (lw_at lw_m1 56 rfl) rfl
theorem q125 : (Jvm.Cond.fieldLink "PennyJudge$Days" (29 : Nat) "PennyJudge$Run" "den" "[J") ∈ lw_all := lw_g (lw_at lw_m1 68 rfl) rfl
theorem q182 : (Jvm.Cond.fieldLink "PennyJudge$Days" (45 : Nat) "PennyJudge$Run" "value" "[D") ∈ lw_all := lw_g (lw_at lw_m1 125 rfl) rfl
theorem q433 : (Jvm.Cond.fieldLink "PennyJudge$Days" (19 : Nat) "PennyJudge$Days" "s" "I") ∈ lw_all := lw_g (lw_at lw_m2 136 rfl) rfl
theorem q434 : (Jvm.Cond.sameField "PennyJudge$Days" "PennyJudge$Act" "s" "I") ∈ lw_all := lw_g (lw_at lw_m2 137 rfl) rfl
theorem q463 : (Jvm.Cond.fieldLink "PennyJudge$Days" (22 : Nat) "PennyJudge$Days" "t" "I") ∈ lw_all := lw_g (lw_at lw_m2 166 rfl) rfl
theorem q464 : (Jvm.Cond.sameField "PennyJudge$Days" "PennyJudge$Act" "t" "I") ∈ lw_all := lw_g (lw_at lw_m2 167 rfl) rfl
theorem q479 : (Jvm.Cond.fieldLink "PennyJudge$Days" (7 : Nat) "PennyJudge$Days" "v" "I") ∈ lw_all := lw_g (lw_at lw_m2 182 rfl) rfl
theorem q480 : (Jvm.Cond.sameField "PennyJudge$Days" "PennyJudge$Act" "v" "I") ∈ lw_all := lw_g (lw_at lw_m2 183 rfl) rfl
theorem q625 : (Jvm.Cond.instantiable "PennyJudge$Days" (4 : Nat)) ∈ lw_all := lw_g (lw_at lw_m3 88 rfl) rfl
theorem q627 : (Jvm.Cond.instanceMethod ({ cls := "PennyJudge$Days", name := "<init>", desc := "(IIII)V" } : Jvm.MethodName)) ∈ lw_all := lw_g (lw_at lw_m3 90 rfl) rfl
theorem q628 : (Jvm.Cond.code ({ cls := "PennyJudge$Days", name := "<init>", desc := "(IIII)V" } : Jvm.MethodName) prog_7_method_1_code (5 : Nat) (Option.none : Option Jvm.ClassFile.FieldType)) ∈ lw_all := lw_g (lw_at lw_m3 91 rfl) rfl
theorem q629 : (Jvm.Cond.methodLink "PennyJudge$Days" (1 : Nat) ({ cls := "PennyJudge$Act", name := "<init>", desc := "(IIII)V" } : Jvm.MethodName)) ∈ lw_all := lw_g (lw_at lw_m3 92 rfl) rfl
theorem q630 : (Jvm.Cond.laysFinal "PennyJudge$Days" "PennyJudge$Act" "kind" "I") ∈ lw_all := lw_g (lw_at lw_m3 93 rfl) rfl
theorem q631 : (Jvm.Cond.laysFinal "PennyJudge$Days" "PennyJudge$Act" "s" "I") ∈ lw_all := lw_g (lw_at lw_m3 94 rfl) rfl
theorem q632 : (Jvm.Cond.lays "PennyJudge$Days" "PennyJudge$Act" "t" "I") ∈ lw_all := lw_g (lw_at lw_m3 95 rfl) rfl
theorem q633 : (Jvm.Cond.lays "PennyJudge$Days" "PennyJudge$Act" "v" "I") ∈ lw_all := lw_g (lw_at lw_m3 96 rfl) rfl
theorem q634 : (Jvm.Cond.superclass "PennyJudge$Days" "PennyJudge$Act") ∈ lw_all := lw_g (lw_at lw_m3 97 rfl) rfl
theorem q691 : (Jvm.Cond.selects "PennyJudge$Days" ({ cls := "PennyJudge$Done", name := "does", desc := "(LPennyJudge$Run;)I" } : Jvm.MethodName) ({ cls := "PennyJudge$Days", name := "does", desc := "(LPennyJudge$Run;)I" } : Jvm.MethodName)) ∈ lw_all := lw_g (lw_at lw_m3 154 rfl) rfl
theorem q692 : (Jvm.Cond.instanceMethod ({ cls := "PennyJudge$Days", name := "does", desc := "(LPennyJudge$Run;)I" } : Jvm.MethodName)) ∈ lw_all := lw_g (lw_at lw_m3 155 rfl) rfl
theorem q693 : (Jvm.Cond.code ({ cls := "PennyJudge$Days", name := "does", desc := "(LPennyJudge$Run;)I" } : Jvm.MethodName) prog_7_method_2_code (6 : Nat) (Option.some Jvm.ClassFile.FieldType.int)) ∈ lw_all := lw_g (lw_at lw_m3 156 rfl) rfl
theorem q694 : (Jvm.Cond.methodLink "PennyJudge$Days" (25 : Nat) ({ cls := "PennyJudge$Run", name := "p", desc := "(I)I" } : Jvm.MethodName)) ∈ lw_all := lw_g (lw_at lw_m3 157 rfl) rfl
theorem q698 : (Jvm.Cond.methodLink "PennyJudge$Days" (32 : Nat) ({ cls := "PennyJudge$Run", name := "q", desc := "(I)I" } : Jvm.MethodName)) ∈ lw_all := lw_g (lw_at lw_m3 161 rfl) rfl
theorem q702 : (Jvm.Cond.methodLinkNest "PennyJudge$Days" (35 : Nat) ({ cls := "PennyJudge", name := "whole", desc := "(JJI)J" } : Jvm.MethodName) "PennyJudge") ∈ lw_tbl := lw_at lw_m3 165 rfl
theorem q707 : (Jvm.Cond.methodLink "PennyJudge$Days" (41 : Nat) ({ cls := "PennyJudge$Run", name := "put", desc := "(IJJ)I" } : Jvm.MethodName)) ∈ lw_all := lw_g (lw_at lw_m3 170 rfl) rfl
theorem q869 : (Jvm.Cond.selects "PennyJudge$Days" ({ cls := "PennyJudge$Done", name := "loosely", desc := "(LPennyJudge$Run;)V" } : Jvm.MethodName) ({ cls := "PennyJudge$Days", name := "loosely", desc := "(LPennyJudge$Run;)V" } : Jvm.MethodName)) ∈ lw_all := lw_g (lw_at lw_m4 92 rfl) rfl
theorem q870 : (Jvm.Cond.instanceMethod ({ cls := "PennyJudge$Days", name := "loosely", desc := "(LPennyJudge$Run;)V" } : Jvm.MethodName)) ∈ lw_all := lw_g (lw_at lw_m4 93 rfl) rfl
theorem q871 : (Jvm.Cond.code ({ cls := "PennyJudge$Days", name := "loosely", desc := "(LPennyJudge$Run;)V" } : Jvm.MethodName) prog_7_method_3_code (5 : Nat) (Option.none : Option Jvm.ClassFile.FieldType)) ∈ lw_all := lw_g (lw_at lw_m4 94 rfl) rfl
theorem q872 : (Jvm.Cond.methodLinkNest "PennyJudge$Days" (49 : Nat) ({ cls := "PennyJudge", name := "loose", desc := "(DII)D" } : Jvm.MethodName) "PennyJudge") ∈ lw_tbl := lw_at lw_m4 95 rfl
theorem q900 : (Jvm.Cond.methodLinkNest "PennyJudge$Days" (53 : Nat) ({ cls := "PennyJudge", name := "kept", desc := "(D)D" } : Jvm.MethodName) "PennyJudge") ∈ lw_tbl := lw_at lw_m4 123 rfl
theorem q960 : (Jvm.Cond.selects "PennyJudge$Days" ({ cls := "PennyJudge$Act", name := "choice", desc := "()I" } : Jvm.MethodName) ({ cls := "PennyJudge$Act", name := "choice", desc := "()I" } : Jvm.MethodName)) ∈ lw_all := lw_g (lw_at lw_m4 183 rfl) rfl
theorem q985 : (Jvm.Cond.selects "PennyJudge$Days" ({ cls := "PennyJudge$Act", name := "choices", desc := "()I" } : Jvm.MethodName) ({ cls := "PennyJudge$Act", name := "choices", desc := "()I" } : Jvm.MethodName)) ∈ lw_all := lw_g (lw_at lw_m4 208 rfl) rfl
theorem q1005 : (Jvm.Cond.selects "PennyJudge$Days" ({ cls := "PennyJudge$Act", name := "choose", desc := "(I)V" } : Jvm.MethodName) ({ cls := "PennyJudge$Act", name := "choose", desc := "(I)V" } : Jvm.MethodName)) ∈ lw_all := lw_g (lw_at lw_m4 228 rfl) rfl
theorem q1923 : (Jvm.Cond.castable "PennyJudge$Days" "PennyJudge$Act") ∈ lw_tbl := lw_at lw_m8 186 rfl
theorem in_X19 : ∀ w ∈ wsX190, w ∈ lw_all := lw_in wsX190 [630, 631, 632, 633] (by decide +kernel) (by decide +kernel)

/-! PennyJudge$Image -/
set_option maxRecDepth 100000
def RX20 : String := "PennyJudge$Image"
def TX20 : u_T := fun k => match k with
  | 0 => ("PennyJudge$Image", "accounts", "[J", true)
  | 1 => ("PennyJudge$Image", "num", "[J", true)
  | 2 => ("PennyJudge$Image", "den", "[J", true)
  | 3 => ("PennyJudge$Image", "leaks", "I", false)
  | _ => ("PennyJudge$Image", "programs", "I", false)
def tyX20 : Nat → FieldType := fun k => match k with
  | 0 => .array .long
  | 1 => .array .long
  | 2 => .array .long
  | 3 => .int
  | _ => .int
abbrev wsX200 : List Cond := u_ws RX20 TX20 5
theorem nmX20 : ∀ a, a < 5 → ∀ b, b < 5 → a ≠ b → (TX20 a).2.1 ≠ (TX20 b).2.1 := by decide +kernel
theorem tyX20_ok : ∀ k, k < 5 → parseFieldDescriptor (TX20 k).2.2.1 = some (tyX20 k) := by decide +kernel
abbrev cX20_init : ByteArray := prog_10_method_1_code
def yX20_init : MethodName := ⟨RX20, "<init>", "()V"⟩
def dkwX20_init_1 : List UInt8 := [181, 0, 16, 177]
abbrev dktX20_init_1 : List UInt8 := dkwX20_init_1 ++ []
def dkwX20_init_0 : List UInt8 := [42, 183, 0, 1, 42, 16, 8, 188, 11, 181, 0, 7, 42, 7, 188, 11, 181, 0, 13, 42, 7, 188, 11]
abbrev dktX20_init_0 : List UInt8 := dkwX20_init_0 ++ dktX20_init_1
theorem dksX20_init_0 : cX20_init.data.toList.drop 0 = dktX20_init_0 := by decide +kernel
theorem dksX20_init_1 : cX20_init.data.toList.drop 23 = dktX20_init_1 := dk_seg dksX20_init_0 23 rfl rfl
theorem dX20_init_0 : decode cX20_init 0 = .ok (.aload_n 0, 1) := dk_42 (dk_at dksX20_init_0 0 rfl rfl)
theorem dX20_init_1 : decode cX20_init 1 = .ok (.invokespecial 1, 3) := dk_183 0 1 (dk_at dksX20_init_0 1 rfl rfl)
theorem dX20_init_4 : decode cX20_init 4 = .ok (.aload_n 0, 1) := dk_42 (dk_at dksX20_init_0 4 rfl rfl)
theorem dX20_init_5 : decode cX20_init 5 = .ok (.bipush 8, 2) := dk_16 8 (dk_at dksX20_init_0 5 rfl rfl)
theorem dX20_init_7 : decode cX20_init 7 = .ok (.newarray .long, 2) := dk_188_11 (dk_at dksX20_init_0 7 rfl rfl)
theorem dX20_init_9 : decode cX20_init 9 = .ok (.putfield 7, 3) := dk_181 0 7 (dk_at dksX20_init_0 9 rfl rfl)
theorem dX20_init_12 : decode cX20_init 12 = .ok (.aload_n 0, 1) := dk_42 (dk_at dksX20_init_0 12 rfl rfl)
theorem dX20_init_13 : decode cX20_init 13 = .ok (.iconst 4, 1) := dk_7 (dk_at dksX20_init_0 13 rfl rfl)
theorem dX20_init_14 : decode cX20_init 14 = .ok (.newarray .long, 2) := dk_188_11 (dk_at dksX20_init_0 14 rfl rfl)
theorem dX20_init_16 : decode cX20_init 16 = .ok (.putfield 13, 3) := dk_181 0 13 (dk_at dksX20_init_0 16 rfl rfl)
theorem dX20_init_19 : decode cX20_init 19 = .ok (.aload_n 0, 1) := dk_42 (dk_at dksX20_init_0 19 rfl rfl)
theorem dX20_init_20 : decode cX20_init 20 = .ok (.iconst 4, 1) := dk_7 (dk_at dksX20_init_0 20 rfl rfl)
theorem dX20_init_21 : decode cX20_init 21 = .ok (.newarray .long, 2) := dk_188_11 (dk_at dksX20_init_0 21 rfl rfl)
theorem dX20_init_23 : decode cX20_init 23 = .ok (.putfield 16, 3) := dk_181 0 16 (dk_at dksX20_init_1 0 rfl rfl)
theorem dX20_init_26 : decode cX20_init 26 = .ok (.return_, 1) := dk_177 (dk_at dksX20_init_1 3 rfl rfl)
abbrev cX20_failure : ByteArray := prog_10_method_2_code
def yX20_failure : MethodName := ⟨RX20, "failure", "()LPennyJudge$Leak;"⟩
def dkwX20_failure_0 : List UInt8 := [42, 180, 0, 19, 154, 0, 7, 1, 167, 0, 14, 187, 0, 23, 89, 42, 180, 0, 19, 183, 0, 25, 176]
abbrev dktX20_failure_0 : List UInt8 := dkwX20_failure_0 ++ []
theorem dksX20_failure_0 : cX20_failure.data.toList.drop 0 = dktX20_failure_0 := by decide +kernel
theorem dX20_failure_0 : decode cX20_failure 0 = .ok (.aload_n 0, 1) := dk_42 (dk_at dksX20_failure_0 0 rfl rfl)
theorem dX20_failure_1 : decode cX20_failure 1 = .ok (.getfield 19, 3) := dk_180 0 19 (dk_at dksX20_failure_0 1 rfl rfl)
theorem dX20_failure_4 : decode cX20_failure 4 = .ok (.ifCond .ne 7, 3) := dk_154 0 7 (dk_at dksX20_failure_0 4 rfl rfl)
theorem dX20_failure_7 : decode cX20_failure 7 = .ok (.aconst_null, 1) := dk_1 (dk_at dksX20_failure_0 7 rfl rfl)
theorem dX20_failure_8 : decode cX20_failure 8 = .ok (.goto 14, 3) := dk_167 0 14 (dk_at dksX20_failure_0 8 rfl rfl)
theorem dX20_failure_11 : decode cX20_failure 11 = .ok (.new 23, 3) := dk_187 0 23 (dk_at dksX20_failure_0 11 rfl rfl)
theorem dX20_failure_14 : decode cX20_failure 14 = .ok (.dup, 1) := dk_89 (dk_at dksX20_failure_0 14 rfl rfl)
theorem dX20_failure_15 : decode cX20_failure 15 = .ok (.aload_n 0, 1) := dk_42 (dk_at dksX20_failure_0 15 rfl rfl)
theorem dX20_failure_16 : decode cX20_failure 16 = .ok (.getfield 19, 3) := dk_180 0 19 (dk_at dksX20_failure_0 16 rfl rfl)
theorem dX20_failure_19 : decode cX20_failure 19 = .ok (.invokespecial 25, 3) := dk_183 0 25 (dk_at dksX20_failure_0 19 rfl rfl)
theorem dX20_failure_22 : decode cX20_failure 22 = .ok (.areturn, 1) := dk_176 (dk_at dksX20_failure_0 22 rfl rfl)
theorem q87 : (Jvm.Cond.initialized "PennyJudge$Image") ∈ lw_all := lw_g (lw_at lw_m1 30 rfl) rfl
theorem q1133 : (Jvm.Cond.instantiable "PennyJudge$Image" (5 : Nat)) ∈ lw_all := lw_g (lw_at lw_m5 116 rfl) rfl
theorem q1135 : (Jvm.Cond.instanceMethod ({ cls := "PennyJudge$Image", name := "<init>", desc := "()V" } : Jvm.MethodName)) ∈ lw_all := lw_g (lw_at lw_m5 118 rfl) rfl
theorem q1136 : (Jvm.Cond.code ({ cls := "PennyJudge$Image", name := "<init>", desc := "()V" } : Jvm.MethodName) prog_10_method_1_code (1 : Nat) (Option.none : Option Jvm.ClassFile.FieldType)) ∈ lw_all := lw_g (lw_at lw_m5 119 rfl) rfl
theorem q1137 : (Jvm.Cond.methodLink "PennyJudge$Image" (1 : Nat) ({ cls := "java/lang/Object", name := "<init>", desc := "()V" } : Jvm.MethodName)) ∈ lw_all := lw_g (lw_at lw_m5 120 rfl) rfl
theorem q1138 : (Jvm.Cond.fieldLink "PennyJudge$Image" (7 : Nat) "PennyJudge$Image" "accounts" "[J") ∈ lw_all := lw_g (lw_at lw_m5 121 rfl) rfl
theorem q1140 : (Jvm.Cond.fieldLink "PennyJudge$Image" (13 : Nat) "PennyJudge$Image" "num" "[J") ∈ lw_all := lw_g (lw_at lw_m5 123 rfl) rfl
theorem q1142 : (Jvm.Cond.fieldLink "PennyJudge$Image" (16 : Nat) "PennyJudge$Image" "den" "[J") ∈ lw_all := lw_g (lw_at lw_m5 125 rfl) rfl
theorem q1144 : (Jvm.Cond.fieldLink "PennyJudge$Image" (19 : Nat) "PennyJudge$Image" "leaks" "I") ∈ lw_all := lw_g (lw_at lw_m5 127 rfl) rfl
theorem q1147 : (Jvm.Cond.laysFinal "PennyJudge$Image" "PennyJudge$Image" "accounts" "[J") ∈ lw_all := lw_g (lw_at lw_m5 130 rfl) rfl
theorem q1148 : (Jvm.Cond.soleField "PennyJudge$Image" "accounts") ∈ lw_all := lw_g (lw_at lw_m5 131 rfl) rfl
theorem q1149 : (Jvm.Cond.laysFinal "PennyJudge$Image" "PennyJudge$Image" "num" "[J") ∈ lw_all := lw_g (lw_at lw_m5 132 rfl) rfl
theorem q1150 : (Jvm.Cond.soleField "PennyJudge$Image" "num") ∈ lw_all := lw_g (lw_at lw_m5 133 rfl) rfl
theorem q1151 : (Jvm.Cond.laysFinal "PennyJudge$Image" "PennyJudge$Image" "den" "[J") ∈ lw_all := lw_g (lw_at lw_m5 134 rfl) rfl
theorem q1152 : (Jvm.Cond.soleField "PennyJudge$Image" "den") ∈ lw_all := lw_g (lw_at lw_m5 135 rfl) rfl
theorem q1153 : (Jvm.Cond.lays "PennyJudge$Image" "PennyJudge$Image" "leaks" "I") ∈ lw_all := lw_g (lw_at lw_m5 136 rfl) rfl
theorem q1154 : (Jvm.Cond.soleField "PennyJudge$Image" "leaks") ∈ lw_all := lw_g (lw_at lw_m5 137 rfl) rfl
theorem q1155 : (Jvm.Cond.lays "PennyJudge$Image" "PennyJudge$Image" "programs" "I") ∈ lw_all := lw_g (lw_at lw_m5 138 rfl) rfl
theorem q1156 : (Jvm.Cond.soleField "PennyJudge$Image" "programs") ∈ lw_all := lw_g (lw_at lw_m5 139 rfl) rfl
theorem q1157 : (Jvm.Cond.superclass "PennyJudge$Image" "java/lang/Object") ∈ lw_all := lw_g (lw_at lw_m5 140 rfl) rfl
theorem q1207 : (Jvm.Cond.instanceMethod ({ cls := "PennyJudge$Image", name := "failure", desc := "()LPennyJudge$Leak;" } : Jvm.MethodName)) ∈ lw_all := lw_g (lw_at lw_m5 190 rfl) rfl
theorem q1208 : (Jvm.Cond.selects "PennyJudge$Image" ({ cls := "PennyJudge$Image", name := "failure", desc := "()LPennyJudge$Leak;" } : Jvm.MethodName) ({ cls := "PennyJudge$Image", name := "failure", desc := "()LPennyJudge$Leak;" } : Jvm.MethodName)) ∈ lw_all := lw_g (lw_at lw_m5 191 rfl) rfl
theorem q1209 : (Jvm.Cond.code ({ cls := "PennyJudge$Image", name := "failure", desc := "()LPennyJudge$Leak;" } : Jvm.MethodName) prog_10_method_2_code (1 : Nat) (Option.some (Jvm.ClassFile.FieldType.object "PennyJudge$Leak"))) ∈ lw_all := lw_g (lw_at lw_m5 192 rfl) rfl
theorem q1210 : (Jvm.Cond.classLink "PennyJudge$Image" (23 : Nat) "PennyJudge$Leak") ∈ lw_all := lw_g (lw_at lw_m5 193 rfl) rfl
theorem q1219 : (Jvm.Cond.methodLink "PennyJudge$Image" (25 : Nat) ({ cls := "PennyJudge$Leak", name := "<init>", desc := "(I)V" } : Jvm.MethodName)) ∈ lw_all := lw_g (lw_at lw_m5 202 rfl) rfl
theorem in_X20 : ∀ w ∈ wsX200, w ∈ lw_all := lw_in wsX200 [1147, 1149, 1151, 1153, 1155] (by decide +kernel) (by decide +kernel)

/-! PennyJudge$Leak -/
set_option maxRecDepth 100000
def RX21 : String := "PennyJudge$Leak"
def TX21 : u_T := fun k => match k with
  | 0 => ("java/lang/Throwable", "cause", "Ljava/lang/Throwable;", false)
  | 1 => ("java/lang/Throwable", "stackTrace", "[Ljava/lang/StackTraceElement;", false)
  | 2 => ("java/lang/Throwable", "suppressedExceptions", "Ljava/util/List;", false)
  | 3 => ("java/lang/Throwable", "detailMessage", "Ljava/lang/String;", false)
  | 4 => ("java/lang/Throwable", "backtrace", "Ljava/lang/Object;", false)
  | 5 => ("java/lang/Throwable", "depth", "I", false)
  | _ => ("PennyJudge$Leak", "leaks", "I", true)
def tyX21 : Nat → FieldType := fun k => match k with
  | 0 => .object "java/lang/Throwable"
  | 1 => .array (.object "java/lang/StackTraceElement")
  | 2 => .object "java/util/List"
  | 3 => .object "java/lang/String"
  | 4 => .object "java/lang/Object"
  | 5 => .int
  | _ => .int
abbrev wsX210 : List Cond := u_ws RX21 TX21 7
theorem nmX21 : ∀ a, a < 7 → ∀ b, b < 7 → a ≠ b → (TX21 a).2.1 ≠ (TX21 b).2.1 := by decide +kernel
theorem tyX21_ok : ∀ k, k < 7 → parseFieldDescriptor (TX21 k).2.2.1 = some (tyX21 k) := by decide +kernel
abbrev cX21_init : ByteArray := prog_11_method_1_code
def yX21_init : MethodName := ⟨RX21, "<init>", "(I)V"⟩
def dkwX21_init_0 : List UInt8 := [42, 183, 0, 1, 42, 27, 181, 0, 7, 177]
abbrev dktX21_init_0 : List UInt8 := dkwX21_init_0 ++ []
theorem dksX21_init_0 : cX21_init.data.toList.drop 0 = dktX21_init_0 := by decide +kernel
theorem dX21_init_0 : decode cX21_init 0 = .ok (.aload_n 0, 1) := dk_42 (dk_at dksX21_init_0 0 rfl rfl)
theorem dX21_init_1 : decode cX21_init 1 = .ok (.invokespecial 1, 3) := dk_183 0 1 (dk_at dksX21_init_0 1 rfl rfl)
theorem dX21_init_4 : decode cX21_init 4 = .ok (.aload_n 0, 1) := dk_42 (dk_at dksX21_init_0 4 rfl rfl)
theorem dX21_init_5 : decode cX21_init 5 = .ok (.iload_n 1, 1) := dk_27 (dk_at dksX21_init_0 5 rfl rfl)
theorem dX21_init_6 : decode cX21_init 6 = .ok (.putfield 7, 3) := dk_181 0 7 (dk_at dksX21_init_0 6 rfl rfl)
theorem dX21_init_9 : decode cX21_init 9 = .ok (.return_, 1) := dk_177 (dk_at dksX21_init_0 9 rfl rfl)
theorem q90 : (Jvm.Cond.initialized "PennyJudge$Leak") ∈ lw_all := lw_g (lw_at lw_m1 33 rfl) rfl
theorem q1052 : (Jvm.Cond.selects "PennyJudge$Leak" ({ cls := "java/lang/Throwable", name := "fillInStackTrace", desc := "()Ljava/lang/Throwable;" } : Jvm.MethodName) ({ cls := "java/lang/Throwable", name := "fillInStackTrace", desc := "()Ljava/lang/Throwable;" } : Jvm.MethodName)) ∈ lw_all := lw_g (lw_at lw_m5 35 rfl) rfl
theorem q1211 : (Jvm.Cond.instantiable "PennyJudge$Leak" (7 : Nat)) ∈ lw_all := lw_g (lw_at lw_m5 194 rfl) rfl
theorem q1212 : (Jvm.Cond.castable "PennyJudge$Leak" "PennyJudge$Leak") ∈ lw_tbl := lw_at lw_m5 195 rfl
theorem q1213 : (Jvm.Cond.selects "PennyJudge$Leak" ({ cls := "java/lang/Throwable", name := "fillInStackTrace", desc := "(I)Ljava/lang/Throwable;" } : Jvm.MethodName) ({ cls := "java/lang/Throwable", name := "fillInStackTrace", desc := "(I)Ljava/lang/Throwable;" } : Jvm.MethodName)) ∈ lw_all := lw_g (lw_at lw_m5 196 rfl) rfl
theorem q1214 : (Jvm.Cond.lays "PennyJudge$Leak" "java/lang/Throwable" "cause" "Ljava/lang/Throwable;") ∈ lw_all := lw_g (lw_at lw_m5 197 rfl) rfl
theorem q1215 : (Jvm.Cond.lays "PennyJudge$Leak" "java/lang/Throwable" "stackTrace" "[Ljava/lang/StackTraceElement;") ∈ lw_all := lw_g (lw_at lw_m5 198 rfl) rfl
theorem q1216 : (Jvm.Cond.lays "PennyJudge$Leak" "java/lang/Throwable" "suppressedExceptions" "Ljava/util/List;") ∈ lw_all := lw_g (lw_at lw_m5 199 rfl) rfl
theorem q1217 : (Jvm.Cond.lays "PennyJudge$Leak" "java/lang/Throwable" "detailMessage" "Ljava/lang/String;") ∈ lw_all := lw_g (lw_at lw_m5 200 rfl) rfl
theorem q1218 : (Jvm.Cond.lays "PennyJudge$Leak" "java/lang/Throwable" "backtrace" "Ljava/lang/Object;") ∈ lw_all := lw_g (lw_at lw_m5 201 rfl) rfl
theorem q1220 : (Jvm.Cond.instanceMethod ({ cls := "PennyJudge$Leak", name := "<init>", desc := "(I)V" } : Jvm.MethodName)) ∈ lw_all := lw_g (lw_at lw_m5 203 rfl) rfl
theorem q1221 : (Jvm.Cond.code ({ cls := "PennyJudge$Leak", name := "<init>", desc := "(I)V" } : Jvm.MethodName) prog_11_method_1_code (2 : Nat) (Option.none : Option Jvm.ClassFile.FieldType)) ∈ lw_all := lw_g (lw_at lw_m5 204 rfl) rfl
theorem q1222 : (Jvm.Cond.methodLink "PennyJudge$Leak" (1 : Nat) ({ cls := "java/lang/RuntimeException", name := "<init>", desc := "()V" } : Jvm.MethodName)) ∈ lw_all := lw_g (lw_at lw_m5 205 rfl) rfl
theorem q1223 : (Jvm.Cond.fieldLink "PennyJudge$Leak" (7 : Nat) "PennyJudge$Leak" "leaks" "I") ∈ lw_all := lw_g (lw_at lw_m5 206 rfl) rfl
theorem q1225 : (Jvm.Cond.laysFinal "PennyJudge$Leak" "PennyJudge$Leak" "leaks" "I") ∈ lw_all := lw_g (lw_at lw_m5 208 rfl) rfl
theorem q1226 : (Jvm.Cond.soleField "PennyJudge$Leak" "leaks") ∈ lw_all := lw_g (lw_at lw_m5 209 rfl) rfl
theorem q1227 : (Jvm.Cond.lays "PennyJudge$Leak" "java/lang/Throwable" "depth" "I") ∈ lw_all := lw_g (lw_at lw_m5 210 rfl) rfl
theorem q1228 : (Jvm.Cond.superclass "PennyJudge$Leak" "java/lang/RuntimeException") ∈ lw_all := lw_g (lw_at lw_m5 211 rfl) rfl
theorem in_X21 : ∀ w ∈ wsX210, w ∈ lw_all := lw_in wsX210 [1214, 1215, 1216, 1217, 1218, 1227, 1225] (by decide +kernel) (by decide +kernel)

/-! PennyJudgeLaw -/
set_option maxRecDepth 100000
def RX0 : String := "PennyJudgeLaw"
abbrev cX0_account : ByteArray := method_3_code
def yX0_account : MethodName := ⟨RX0, "account", "(LPennyJudge;I[J)I"⟩
def dkwX0_account_0 : List UInt8 := [44, 3, 42, 27, 182, 0, 7, 80, 167, 0, 6, 78, 4, 172, 3, 172]
abbrev dktX0_account_0 : List UInt8 := dkwX0_account_0 ++ []
theorem dksX0_account_0 : cX0_account.data.toList.drop 0 = dktX0_account_0 := by decide +kernel
theorem dX0_account_0 : decode cX0_account 0 = .ok (.aload_n 2, 1) := dk_44 (dk_at dksX0_account_0 0 rfl rfl)
theorem dX0_account_1 : decode cX0_account 1 = .ok (.iconst 0, 1) := dk_3 (dk_at dksX0_account_0 1 rfl rfl)
theorem dX0_account_2 : decode cX0_account 2 = .ok (.aload_n 0, 1) := dk_42 (dk_at dksX0_account_0 2 rfl rfl)
theorem dX0_account_3 : decode cX0_account 3 = .ok (.iload_n 1, 1) := dk_27 (dk_at dksX0_account_0 3 rfl rfl)
theorem dX0_account_4 : decode cX0_account 4 = .ok (.invokevirtual 7, 3) := dk_182 0 7 (dk_at dksX0_account_0 4 rfl rfl)
theorem dX0_account_7 : decode cX0_account 7 = .ok (.lastore, 1) := dk_80 (dk_at dksX0_account_0 7 rfl rfl)
theorem dX0_account_8 : decode cX0_account 8 = .ok (.goto 6, 3) := dk_167 0 6 (dk_at dksX0_account_0 8 rfl rfl)
theorem dX0_account_11 : decode cX0_account 11 = .ok (.astore_n 3, 1) := dk_78 (dk_at dksX0_account_0 11 rfl rfl)
theorem dX0_account_12 : decode cX0_account 12 = .ok (.iconst 1, 1) := dk_4 (dk_at dksX0_account_0 12 rfl rfl)
theorem dX0_account_13 : decode cX0_account 13 = .ok (.ireturn, 1) := dk_172 (dk_at dksX0_account_0 13 rfl rfl)
theorem dX0_account_14 : decode cX0_account 14 = .ok (.iconst 0, 1) := dk_3 (dk_at dksX0_account_0 14 rfl rfl)
theorem dX0_account_15 : decode cX0_account 15 = .ok (.ireturn, 1) := dk_172 (dk_at dksX0_account_0 15 rfl rfl)
abbrev cX0_slot : ByteArray := method_4_code
def yX0_slot : MethodName := ⟨RX0, "slot", "(LPennyJudge;II[J)I"⟩
def dkwX0_slot_0 : List UInt8 := [45, 3, 42, 27, 28, 182, 0, 15, 80, 167, 0, 7, 58, 4, 4, 172, 3, 172]
abbrev dktX0_slot_0 : List UInt8 := dkwX0_slot_0 ++ []
theorem dksX0_slot_0 : cX0_slot.data.toList.drop 0 = dktX0_slot_0 := by decide +kernel
theorem dX0_slot_0 : decode cX0_slot 0 = .ok (.aload_n 3, 1) := dk_45 (dk_at dksX0_slot_0 0 rfl rfl)
theorem dX0_slot_1 : decode cX0_slot 1 = .ok (.iconst 0, 1) := dk_3 (dk_at dksX0_slot_0 1 rfl rfl)
theorem dX0_slot_2 : decode cX0_slot 2 = .ok (.aload_n 0, 1) := dk_42 (dk_at dksX0_slot_0 2 rfl rfl)
theorem dX0_slot_3 : decode cX0_slot 3 = .ok (.iload_n 1, 1) := dk_27 (dk_at dksX0_slot_0 3 rfl rfl)
theorem dX0_slot_4 : decode cX0_slot 4 = .ok (.iload_n 2, 1) := dk_28 (dk_at dksX0_slot_0 4 rfl rfl)
theorem dX0_slot_5 : decode cX0_slot 5 = .ok (.invokevirtual 15, 3) := dk_182 0 15 (dk_at dksX0_slot_0 5 rfl rfl)
theorem dX0_slot_8 : decode cX0_slot 8 = .ok (.lastore, 1) := dk_80 (dk_at dksX0_slot_0 8 rfl rfl)
theorem dX0_slot_9 : decode cX0_slot 9 = .ok (.goto 7, 3) := dk_167 0 7 (dk_at dksX0_slot_0 9 rfl rfl)
theorem dX0_slot_12 : decode cX0_slot 12 = .ok (.astore 4, 2) := dk_58 4 (dk_at dksX0_slot_0 12 rfl rfl)
theorem dX0_slot_14 : decode cX0_slot 14 = .ok (.iconst 1, 1) := dk_4 (dk_at dksX0_slot_0 14 rfl rfl)
theorem dX0_slot_15 : decode cX0_slot 15 = .ok (.ireturn, 1) := dk_172 (dk_at dksX0_slot_0 15 rfl rfl)
theorem dX0_slot_16 : decode cX0_slot 16 = .ok (.iconst 0, 1) := dk_3 (dk_at dksX0_slot_0 16 rfl rfl)
theorem dX0_slot_17 : decode cX0_slot 17 = .ok (.ireturn, 1) := dk_172 (dk_at dksX0_slot_0 17 rfl rfl)
abbrev cX0_part : ByteArray := method_5_code
def yX0_part : MethodName := ⟨RX0, "part", "(LPennyJudge;I[J)I"⟩
def dkwX0_part_0 : List UInt8 := [44, 3, 42, 27, 182, 0, 19, 80, 167, 0, 6, 78, 4, 172, 3, 172]
abbrev dktX0_part_0 : List UInt8 := dkwX0_part_0 ++ []
theorem dksX0_part_0 : cX0_part.data.toList.drop 0 = dktX0_part_0 := by decide +kernel
theorem dX0_part_0 : decode cX0_part 0 = .ok (.aload_n 2, 1) := dk_44 (dk_at dksX0_part_0 0 rfl rfl)
theorem dX0_part_1 : decode cX0_part 1 = .ok (.iconst 0, 1) := dk_3 (dk_at dksX0_part_0 1 rfl rfl)
theorem dX0_part_2 : decode cX0_part 2 = .ok (.aload_n 0, 1) := dk_42 (dk_at dksX0_part_0 2 rfl rfl)
theorem dX0_part_3 : decode cX0_part 3 = .ok (.iload_n 1, 1) := dk_27 (dk_at dksX0_part_0 3 rfl rfl)
theorem dX0_part_4 : decode cX0_part 4 = .ok (.invokevirtual 19, 3) := dk_182 0 19 (dk_at dksX0_part_0 4 rfl rfl)
theorem dX0_part_7 : decode cX0_part 7 = .ok (.lastore, 1) := dk_80 (dk_at dksX0_part_0 7 rfl rfl)
theorem dX0_part_8 : decode cX0_part 8 = .ok (.goto 6, 3) := dk_167 0 6 (dk_at dksX0_part_0 8 rfl rfl)
theorem dX0_part_11 : decode cX0_part 11 = .ok (.astore_n 3, 1) := dk_78 (dk_at dksX0_part_0 11 rfl rfl)
theorem dX0_part_12 : decode cX0_part 12 = .ok (.iconst 1, 1) := dk_4 (dk_at dksX0_part_0 12 rfl rfl)
theorem dX0_part_13 : decode cX0_part 13 = .ok (.ireturn, 1) := dk_172 (dk_at dksX0_part_0 13 rfl rfl)
theorem dX0_part_14 : decode cX0_part 14 = .ok (.iconst 0, 1) := dk_3 (dk_at dksX0_part_0 14 rfl rfl)
theorem dX0_part_15 : decode cX0_part 15 = .ok (.ireturn, 1) := dk_172 (dk_at dksX0_part_0 15 rfl rfl)
abbrev cX0_got : ByteArray := method_6_code
def yX0_got : MethodName := ⟨RX0, "got", "(LPennyJudge;I[J)I"⟩
def dkwX0_got_0 : List UInt8 := [44, 3, 42, 27, 182, 0, 22, 80, 167, 0, 6, 78, 4, 172, 3, 172]
abbrev dktX0_got_0 : List UInt8 := dkwX0_got_0 ++ []
theorem dksX0_got_0 : cX0_got.data.toList.drop 0 = dktX0_got_0 := by decide +kernel
theorem dX0_got_0 : decode cX0_got 0 = .ok (.aload_n 2, 1) := dk_44 (dk_at dksX0_got_0 0 rfl rfl)
theorem dX0_got_1 : decode cX0_got 1 = .ok (.iconst 0, 1) := dk_3 (dk_at dksX0_got_0 1 rfl rfl)
theorem dX0_got_2 : decode cX0_got 2 = .ok (.aload_n 0, 1) := dk_42 (dk_at dksX0_got_0 2 rfl rfl)
theorem dX0_got_3 : decode cX0_got 3 = .ok (.iload_n 1, 1) := dk_27 (dk_at dksX0_got_0 3 rfl rfl)
theorem dX0_got_4 : decode cX0_got 4 = .ok (.invokevirtual 22, 3) := dk_182 0 22 (dk_at dksX0_got_0 4 rfl rfl)
theorem dX0_got_7 : decode cX0_got 7 = .ok (.lastore, 1) := dk_80 (dk_at dksX0_got_0 7 rfl rfl)
theorem dX0_got_8 : decode cX0_got 8 = .ok (.goto 6, 3) := dk_167 0 6 (dk_at dksX0_got_0 8 rfl rfl)
theorem dX0_got_11 : decode cX0_got 11 = .ok (.astore_n 3, 1) := dk_78 (dk_at dksX0_got_0 11 rfl rfl)
theorem dX0_got_12 : decode cX0_got 12 = .ok (.iconst 1, 1) := dk_4 (dk_at dksX0_got_0 12 rfl rfl)
theorem dX0_got_13 : decode cX0_got 13 = .ok (.ireturn, 1) := dk_172 (dk_at dksX0_got_0 13 rfl rfl)
theorem dX0_got_14 : decode cX0_got 14 = .ok (.iconst 0, 1) := dk_3 (dk_at dksX0_got_0 14 rfl rfl)
theorem dX0_got_15 : decode cX0_got 15 = .ok (.ireturn, 1) := dk_172 (dk_at dksX0_got_0 15 rfl rfl)
abbrev cX0_carried : ByteArray := method_7_code
def yX0_carried : MethodName := ⟨RX0, "carried", "(LPennyJudge;II[J)I"⟩
def dkwX0_carried_0 : List UInt8 := [45, 3, 42, 27, 28, 182, 0, 25, 80, 167, 0, 7, 58, 4, 4, 172, 3, 172]
abbrev dktX0_carried_0 : List UInt8 := dkwX0_carried_0 ++ []
theorem dksX0_carried_0 : cX0_carried.data.toList.drop 0 = dktX0_carried_0 := by decide +kernel
theorem dX0_carried_0 : decode cX0_carried 0 = .ok (.aload_n 3, 1) := dk_45 (dk_at dksX0_carried_0 0 rfl rfl)
theorem dX0_carried_1 : decode cX0_carried 1 = .ok (.iconst 0, 1) := dk_3 (dk_at dksX0_carried_0 1 rfl rfl)
theorem dX0_carried_2 : decode cX0_carried 2 = .ok (.aload_n 0, 1) := dk_42 (dk_at dksX0_carried_0 2 rfl rfl)
theorem dX0_carried_3 : decode cX0_carried 3 = .ok (.iload_n 1, 1) := dk_27 (dk_at dksX0_carried_0 3 rfl rfl)
theorem dX0_carried_4 : decode cX0_carried 4 = .ok (.iload_n 2, 1) := dk_28 (dk_at dksX0_carried_0 4 rfl rfl)
theorem dX0_carried_5 : decode cX0_carried 5 = .ok (.invokevirtual 25, 3) := dk_182 0 25 (dk_at dksX0_carried_0 5 rfl rfl)
theorem dX0_carried_8 : decode cX0_carried 8 = .ok (.lastore, 1) := dk_80 (dk_at dksX0_carried_0 8 rfl rfl)
theorem dX0_carried_9 : decode cX0_carried 9 = .ok (.goto 7, 3) := dk_167 0 7 (dk_at dksX0_carried_0 9 rfl rfl)
theorem dX0_carried_12 : decode cX0_carried 12 = .ok (.astore 4, 2) := dk_58 4 (dk_at dksX0_carried_0 12 rfl rfl)
theorem dX0_carried_14 : decode cX0_carried 14 = .ok (.iconst 1, 1) := dk_4 (dk_at dksX0_carried_0 14 rfl rfl)
theorem dX0_carried_15 : decode cX0_carried 15 = .ok (.ireturn, 1) := dk_172 (dk_at dksX0_carried_0 15 rfl rfl)
theorem dX0_carried_16 : decode cX0_carried 16 = .ok (.iconst 0, 1) := dk_3 (dk_at dksX0_carried_0 16 rfl rfl)
theorem dX0_carried_17 : decode cX0_carried 17 = .ok (.ireturn, 1) := dk_172 (dk_at dksX0_carried_0 17 rfl rfl)
abbrev cX0_drift : ByteArray := method_8_code
def yX0_drift : MethodName := ⟨RX0, "drift", "(LPennyJudge;IIIII[J)I"⟩
def dkwX0_drift_1 : List UInt8 := [172]
abbrev dktX0_drift_1 : List UInt8 := dkwX0_drift_1 ++ []
def dkwX0_drift_0 : List UInt8 := [25, 6, 3, 42, 27, 28, 29, 21, 4, 21, 5, 182, 0, 28, 133, 80, 167, 0, 7, 58, 7, 4, 172, 3]
abbrev dktX0_drift_0 : List UInt8 := dkwX0_drift_0 ++ dktX0_drift_1
theorem dksX0_drift_0 : cX0_drift.data.toList.drop 0 = dktX0_drift_0 := by decide +kernel
theorem dksX0_drift_1 : cX0_drift.data.toList.drop 24 = dktX0_drift_1 := dk_seg dksX0_drift_0 24 rfl rfl
theorem dX0_drift_0 : decode cX0_drift 0 = .ok (.aload 6, 2) := dk_25 6 (dk_at dksX0_drift_0 0 rfl rfl)
theorem dX0_drift_2 : decode cX0_drift 2 = .ok (.iconst 0, 1) := dk_3 (dk_at dksX0_drift_0 2 rfl rfl)
theorem dX0_drift_3 : decode cX0_drift 3 = .ok (.aload_n 0, 1) := dk_42 (dk_at dksX0_drift_0 3 rfl rfl)
theorem dX0_drift_4 : decode cX0_drift 4 = .ok (.iload_n 1, 1) := dk_27 (dk_at dksX0_drift_0 4 rfl rfl)
theorem dX0_drift_5 : decode cX0_drift 5 = .ok (.iload_n 2, 1) := dk_28 (dk_at dksX0_drift_0 5 rfl rfl)
theorem dX0_drift_6 : decode cX0_drift 6 = .ok (.iload_n 3, 1) := dk_29 (dk_at dksX0_drift_0 6 rfl rfl)
theorem dX0_drift_7 : decode cX0_drift 7 = .ok (.iload 4, 2) := dk_21 4 (dk_at dksX0_drift_0 7 rfl rfl)
theorem dX0_drift_9 : decode cX0_drift 9 = .ok (.iload 5, 2) := dk_21 5 (dk_at dksX0_drift_0 9 rfl rfl)
theorem dX0_drift_11 : decode cX0_drift 11 = .ok (.invokevirtual 28, 3) := dk_182 0 28 (dk_at dksX0_drift_0 11 rfl rfl)
theorem dX0_drift_14 : decode cX0_drift 14 = .ok (.i2l, 1) := dk_133 (dk_at dksX0_drift_0 14 rfl rfl)
theorem dX0_drift_15 : decode cX0_drift 15 = .ok (.lastore, 1) := dk_80 (dk_at dksX0_drift_0 15 rfl rfl)
theorem dX0_drift_16 : decode cX0_drift 16 = .ok (.goto 7, 3) := dk_167 0 7 (dk_at dksX0_drift_0 16 rfl rfl)
theorem dX0_drift_19 : decode cX0_drift 19 = .ok (.astore 7, 2) := dk_58 7 (dk_at dksX0_drift_0 19 rfl rfl)
theorem dX0_drift_21 : decode cX0_drift 21 = .ok (.iconst 1, 1) := dk_4 (dk_at dksX0_drift_0 21 rfl rfl)
theorem dX0_drift_22 : decode cX0_drift 22 = .ok (.ireturn, 1) := dk_172 (dk_at dksX0_drift_0 22 rfl rfl)
theorem dX0_drift_23 : decode cX0_drift 23 = .ok (.iconst 0, 1) := dk_3 (dk_at dksX0_drift_0 23 rfl rfl)
theorem dX0_drift_24 : decode cX0_drift 24 = .ok (.ireturn, 1) := dk_172 (dk_at dksX0_drift_1 0 rfl rfl)
abbrev cX0_rounded : ByteArray := method_9_code
def yX0_rounded : MethodName := ⟨RX0, "rounded", "(LPennyJudge;JIII[J)I"⟩
def dkwX0_rounded_0 : List UInt8 := [25, 6, 3, 42, 31, 29, 21, 4, 21, 5, 182, 0, 32, 80, 167, 0, 7, 58, 7, 4, 172, 3, 172]
abbrev dktX0_rounded_0 : List UInt8 := dkwX0_rounded_0 ++ []
theorem dksX0_rounded_0 : cX0_rounded.data.toList.drop 0 = dktX0_rounded_0 := by decide +kernel
theorem dX0_rounded_0 : decode cX0_rounded 0 = .ok (.aload 6, 2) := dk_25 6 (dk_at dksX0_rounded_0 0 rfl rfl)
theorem dX0_rounded_2 : decode cX0_rounded 2 = .ok (.iconst 0, 1) := dk_3 (dk_at dksX0_rounded_0 2 rfl rfl)
theorem dX0_rounded_3 : decode cX0_rounded 3 = .ok (.aload_n 0, 1) := dk_42 (dk_at dksX0_rounded_0 3 rfl rfl)
theorem dX0_rounded_4 : decode cX0_rounded 4 = .ok (.lload_n 1, 1) := dk_31 (dk_at dksX0_rounded_0 4 rfl rfl)
theorem dX0_rounded_5 : decode cX0_rounded 5 = .ok (.iload_n 3, 1) := dk_29 (dk_at dksX0_rounded_0 5 rfl rfl)
theorem dX0_rounded_6 : decode cX0_rounded 6 = .ok (.iload 4, 2) := dk_21 4 (dk_at dksX0_rounded_0 6 rfl rfl)
theorem dX0_rounded_8 : decode cX0_rounded 8 = .ok (.iload 5, 2) := dk_21 5 (dk_at dksX0_rounded_0 8 rfl rfl)
theorem dX0_rounded_10 : decode cX0_rounded 10 = .ok (.invokevirtual 32, 3) := dk_182 0 32 (dk_at dksX0_rounded_0 10 rfl rfl)
theorem dX0_rounded_13 : decode cX0_rounded 13 = .ok (.lastore, 1) := dk_80 (dk_at dksX0_rounded_0 13 rfl rfl)
theorem dX0_rounded_14 : decode cX0_rounded 14 = .ok (.goto 7, 3) := dk_167 0 7 (dk_at dksX0_rounded_0 14 rfl rfl)
theorem dX0_rounded_17 : decode cX0_rounded 17 = .ok (.astore 7, 2) := dk_58 7 (dk_at dksX0_rounded_0 17 rfl rfl)
theorem dX0_rounded_19 : decode cX0_rounded 19 = .ok (.iconst 1, 1) := dk_4 (dk_at dksX0_rounded_0 19 rfl rfl)
theorem dX0_rounded_20 : decode cX0_rounded 20 = .ok (.ireturn, 1) := dk_172 (dk_at dksX0_rounded_0 20 rfl rfl)
theorem dX0_rounded_21 : decode cX0_rounded 21 = .ok (.iconst 0, 1) := dk_3 (dk_at dksX0_rounded_0 21 rfl rfl)
theorem dX0_rounded_22 : decode cX0_rounded 22 = .ok (.ireturn, 1) := dk_172 (dk_at dksX0_rounded_0 22 rfl rfl)
abbrev cX0_at : ByteArray := method_10_code
def yX0_at : MethodName := ⟨RX0, "at", "(LPennyJudge;II[J)I"⟩
def dkwX0_at_0 : List UInt8 := [45, 3, 42, 27, 28, 182, 0, 36, 80, 167, 0, 11, 58, 4, 4, 172, 58, 4, 5, 172, 3, 172]
abbrev dktX0_at_0 : List UInt8 := dkwX0_at_0 ++ []
theorem dksX0_at_0 : cX0_at.data.toList.drop 0 = dktX0_at_0 := by decide +kernel
theorem dX0_at_0 : decode cX0_at 0 = .ok (.aload_n 3, 1) := dk_45 (dk_at dksX0_at_0 0 rfl rfl)
theorem dX0_at_1 : decode cX0_at 1 = .ok (.iconst 0, 1) := dk_3 (dk_at dksX0_at_0 1 rfl rfl)
theorem dX0_at_2 : decode cX0_at 2 = .ok (.aload_n 0, 1) := dk_42 (dk_at dksX0_at_0 2 rfl rfl)
theorem dX0_at_3 : decode cX0_at 3 = .ok (.iload_n 1, 1) := dk_27 (dk_at dksX0_at_0 3 rfl rfl)
theorem dX0_at_4 : decode cX0_at 4 = .ok (.iload_n 2, 1) := dk_28 (dk_at dksX0_at_0 4 rfl rfl)
theorem dX0_at_5 : decode cX0_at 5 = .ok (.invokevirtual 36, 3) := dk_182 0 36 (dk_at dksX0_at_0 5 rfl rfl)
theorem dX0_at_8 : decode cX0_at 8 = .ok (.lastore, 1) := dk_80 (dk_at dksX0_at_0 8 rfl rfl)
theorem dX0_at_9 : decode cX0_at 9 = .ok (.goto 11, 3) := dk_167 0 11 (dk_at dksX0_at_0 9 rfl rfl)
theorem dX0_at_12 : decode cX0_at 12 = .ok (.astore 4, 2) := dk_58 4 (dk_at dksX0_at_0 12 rfl rfl)
theorem dX0_at_14 : decode cX0_at 14 = .ok (.iconst 1, 1) := dk_4 (dk_at dksX0_at_0 14 rfl rfl)
theorem dX0_at_15 : decode cX0_at 15 = .ok (.ireturn, 1) := dk_172 (dk_at dksX0_at_0 15 rfl rfl)
theorem dX0_at_16 : decode cX0_at 16 = .ok (.astore 4, 2) := dk_58 4 (dk_at dksX0_at_0 16 rfl rfl)
theorem dX0_at_18 : decode cX0_at 18 = .ok (.iconst 2, 1) := dk_5 (dk_at dksX0_at_0 18 rfl rfl)
theorem dX0_at_19 : decode cX0_at 19 = .ok (.ireturn, 1) := dk_172 (dk_at dksX0_at_0 19 rfl rfl)
theorem dX0_at_20 : decode cX0_at 20 = .ok (.iconst 0, 1) := dk_3 (dk_at dksX0_at_0 20 rfl rfl)
theorem dX0_at_21 : decode cX0_at 21 = .ok (.ireturn, 1) := dk_172 (dk_at dksX0_at_0 21 rfl rfl)
theorem q57 : (Jvm.Cond.initialized "PennyJudgeLaw") ∈ lw_all := lw_g (lw_at lw_m1 0 rfl) rfl
theorem q95 : (Jvm.Cond.classLink "PennyJudgeLaw" (8 : Nat) "PennyJudge") ∈ lw_all := lw_g (lw_at lw_m1 38 rfl) rfl
theorem q97 : (Jvm.Cond.methodLink "PennyJudgeLaw" (41 : Nat) ({ cls := "PennyJudge", name := "<init>", desc := "()V" } : Jvm.MethodName)) ∈ lw_all := lw_g (lw_at lw_m1 40 rfl) rfl
theorem q346 : (Jvm.Cond.methodLink "PennyJudgeLaw" (45 : Nat) ({ cls := "PennyJudge", name := "begin", desc := "()I" } : Jvm.MethodName)) ∈ lw_all := lw_g (lw_at lw_m2 49 rfl) rfl
theorem q347 : (Jvm.Cond.methodLink "PennyJudgeLaw" (50 : Nat) ({ cls := "PennyJudge", name := "rate", desc := "(III)I" } : Jvm.MethodName)) ∈ lw_all := lw_g (lw_at lw_m2 50 rfl) rfl
theorem q351 : (Jvm.Cond.methodLink "PennyJudgeLaw" (55 : Nat) ({ cls := "PennyJudge", name := "line", desc := "(I)I" } : Jvm.MethodName)) ∈ lw_all := lw_g (lw_at lw_m2 54 rfl) rfl
theorem q357 : (Jvm.Cond.methodLink "PennyJudgeLaw" (60 : Nat) ({ cls := "PennyJudge", name := "bare", desc := "()I" } : Jvm.MethodName)) ∈ lw_all := lw_g (lw_at lw_m2 60 rfl) rfl
theorem q361 : (Jvm.Cond.methodLink "PennyJudgeLaw" (64 : Nat) ({ cls := "PennyJudge", name := "weight", desc := "(II)I" } : Jvm.MethodName)) ∈ lw_all := lw_g (lw_at lw_m2 64 rfl) rfl
theorem q365 : (Jvm.Cond.methodLink "PennyJudgeLaw" (69 : Nat) ({ cls := "PennyJudge", name := "program", desc := "()I" } : Jvm.MethodName)) ∈ lw_all := lw_g (lw_at lw_m2 68 rfl) rfl
theorem q392 : (Jvm.Cond.methodLink "PennyJudgeLaw" (73 : Nat) ({ cls := "PennyJudge", name := "act", desc := "(IIIII)I" } : Jvm.MethodName)) ∈ lw_all := lw_g (lw_at lw_m2 95 rfl) rfl
theorem q635 : (Jvm.Cond.methodLink "PennyJudgeLaw" (77 : Nat) ({ cls := "PennyJudge", name := "set", desc := "(IIII)I" } : Jvm.MethodName)) ∈ lw_all := lw_g (lw_at lw_m3 98 rfl) rfl
theorem q639 : (Jvm.Cond.methodLink "PennyJudgeLaw" (82 : Nat) ({ cls := "PennyJudge", name := "told", desc := "(III)I" } : Jvm.MethodName)) ∈ lw_all := lw_g (lw_at lw_m3 102 rfl) rfl
theorem q643 : (Jvm.Cond.methodLink "PennyJudgeLaw" (86 : Nat) ({ cls := "PennyJudge", name := "run", desc := "(I)I" } : Jvm.MethodName)) ∈ lw_all := lw_g (lw_at lw_m3 106 rfl) rfl
theorem q785 : (Jvm.Cond.methodLink "PennyJudgeLaw" (90 : Nat) ({ cls := "PennyJudge", name := "years", desc := "(II)I" } : Jvm.MethodName)) ∈ lw_all := lw_g (lw_at lw_m4 8 rfl) rfl
theorem q790 : (Jvm.Cond.methodLink "PennyJudgeLaw" (94 : Nat) ({ cls := "PennyJudge", name := "failed", desc := "()I" } : Jvm.MethodName)) ∈ lw_all := lw_g (lw_at lw_m4 13 rfl) rfl
theorem q794 : (Jvm.Cond.methodLink "PennyJudgeLaw" (120 : Nat) ({ cls := "PennyJudge", name := "least", desc := "(IIIII)I" } : Jvm.MethodName)) ∈ lw_all := lw_g (lw_at lw_m4 17 rfl) rfl
theorem q937 : (Jvm.Cond.methodLink "PennyJudgeLaw" (124 : Nat) ({ cls := "PennyJudge", name := "order", desc := "(I)I" } : Jvm.MethodName)) ∈ lw_all := lw_g (lw_at lw_m4 160 rfl) rfl
theorem q949 : (Jvm.Cond.methodLink "PennyJudgeLaw" (132 : Nat) ({ cls := "PennyJudge", name := "mend", desc := "(IIII)I" } : Jvm.MethodName)) ∈ lw_all := lw_g (lw_at lw_m4 172 rfl) rfl
theorem q1023 : (Jvm.Cond.methodLink "PennyJudgeLaw" (136 : Nat) ({ cls := "PennyJudge", name := "same", desc := "(II)I" } : Jvm.MethodName)) ∈ lw_all := lw_g (lw_at lw_m5 6 rfl) rfl
theorem q1027 : (Jvm.Cond.methodLink "PennyJudgeLaw" (146 : Nat) ({ cls := "PennyJudge", name := "tape", desc := "(III)I" } : Jvm.MethodName)) ∈ lw_all := lw_g (lw_at lw_m5 10 rfl) rfl
theorem q1128 : (Jvm.Cond.methodLink "PennyJudgeLaw" (150 : Nat) ({ cls := "PennyJudge", name := "image", desc := "(I)I" } : Jvm.MethodName)) ∈ lw_all := lw_g (lw_at lw_m5 111 rfl) rfl
theorem q1158 : (Jvm.Cond.methodLink "PennyJudgeLaw" (154 : Nat) ({ cls := "PennyJudge", name := "back", desc := "(I)I" } : Jvm.MethodName)) ∈ lw_all := lw_g (lw_at lw_m5 141 rfl) rfl
theorem q1201 : (Jvm.Cond.methodLink "PennyJudgeLaw" (158 : Nat) ({ cls := "PennyJudge", name := "toss", desc := "(I)I" } : Jvm.MethodName)) ∈ lw_all := lw_g (lw_at lw_m5 184 rfl) rfl
theorem q1229 : (Jvm.Cond.methodLink "PennyJudgeLaw" (162 : Nat) ({ cls := "PennyJudge", name := "load", desc := "(III)I" } : Jvm.MethodName)) ∈ lw_all := lw_g (lw_at lw_m5 212 rfl) rfl
theorem q1263 : (Jvm.Cond.methodLink "PennyJudgeLaw" (166 : Nat) ({ cls := "PennyJudge", name := "clear", desc := "(I)I" } : Jvm.MethodName)) ∈ lw_all := lw_g (lw_at lw_m6 6 rfl) rfl
theorem q1275 : (Jvm.Cond.methodLink "PennyJudgeLaw" (170 : Nat) ({ cls := "PennyJudge", name := "put", desc := "(IIJ)I" } : Jvm.MethodName)) ∈ lw_all := lw_g (lw_at lw_m6 18 rfl) rfl
theorem q1280 : (Jvm.Cond.methodLink "PennyJudgeLaw" (178 : Nat) ({ cls := "PennyJudge", name := "copy", desc := "(IIIII)I" } : Jvm.MethodName)) ∈ lw_all := lw_g (lw_at lw_m6 23 rfl) rfl
theorem q1293 : (Jvm.Cond.methodLink "PennyJudgeLaw" (182 : Nat) ({ cls := "PennyJudge", name := "count", desc := "(I)I" } : Jvm.MethodName)) ∈ lw_all := lw_g (lw_at lw_m6 36 rfl) rfl
theorem q1297 : (Jvm.Cond.methodLink "PennyJudgeLaw" (98 : Nat) ({ cls := "PennyJudgeLaw", name := "account", desc := "(LPennyJudge;I[J)I" } : Jvm.MethodName)) ∈ lw_all := lw_g (lw_at lw_m6 40 rfl) rfl
theorem q1298 : (Jvm.Cond.static ({ cls := "PennyJudgeLaw", name := "account", desc := "(LPennyJudge;I[J)I" } : Jvm.MethodName)) ∈ lw_all := lw_g (lw_at lw_m6 41 rfl) rfl
theorem q1299 : (Jvm.Cond.codeWith ({ cls := "PennyJudgeLaw", name := "account", desc := "(LPennyJudge;I[J)I" } : Jvm.MethodName) method_3_code (4 : Nat) (Option.some Jvm.ClassFile.FieldType.int) [((0 : Nat), (8 : Nat), (11 : Nat), (13 : Nat))]) ∈ lw_all := lw_g (lw_at lw_m6 42 rfl) rfl
theorem q1300 : (Jvm.Cond.classLink "PennyJudgeLaw" (13 : Nat) "java/lang/IllegalArgumentException") ∈ lw_all := lw_g (lw_at lw_m6 43 rfl) rfl
theorem q1301 : (Jvm.Cond.methodLink "PennyJudgeLaw" (7 : Nat) ({ cls := "PennyJudge", name := "account", desc := "(I)J" } : Jvm.MethodName)) ∈ lw_all := lw_g (lw_at lw_m6 44 rfl) rfl
theorem q1320 : (Jvm.Cond.methodLink "PennyJudgeLaw" (107 : Nat) ({ cls := "PennyJudgeLaw", name := "slot", desc := "(LPennyJudge;II[J)I" } : Jvm.MethodName)) ∈ lw_all := lw_g (lw_at lw_m6 63 rfl) rfl
theorem q1321 : (Jvm.Cond.static ({ cls := "PennyJudgeLaw", name := "slot", desc := "(LPennyJudge;II[J)I" } : Jvm.MethodName)) ∈ lw_all := lw_g (lw_at lw_m6 64 rfl) rfl
theorem q1322 : (Jvm.Cond.codeWith ({ cls := "PennyJudgeLaw", name := "slot", desc := "(LPennyJudge;II[J)I" } : Jvm.MethodName) method_4_code (5 : Nat) (Option.some Jvm.ClassFile.FieldType.int) [((0 : Nat), (9 : Nat), (12 : Nat), (13 : Nat))]) ∈ lw_all := lw_g (lw_at lw_m6 65 rfl) rfl
theorem q1323 : (Jvm.Cond.methodLink "PennyJudgeLaw" (15 : Nat) ({ cls := "PennyJudge", name := "slot", desc := "(II)J" } : Jvm.MethodName)) ∈ lw_all := lw_g (lw_at lw_m6 66 rfl) rfl
theorem q1327 : (Jvm.Cond.methodLink "PennyJudgeLaw" (111 : Nat) ({ cls := "PennyJudgeLaw", name := "part", desc := "(LPennyJudge;I[J)I" } : Jvm.MethodName)) ∈ lw_all := lw_g (lw_at lw_m6 70 rfl) rfl
theorem q1328 : (Jvm.Cond.static ({ cls := "PennyJudgeLaw", name := "part", desc := "(LPennyJudge;I[J)I" } : Jvm.MethodName)) ∈ lw_all := lw_g (lw_at lw_m6 71 rfl) rfl
theorem q1329 : (Jvm.Cond.codeWith ({ cls := "PennyJudgeLaw", name := "part", desc := "(LPennyJudge;I[J)I" } : Jvm.MethodName) method_5_code (4 : Nat) (Option.some Jvm.ClassFile.FieldType.int) [((0 : Nat), (8 : Nat), (11 : Nat), (13 : Nat))]) ∈ lw_all := lw_g (lw_at lw_m6 72 rfl) rfl
theorem q1330 : (Jvm.Cond.methodLink "PennyJudgeLaw" (19 : Nat) ({ cls := "PennyJudge", name := "part", desc := "(I)J" } : Jvm.MethodName)) ∈ lw_all := lw_g (lw_at lw_m6 73 rfl) rfl
theorem q1334 : (Jvm.Cond.methodLink "PennyJudgeLaw" (114 : Nat) ({ cls := "PennyJudgeLaw", name := "got", desc := "(LPennyJudge;I[J)I" } : Jvm.MethodName)) ∈ lw_all := lw_g (lw_at lw_m6 77 rfl) rfl
theorem q1335 : (Jvm.Cond.static ({ cls := "PennyJudgeLaw", name := "got", desc := "(LPennyJudge;I[J)I" } : Jvm.MethodName)) ∈ lw_all := lw_g (lw_at lw_m6 78 rfl) rfl
theorem q1336 : (Jvm.Cond.codeWith ({ cls := "PennyJudgeLaw", name := "got", desc := "(LPennyJudge;I[J)I" } : Jvm.MethodName) method_6_code (4 : Nat) (Option.some Jvm.ClassFile.FieldType.int) [((0 : Nat), (8 : Nat), (11 : Nat), (13 : Nat))]) ∈ lw_all := lw_g (lw_at lw_m6 79 rfl) rfl
theorem q1337 : (Jvm.Cond.methodLink "PennyJudgeLaw" (22 : Nat) ({ cls := "PennyJudge", name := "got", desc := "(I)J" } : Jvm.MethodName)) ∈ lw_all := lw_g (lw_at lw_m6 80 rfl) rfl
theorem q1341 : (Jvm.Cond.methodLink "PennyJudgeLaw" (117 : Nat) ({ cls := "PennyJudgeLaw", name := "carried", desc := "(LPennyJudge;II[J)I" } : Jvm.MethodName)) ∈ lw_all := lw_g (lw_at lw_m6 84 rfl) rfl
theorem q1342 : (Jvm.Cond.static ({ cls := "PennyJudgeLaw", name := "carried", desc := "(LPennyJudge;II[J)I" } : Jvm.MethodName)) ∈ lw_all := lw_g (lw_at lw_m6 85 rfl) rfl
theorem q1343 : (Jvm.Cond.codeWith ({ cls := "PennyJudgeLaw", name := "carried", desc := "(LPennyJudge;II[J)I" } : Jvm.MethodName) method_7_code (5 : Nat) (Option.some Jvm.ClassFile.FieldType.int) [((0 : Nat), (9 : Nat), (12 : Nat), (13 : Nat))]) ∈ lw_all := lw_g (lw_at lw_m6 86 rfl) rfl
theorem q1344 : (Jvm.Cond.methodLink "PennyJudgeLaw" (25 : Nat) ({ cls := "PennyJudge", name := "carried", desc := "(II)J" } : Jvm.MethodName)) ∈ lw_all := lw_g (lw_at lw_m6 87 rfl) rfl
theorem q1348 : (Jvm.Cond.methodLink "PennyJudgeLaw" (128 : Nat) ({ cls := "PennyJudgeLaw", name := "drift", desc := "(LPennyJudge;IIIII[J)I" } : Jvm.MethodName)) ∈ lw_all := lw_g (lw_at lw_m6 91 rfl) rfl
theorem q1349 : (Jvm.Cond.static ({ cls := "PennyJudgeLaw", name := "drift", desc := "(LPennyJudge;IIIII[J)I" } : Jvm.MethodName)) ∈ lw_all := lw_g (lw_at lw_m6 92 rfl) rfl
theorem q1350 : (Jvm.Cond.codeWith ({ cls := "PennyJudgeLaw", name := "drift", desc := "(LPennyJudge;IIIII[J)I" } : Jvm.MethodName) method_8_code (8 : Nat) (Option.some Jvm.ClassFile.FieldType.int) [((0 : Nat), (16 : Nat), (19 : Nat), (13 : Nat))]) ∈ lw_all := lw_g (lw_at lw_m6 93 rfl) rfl
theorem q1351 : (Jvm.Cond.methodLink "PennyJudgeLaw" (28 : Nat) ({ cls := "PennyJudge", name := "drift", desc := "(IIIII)I" } : Jvm.MethodName)) ∈ lw_all := lw_g (lw_at lw_m6 94 rfl) rfl
theorem q1362 : (Jvm.Cond.methodLink "PennyJudgeLaw" (142 : Nat) ({ cls := "PennyJudgeLaw", name := "rounded", desc := "(LPennyJudge;JIII[J)I" } : Jvm.MethodName)) ∈ lw_all := lw_g (lw_at lw_m6 105 rfl) rfl
theorem q1363 : (Jvm.Cond.static ({ cls := "PennyJudgeLaw", name := "rounded", desc := "(LPennyJudge;JIII[J)I" } : Jvm.MethodName)) ∈ lw_all := lw_g (lw_at lw_m6 106 rfl) rfl
theorem q1364 : (Jvm.Cond.codeWith ({ cls := "PennyJudgeLaw", name := "rounded", desc := "(LPennyJudge;JIII[J)I" } : Jvm.MethodName) method_9_code (8 : Nat) (Option.some Jvm.ClassFile.FieldType.int) [((0 : Nat), (14 : Nat), (17 : Nat), (13 : Nat))]) ∈ lw_all := lw_g (lw_at lw_m6 107 rfl) rfl
theorem q1365 : (Jvm.Cond.methodLink "PennyJudgeLaw" (32 : Nat) ({ cls := "PennyJudge", name := "rounded", desc := "(JIII)J" } : Jvm.MethodName)) ∈ lw_all := lw_g (lw_at lw_m6 108 rfl) rfl
theorem q1371 : (Jvm.Cond.methodLink "PennyJudgeLaw" (175 : Nat) ({ cls := "PennyJudgeLaw", name := "at", desc := "(LPennyJudge;II[J)I" } : Jvm.MethodName)) ∈ lw_all := lw_g (lw_at lw_m6 114 rfl) rfl
theorem q1372 : (Jvm.Cond.static ({ cls := "PennyJudgeLaw", name := "at", desc := "(LPennyJudge;II[J)I" } : Jvm.MethodName)) ∈ lw_all := lw_g (lw_at lw_m6 115 rfl) rfl
theorem q1373 : (Jvm.Cond.codeWith ({ cls := "PennyJudgeLaw", name := "at", desc := "(LPennyJudge;II[J)I" } : Jvm.MethodName) method_10_code (5 : Nat) (Option.some Jvm.ClassFile.FieldType.int) [((0 : Nat), (9 : Nat), (12 : Nat), (13 : Nat)), ((0 : Nat), (9 : Nat), (16 : Nat), (39 : Nat))]) ∈ lw_all := lw_g (lw_at lw_m6 116 rfl) rfl
theorem q1374 : (Jvm.Cond.classLink "PennyJudgeLaw" (39 : Nat) "java/lang/IllegalStateException") ∈ lw_all := lw_g (lw_at lw_m6 117 rfl) rfl
theorem q1375 : (Jvm.Cond.methodLink "PennyJudgeLaw" (36 : Nat) ({ cls := "PennyJudge", name := "at", desc := "(II)J" } : Jvm.MethodName)) ∈ lw_all := lw_g (lw_at lw_m6 118 rfl) rfl
theorem q1397 : (Jvm.Cond.classLink "PennyJudgeLaw" (42 : Nat) "PennyJudgeModel") ∈ lw_all := lw_g (lw_at lw_m6 140 rfl) rfl
theorem q1399 : (Jvm.Cond.methodLink "PennyJudgeLaw" (44 : Nat) ({ cls := "PennyJudgeModel", name := "<init>", desc := "()V" } : Jvm.MethodName)) ∈ lw_all := lw_g (lw_at lw_m6 142 rfl) rfl
theorem q1568 : (Jvm.Cond.methodLink "PennyJudgeLaw" (104 : Nat) ({ cls := "PennyJudgeModel", name := "thrown", desc := "()I" } : Jvm.MethodName)) ∈ lw_all := lw_g (lw_at lw_m7 71 rfl) rfl
theorem q1572 : (Jvm.Cond.methodLink "PennyJudgeLaw" (49 : Nat) ({ cls := "PennyJudgeModel", name := "begin", desc := "()I" } : Jvm.MethodName)) ∈ lw_all := lw_g (lw_at lw_m7 75 rfl) rfl
theorem q1576 : (Jvm.Cond.methodLink "PennyJudgeLaw" (54 : Nat) ({ cls := "PennyJudgeModel", name := "rate", desc := "(III)I" } : Jvm.MethodName)) ∈ lw_all := lw_g (lw_at lw_m7 79 rfl) rfl
theorem q1583 : (Jvm.Cond.methodLink "PennyJudgeLaw" (59 : Nat) ({ cls := "PennyJudgeModel", name := "line", desc := "(I)I" } : Jvm.MethodName)) ∈ lw_all := lw_g (lw_at lw_m7 86 rfl) rfl
theorem q1592 : (Jvm.Cond.methodLink "PennyJudgeLaw" (63 : Nat) ({ cls := "PennyJudgeModel", name := "bare", desc := "()I" } : Jvm.MethodName)) ∈ lw_all := lw_g (lw_at lw_m7 95 rfl) rfl
theorem q1596 : (Jvm.Cond.methodLink "PennyJudgeLaw" (68 : Nat) ({ cls := "PennyJudgeModel", name := "weight", desc := "(II)I" } : Jvm.MethodName)) ∈ lw_all := lw_g (lw_at lw_m7 99 rfl) rfl
theorem q1600 : (Jvm.Cond.methodLink "PennyJudgeLaw" (72 : Nat) ({ cls := "PennyJudgeModel", name := "program", desc := "()I" } : Jvm.MethodName)) ∈ lw_all := lw_g (lw_at lw_m7 103 rfl) rfl
theorem q1604 : (Jvm.Cond.methodLink "PennyJudgeLaw" (76 : Nat) ({ cls := "PennyJudgeModel", name := "act", desc := "(IIIII)I" } : Jvm.MethodName)) ∈ lw_all := lw_g (lw_at lw_m7 107 rfl) rfl
theorem q1616 : (Jvm.Cond.methodLink "PennyJudgeLaw" (81 : Nat) ({ cls := "PennyJudgeModel", name := "set", desc := "(IIII)I" } : Jvm.MethodName)) ∈ lw_all := lw_g (lw_at lw_m7 119 rfl) rfl
theorem q1624 : (Jvm.Cond.methodLink "PennyJudgeLaw" (85 : Nat) ({ cls := "PennyJudgeModel", name := "told", desc := "(III)I" } : Jvm.MethodName)) ∈ lw_all := lw_g (lw_at lw_m7 127 rfl) rfl
theorem q1628 : (Jvm.Cond.methodLink "PennyJudgeLaw" (89 : Nat) ({ cls := "PennyJudgeModel", name := "run", desc := "(I)I" } : Jvm.MethodName)) ∈ lw_all := lw_g (lw_at lw_m7 131 rfl) rfl
theorem q1717 : (Jvm.Cond.methodLink "PennyJudgeLaw" (93 : Nat) ({ cls := "PennyJudgeModel", name := "years", desc := "(II)I" } : Jvm.MethodName)) ∈ lw_all := lw_g (lw_at lw_m7 220 rfl) rfl
theorem q1721 : (Jvm.Cond.methodLink "PennyJudgeLaw" (97 : Nat) ({ cls := "PennyJudgeModel", name := "failed", desc := "()I" } : Jvm.MethodName)) ∈ lw_all := lw_g (lw_at lw_m7 224 rfl) rfl
theorem q1725 : (Jvm.Cond.methodLink "PennyJudgeLaw" (103 : Nat) ({ cls := "PennyJudgeModel", name := "account", desc := "(I)J" } : Jvm.MethodName)) ∈ lw_all := lw_g (lw_at lw_m7 228 rfl) rfl
theorem q1733 : (Jvm.Cond.methodLink "PennyJudgeLaw" (110 : Nat) ({ cls := "PennyJudgeModel", name := "slot", desc := "(II)J" } : Jvm.MethodName)) ∈ lw_all := lw_g (lw_at lw_m7 236 rfl) rfl
theorem q1737 : (Jvm.Cond.methodLink "PennyJudgeLaw" (113 : Nat) ({ cls := "PennyJudgeModel", name := "part", desc := "(I)J" } : Jvm.MethodName)) ∈ lw_all := lw_g (lw_at lw_m8 0 rfl) rfl
theorem q1741 : (Jvm.Cond.methodLink "PennyJudgeLaw" (116 : Nat) ({ cls := "PennyJudgeModel", name := "got", desc := "(I)J" } : Jvm.MethodName)) ∈ lw_all := lw_g (lw_at lw_m8 4 rfl) rfl
theorem q1745 : (Jvm.Cond.methodLink "PennyJudgeLaw" (119 : Nat) ({ cls := "PennyJudgeModel", name := "carried", desc := "(II)J" } : Jvm.MethodName)) ∈ lw_all := lw_g (lw_at lw_m8 8 rfl) rfl
theorem q1749 : (Jvm.Cond.methodLink "PennyJudgeLaw" (123 : Nat) ({ cls := "PennyJudgeModel", name := "least", desc := "(IIIII)I" } : Jvm.MethodName)) ∈ lw_all := lw_g (lw_at lw_m8 12 rfl) rfl
theorem q1816 : (Jvm.Cond.methodLink "PennyJudgeLaw" (127 : Nat) ({ cls := "PennyJudgeModel", name := "order", desc := "(I)I" } : Jvm.MethodName)) ∈ lw_all := lw_g (lw_at lw_m8 79 rfl) rfl
theorem q1828 : (Jvm.Cond.methodLink "PennyJudgeLaw" (131 : Nat) ({ cls := "PennyJudgeModel", name := "drift", desc := "(IIIII)I" } : Jvm.MethodName)) ∈ lw_all := lw_g (lw_at lw_m8 91 rfl) rfl
theorem q1832 : (Jvm.Cond.methodLink "PennyJudgeLaw" (135 : Nat) ({ cls := "PennyJudgeModel", name := "mend", desc := "(IIII)I" } : Jvm.MethodName)) ∈ lw_all := lw_g (lw_at lw_m8 95 rfl) rfl
theorem q1844 : (Jvm.Cond.methodLink "PennyJudgeLaw" (139 : Nat) ({ cls := "PennyJudgeModel", name := "same", desc := "(II)I" } : Jvm.MethodName)) ∈ lw_all := lw_g (lw_at lw_m8 107 rfl) rfl
theorem q1848 : (Jvm.Cond.methodLink "PennyJudgeLaw" (145 : Nat) ({ cls := "PennyJudgeModel", name := "rounded", desc := "(JIII)J" } : Jvm.MethodName)) ∈ lw_all := lw_g (lw_at lw_m8 111 rfl) rfl
theorem q1854 : (Jvm.Cond.methodLink "PennyJudgeLaw" (149 : Nat) ({ cls := "PennyJudgeModel", name := "tape", desc := "(III)I" } : Jvm.MethodName)) ∈ lw_all := lw_g (lw_at lw_m8 117 rfl) rfl
theorem q1865 : (Jvm.Cond.methodLink "PennyJudgeLaw" (153 : Nat) ({ cls := "PennyJudgeModel", name := "image", desc := "(I)I" } : Jvm.MethodName)) ∈ lw_all := lw_g (lw_at lw_m8 128 rfl) rfl
theorem q1869 : (Jvm.Cond.methodLink "PennyJudgeLaw" (157 : Nat) ({ cls := "PennyJudgeModel", name := "back", desc := "(I)I" } : Jvm.MethodName)) ∈ lw_all := lw_g (lw_at lw_m8 132 rfl) rfl
theorem q1877 : (Jvm.Cond.methodLink "PennyJudgeLaw" (161 : Nat) ({ cls := "PennyJudgeModel", name := "toss", desc := "(I)I" } : Jvm.MethodName)) ∈ lw_all := lw_g (lw_at lw_m8 140 rfl) rfl
theorem q1881 : (Jvm.Cond.methodLink "PennyJudgeLaw" (165 : Nat) ({ cls := "PennyJudgeModel", name := "load", desc := "(III)I" } : Jvm.MethodName)) ∈ lw_all := lw_g (lw_at lw_m8 144 rfl) rfl
theorem q1885 : (Jvm.Cond.methodLink "PennyJudgeLaw" (169 : Nat) ({ cls := "PennyJudgeModel", name := "clear", desc := "(I)I" } : Jvm.MethodName)) ∈ lw_all := lw_g (lw_at lw_m8 148 rfl) rfl
theorem q1889 : (Jvm.Cond.methodLink "PennyJudgeLaw" (174 : Nat) ({ cls := "PennyJudgeModel", name := "put", desc := "(IIJ)I" } : Jvm.MethodName)) ∈ lw_all := lw_g (lw_at lw_m8 152 rfl) rfl
theorem q1896 : (Jvm.Cond.methodLink "PennyJudgeLaw" (177 : Nat) ({ cls := "PennyJudgeModel", name := "at", desc := "(II)J" } : Jvm.MethodName)) ∈ lw_all := lw_g (lw_at lw_m8 159 rfl) rfl
theorem q1900 : (Jvm.Cond.methodLink "PennyJudgeLaw" (181 : Nat) ({ cls := "PennyJudgeModel", name := "copy", desc := "(IIIII)I" } : Jvm.MethodName)) ∈ lw_all := lw_g (lw_at lw_m8 163 rfl) rfl
theorem q1904 : (Jvm.Cond.methodLink "PennyJudgeLaw" (185 : Nat) ({ cls := "PennyJudgeModel", name := "count", desc := "(I)I" } : Jvm.MethodName)) ∈ lw_all := lw_g (lw_at lw_m8 167 rfl) rfl
theorem q1908 : (Jvm.Cond.constantLong "PennyJudgeLaw" (140 : Nat) (4294967295 : Int64)) ∈ lw_all := lw_g (lw_at lw_m8 171 rfl) rfl
