/-! java/lang/Throwable -/
set_option maxRecDepth 100000
def RJ8 : String := "java/lang/Throwable"
def TJ8 : u_T := fun k => match k with
  | 0 => ("java/lang/Throwable", "cause", "Ljava/lang/Throwable;", false)
  | 1 => ("java/lang/Throwable", "stackTrace", "[Ljava/lang/StackTraceElement;", false)
  | 2 => ("java/lang/Throwable", "suppressedExceptions", "Ljava/util/List;", false)
  | 3 => ("java/lang/Throwable", "detailMessage", "Ljava/lang/String;", false)
  | _ => ("java/lang/Throwable", "backtrace", "Ljava/lang/Object;", false)
def tyJ8 : Nat → FieldType := fun k => match k with
  | 0 => .object "java/lang/Throwable"
  | 1 => .array (.object "java/lang/StackTraceElement")
  | 2 => .object "java/util/List"
  | 3 => .object "java/lang/String"
  | _ => .object "java/lang/Object"
abbrev wsJ80 : List Cond := u_ws RJ8 TJ8 5
theorem nmJ8 : ∀ a, a < 5 → ∀ b, b < 5 → a ≠ b → (TJ8 a).2.1 ≠ (TJ8 b).2.1 := by decide +kernel
theorem tyJ8_ok : ∀ k, k < 5 → parseFieldDescriptor (TJ8 k).2.2.1 = some (tyJ8 k) := by decide +kernel
abbrev cJ8_init : ByteArray := prog_43_method_1_code
def yJ8_init : MethodName := ⟨RJ8, "<init>", "()V"⟩
def dkwJ8_init_1 : List UInt8 := [182, 0, 27, 87, 177]
abbrev dktJ8_init_1 : List UInt8 := dkwJ8_init_1 ++ []
def dkwJ8_init_0 : List UInt8 := [42, 183, 0, 1, 42, 42, 181, 0, 7, 42, 178, 0, 13, 181, 0, 17, 42, 178, 0, 20, 181, 0, 24, 42]
abbrev dktJ8_init_0 : List UInt8 := dkwJ8_init_0 ++ dktJ8_init_1
theorem dksJ8_init_0 : cJ8_init.data.toList.drop 0 = dktJ8_init_0 := by decide +kernel
theorem dksJ8_init_1 : cJ8_init.data.toList.drop 24 = dktJ8_init_1 := dk_seg dksJ8_init_0 24 rfl rfl
theorem dJ8_init_0 : decode cJ8_init 0 = .ok (.aload_n 0, 1) := dk_42 (dk_at dksJ8_init_0 0 rfl rfl)
theorem dJ8_init_1 : decode cJ8_init 1 = .ok (.invokespecial 1, 3) := dk_183 0 1 (dk_at dksJ8_init_0 1 rfl rfl)
theorem dJ8_init_4 : decode cJ8_init 4 = .ok (.aload_n 0, 1) := dk_42 (dk_at dksJ8_init_0 4 rfl rfl)
theorem dJ8_init_5 : decode cJ8_init 5 = .ok (.aload_n 0, 1) := dk_42 (dk_at dksJ8_init_0 5 rfl rfl)
theorem dJ8_init_6 : decode cJ8_init 6 = .ok (.putfield 7, 3) := dk_181 0 7 (dk_at dksJ8_init_0 6 rfl rfl)
theorem dJ8_init_9 : decode cJ8_init 9 = .ok (.aload_n 0, 1) := dk_42 (dk_at dksJ8_init_0 9 rfl rfl)
theorem dJ8_init_10 : decode cJ8_init 10 = .ok (.getstatic 13, 3) := dk_178 0 13 (dk_at dksJ8_init_0 10 rfl rfl)
theorem dJ8_init_13 : decode cJ8_init 13 = .ok (.putfield 17, 3) := dk_181 0 17 (dk_at dksJ8_init_0 13 rfl rfl)
theorem dJ8_init_16 : decode cJ8_init 16 = .ok (.aload_n 0, 1) := dk_42 (dk_at dksJ8_init_0 16 rfl rfl)
theorem dJ8_init_17 : decode cJ8_init 17 = .ok (.getstatic 20, 3) := dk_178 0 20 (dk_at dksJ8_init_0 17 rfl rfl)
theorem dJ8_init_20 : decode cJ8_init 20 = .ok (.putfield 24, 3) := dk_181 0 24 (dk_at dksJ8_init_0 20 rfl rfl)
theorem dJ8_init_23 : decode cJ8_init 23 = .ok (.aload_n 0, 1) := dk_42 (dk_at dksJ8_init_0 23 rfl rfl)
theorem dJ8_init_24 : decode cJ8_init 24 = .ok (.invokevirtual 27, 3) := dk_182 0 27 (dk_at dksJ8_init_1 0 rfl rfl)
theorem dJ8_init_27 : decode cJ8_init 27 = .ok (.pop, 1) := dk_87 (dk_at dksJ8_init_1 3 rfl rfl)
theorem dJ8_init_28 : decode cJ8_init 28 = .ok (.return_, 1) := dk_177 (dk_at dksJ8_init_1 4 rfl rfl)
abbrev cJ8_init_2 : ByteArray := prog_43_method_2_code
def yJ8_init_2 : MethodName := ⟨RJ8, "<init>", "(Ljava/lang/String;)V"⟩
def dkwJ8_init_2_1 : List UInt8 := [182, 0, 27, 87, 42, 43, 181, 0, 31, 177]
abbrev dktJ8_init_2_1 : List UInt8 := dkwJ8_init_2_1 ++ []
def dkwJ8_init_2_0 : List UInt8 := [42, 183, 0, 1, 42, 42, 181, 0, 7, 42, 178, 0, 13, 181, 0, 17, 42, 178, 0, 20, 181, 0, 24, 42]
abbrev dktJ8_init_2_0 : List UInt8 := dkwJ8_init_2_0 ++ dktJ8_init_2_1
theorem dksJ8_init_2_0 : cJ8_init_2.data.toList.drop 0 = dktJ8_init_2_0 := by decide +kernel
theorem dksJ8_init_2_1 : cJ8_init_2.data.toList.drop 24 = dktJ8_init_2_1 := dk_seg dksJ8_init_2_0 24 rfl rfl
theorem dJ8_init_2_0 : decode cJ8_init_2 0 = .ok (.aload_n 0, 1) := dk_42 (dk_at dksJ8_init_2_0 0 rfl rfl)
theorem dJ8_init_2_1 : decode cJ8_init_2 1 = .ok (.invokespecial 1, 3) := dk_183 0 1 (dk_at dksJ8_init_2_0 1 rfl rfl)
theorem dJ8_init_2_4 : decode cJ8_init_2 4 = .ok (.aload_n 0, 1) := dk_42 (dk_at dksJ8_init_2_0 4 rfl rfl)
theorem dJ8_init_2_5 : decode cJ8_init_2 5 = .ok (.aload_n 0, 1) := dk_42 (dk_at dksJ8_init_2_0 5 rfl rfl)
theorem dJ8_init_2_6 : decode cJ8_init_2 6 = .ok (.putfield 7, 3) := dk_181 0 7 (dk_at dksJ8_init_2_0 6 rfl rfl)
theorem dJ8_init_2_9 : decode cJ8_init_2 9 = .ok (.aload_n 0, 1) := dk_42 (dk_at dksJ8_init_2_0 9 rfl rfl)
theorem dJ8_init_2_10 : decode cJ8_init_2 10 = .ok (.getstatic 13, 3) := dk_178 0 13 (dk_at dksJ8_init_2_0 10 rfl rfl)
theorem dJ8_init_2_13 : decode cJ8_init_2 13 = .ok (.putfield 17, 3) := dk_181 0 17 (dk_at dksJ8_init_2_0 13 rfl rfl)
theorem dJ8_init_2_16 : decode cJ8_init_2 16 = .ok (.aload_n 0, 1) := dk_42 (dk_at dksJ8_init_2_0 16 rfl rfl)
theorem dJ8_init_2_17 : decode cJ8_init_2 17 = .ok (.getstatic 20, 3) := dk_178 0 20 (dk_at dksJ8_init_2_0 17 rfl rfl)
theorem dJ8_init_2_20 : decode cJ8_init_2 20 = .ok (.putfield 24, 3) := dk_181 0 24 (dk_at dksJ8_init_2_0 20 rfl rfl)
theorem dJ8_init_2_23 : decode cJ8_init_2 23 = .ok (.aload_n 0, 1) := dk_42 (dk_at dksJ8_init_2_0 23 rfl rfl)
theorem dJ8_init_2_24 : decode cJ8_init_2 24 = .ok (.invokevirtual 27, 3) := dk_182 0 27 (dk_at dksJ8_init_2_1 0 rfl rfl)
theorem dJ8_init_2_27 : decode cJ8_init_2 27 = .ok (.pop, 1) := dk_87 (dk_at dksJ8_init_2_1 3 rfl rfl)
theorem dJ8_init_2_28 : decode cJ8_init_2 28 = .ok (.aload_n 0, 1) := dk_42 (dk_at dksJ8_init_2_1 4 rfl rfl)
theorem dJ8_init_2_29 : decode cJ8_init_2 29 = .ok (.aload_n 1, 1) := dk_43 (dk_at dksJ8_init_2_1 5 rfl rfl)
theorem dJ8_init_2_30 : decode cJ8_init_2 30 = .ok (.putfield 31, 3) := dk_181 0 31 (dk_at dksJ8_init_2_1 6 rfl rfl)
theorem dJ8_init_2_33 : decode cJ8_init_2 33 = .ok (.return_, 1) := dk_177 (dk_at dksJ8_init_2_1 9 rfl rfl)
abbrev cJ8_init_3 : ByteArray := prog_43_method_5_code
def yJ8_init_3 : MethodName := ⟨RJ8, "<init>", "(Ljava/lang/String;Ljava/lang/Throwable;ZZ)V"⟩
def dkwJ8_init_3_2 : List UInt8 := [44, 181, 0, 7, 29, 154, 0, 8, 42, 1, 181, 0, 24, 177]
abbrev dktJ8_init_3_2 : List UInt8 := dkwJ8_init_3_2 ++ []
def dkwJ8_init_3_1 : List UInt8 := [21, 4, 153, 0, 11, 42, 182, 0, 27, 87, 167, 0, 8, 42, 1, 181, 0, 17, 42, 43, 181, 0, 31, 42]
abbrev dktJ8_init_3_1 : List UInt8 := dkwJ8_init_3_1 ++ dktJ8_init_3_2
def dkwJ8_init_3_0 : List UInt8 := [42, 183, 0, 1, 42, 42, 181, 0, 7, 42, 178, 0, 13, 181, 0, 17, 42, 178, 0, 20, 181, 0, 24]
abbrev dktJ8_init_3_0 : List UInt8 := dkwJ8_init_3_0 ++ dktJ8_init_3_1
theorem dksJ8_init_3_0 : cJ8_init_3.data.toList.drop 0 = dktJ8_init_3_0 := by decide +kernel
theorem dksJ8_init_3_1 : cJ8_init_3.data.toList.drop 23 = dktJ8_init_3_1 := dk_seg dksJ8_init_3_0 23 rfl rfl
theorem dksJ8_init_3_2 : cJ8_init_3.data.toList.drop 47 = dktJ8_init_3_2 := dk_seg dksJ8_init_3_1 24 rfl rfl
theorem dJ8_init_3_0 : decode cJ8_init_3 0 = .ok (.aload_n 0, 1) := dk_42 (dk_at dksJ8_init_3_0 0 rfl rfl)
theorem dJ8_init_3_1 : decode cJ8_init_3 1 = .ok (.invokespecial 1, 3) := dk_183 0 1 (dk_at dksJ8_init_3_0 1 rfl rfl)
theorem dJ8_init_3_4 : decode cJ8_init_3 4 = .ok (.aload_n 0, 1) := dk_42 (dk_at dksJ8_init_3_0 4 rfl rfl)
theorem dJ8_init_3_5 : decode cJ8_init_3 5 = .ok (.aload_n 0, 1) := dk_42 (dk_at dksJ8_init_3_0 5 rfl rfl)
theorem dJ8_init_3_6 : decode cJ8_init_3 6 = .ok (.putfield 7, 3) := dk_181 0 7 (dk_at dksJ8_init_3_0 6 rfl rfl)
theorem dJ8_init_3_9 : decode cJ8_init_3 9 = .ok (.aload_n 0, 1) := dk_42 (dk_at dksJ8_init_3_0 9 rfl rfl)
theorem dJ8_init_3_10 : decode cJ8_init_3 10 = .ok (.getstatic 13, 3) := dk_178 0 13 (dk_at dksJ8_init_3_0 10 rfl rfl)
theorem dJ8_init_3_13 : decode cJ8_init_3 13 = .ok (.putfield 17, 3) := dk_181 0 17 (dk_at dksJ8_init_3_0 13 rfl rfl)
theorem dJ8_init_3_16 : decode cJ8_init_3 16 = .ok (.aload_n 0, 1) := dk_42 (dk_at dksJ8_init_3_0 16 rfl rfl)
theorem dJ8_init_3_17 : decode cJ8_init_3 17 = .ok (.getstatic 20, 3) := dk_178 0 20 (dk_at dksJ8_init_3_0 17 rfl rfl)
theorem dJ8_init_3_20 : decode cJ8_init_3 20 = .ok (.putfield 24, 3) := dk_181 0 24 (dk_at dksJ8_init_3_0 20 rfl rfl)
theorem dJ8_init_3_23 : decode cJ8_init_3 23 = .ok (.iload 4, 2) := dk_21 4 (dk_at dksJ8_init_3_1 0 rfl rfl)
theorem dJ8_init_3_25 : decode cJ8_init_3 25 = .ok (.ifCond .eq 11, 3) := dk_153 0 11 (dk_at dksJ8_init_3_1 2 rfl rfl)
theorem dJ8_init_3_28 : decode cJ8_init_3 28 = .ok (.aload_n 0, 1) := dk_42 (dk_at dksJ8_init_3_1 5 rfl rfl)
theorem dJ8_init_3_29 : decode cJ8_init_3 29 = .ok (.invokevirtual 27, 3) := dk_182 0 27 (dk_at dksJ8_init_3_1 6 rfl rfl)
theorem dJ8_init_3_32 : decode cJ8_init_3 32 = .ok (.pop, 1) := dk_87 (dk_at dksJ8_init_3_1 9 rfl rfl)
theorem dJ8_init_3_33 : decode cJ8_init_3 33 = .ok (.goto 8, 3) := dk_167 0 8 (dk_at dksJ8_init_3_1 10 rfl rfl)
theorem dJ8_init_3_36 : decode cJ8_init_3 36 = .ok (.aload_n 0, 1) := dk_42 (dk_at dksJ8_init_3_1 13 rfl rfl)
theorem dJ8_init_3_37 : decode cJ8_init_3 37 = .ok (.aconst_null, 1) := dk_1 (dk_at dksJ8_init_3_1 14 rfl rfl)
theorem dJ8_init_3_38 : decode cJ8_init_3 38 = .ok (.putfield 17, 3) := dk_181 0 17 (dk_at dksJ8_init_3_1 15 rfl rfl)
theorem dJ8_init_3_41 : decode cJ8_init_3 41 = .ok (.aload_n 0, 1) := dk_42 (dk_at dksJ8_init_3_1 18 rfl rfl)
theorem dJ8_init_3_42 : decode cJ8_init_3 42 = .ok (.aload_n 1, 1) := dk_43 (dk_at dksJ8_init_3_1 19 rfl rfl)
theorem dJ8_init_3_43 : decode cJ8_init_3 43 = .ok (.putfield 31, 3) := dk_181 0 31 (dk_at dksJ8_init_3_1 20 rfl rfl)
theorem dJ8_init_3_46 : decode cJ8_init_3 46 = .ok (.aload_n 0, 1) := dk_42 (dk_at dksJ8_init_3_1 23 rfl rfl)
theorem dJ8_init_3_47 : decode cJ8_init_3 47 = .ok (.aload_n 2, 1) := dk_44 (dk_at dksJ8_init_3_2 0 rfl rfl)
theorem dJ8_init_3_48 : decode cJ8_init_3 48 = .ok (.putfield 7, 3) := dk_181 0 7 (dk_at dksJ8_init_3_2 1 rfl rfl)
theorem dJ8_init_3_51 : decode cJ8_init_3 51 = .ok (.iload_n 3, 1) := dk_29 (dk_at dksJ8_init_3_2 4 rfl rfl)
theorem dJ8_init_3_52 : decode cJ8_init_3 52 = .ok (.ifCond .ne 8, 3) := dk_154 0 8 (dk_at dksJ8_init_3_2 5 rfl rfl)
theorem dJ8_init_3_55 : decode cJ8_init_3 55 = .ok (.aload_n 0, 1) := dk_42 (dk_at dksJ8_init_3_2 8 rfl rfl)
theorem dJ8_init_3_56 : decode cJ8_init_3 56 = .ok (.aconst_null, 1) := dk_1 (dk_at dksJ8_init_3_2 9 rfl rfl)
theorem dJ8_init_3_57 : decode cJ8_init_3 57 = .ok (.putfield 24, 3) := dk_181 0 24 (dk_at dksJ8_init_3_2 10 rfl rfl)
theorem dJ8_init_3_60 : decode cJ8_init_3 60 = .ok (.return_, 1) := dk_177 (dk_at dksJ8_init_3_2 13 rfl rfl)
theorem q105 : (Jvm.Cond.initialized "java/lang/Throwable") ∈ lw_all := lw_g (lw_at lw_m1 12 rfl) rfl
theorem q436 : (Jvm.Cond.declares ({ cls := "java/lang/Throwable", name := "<init>", desc := "()V" } : Jvm.MethodName)) ∈ lw_tbl := lw_at lw_m2 103 rfl
theorem q437 : (Jvm.Cond.declares ({ cls := "java/lang/Throwable", name := "<init>", desc := "(Ljava/lang/String;)V" } : Jvm.MethodName)) ∈ lw_tbl := lw_at lw_m2 104 rfl
theorem q441 : (Jvm.Cond.lays "java/lang/Throwable" "java/lang/Throwable" "cause" "Ljava/lang/Throwable;") ∈ lw_all := lw_g (lw_at lw_m2 108 rfl) rfl
theorem q443 : (Jvm.Cond.lays "java/lang/Throwable" "java/lang/Throwable" "stackTrace" "[Ljava/lang/StackTraceElement;") ∈ lw_all := lw_g (lw_at lw_m2 110 rfl) rfl
theorem q445 : (Jvm.Cond.lays "java/lang/Throwable" "java/lang/Throwable" "suppressedExceptions" "Ljava/util/List;") ∈ lw_all := lw_g (lw_at lw_m2 112 rfl) rfl
theorem q447 : (Jvm.Cond.lays "java/lang/Throwable" "java/lang/Throwable" "detailMessage" "Ljava/lang/String;") ∈ lw_all := lw_g (lw_at lw_m2 114 rfl) rfl
theorem q449 : (Jvm.Cond.lays "java/lang/Throwable" "java/lang/Throwable" "backtrace" "Ljava/lang/Object;") ∈ lw_all := lw_g (lw_at lw_m2 116 rfl) rfl
theorem q450 : (Jvm.Cond.fieldLink "java/lang/Throwable" (198 : Nat) "java/lang/Throwable" "backtrace" "Ljava/lang/Object;") ∈ lw_all := lw_g (lw_at lw_m2 117 rfl) rfl
theorem q451 : (Jvm.Cond.superclass "java/lang/Throwable" "java/lang/Object") ∈ lw_all := lw_g (lw_at lw_m2 118 rfl) rfl
theorem q452 : (Jvm.Cond.instanceMethod ({ cls := "java/lang/Throwable", name := "<init>", desc := "()V" } : Jvm.MethodName)) ∈ lw_all := lw_g (lw_at lw_m2 119 rfl) rfl
theorem q453 : (Jvm.Cond.code ({ cls := "java/lang/Throwable", name := "<init>", desc := "()V" } : Jvm.MethodName) prog_43_method_1_code (1 : Nat) (Option.none : Option Jvm.ClassFile.FieldType)) ∈ lw_all := lw_g (lw_at lw_m2 120 rfl) rfl
theorem q454 : (Jvm.Cond.methodLink "java/lang/Throwable" (1 : Nat) ({ cls := "java/lang/Object", name := "<init>", desc := "()V" } : Jvm.MethodName)) ∈ lw_all := lw_g (lw_at lw_m2 121 rfl) rfl
theorem q455 : (Jvm.Cond.fieldLink "java/lang/Throwable" (13 : Nat) "java/lang/Throwable" "UNASSIGNED_STACK" "[Ljava/lang/StackTraceElement;") ∈ lw_all := lw_g (lw_at lw_m2 122 rfl) rfl
theorem q456 : (Jvm.Cond.laysStatic "java/lang/Throwable" "UNASSIGNED_STACK" "[Ljava/lang/StackTraceElement;") ∈ lw_tbl := lw_at lw_m2 123 rfl
theorem q457 : (Jvm.Cond.fieldLink "java/lang/Throwable" (20 : Nat) "java/lang/Throwable" "SUPPRESSED_SENTINEL" "Ljava/util/List;") ∈ lw_all := lw_g (lw_at lw_m2 124 rfl) rfl
theorem q458 : (Jvm.Cond.laysStatic "java/lang/Throwable" "SUPPRESSED_SENTINEL" "Ljava/util/List;") ∈ lw_tbl := lw_at lw_m2 125 rfl
theorem q459 : (Jvm.Cond.methodLink "java/lang/Throwable" (27 : Nat) ({ cls := "java/lang/Throwable", name := "fillInStackTrace", desc := "()Ljava/lang/Throwable;" } : Jvm.MethodName)) ∈ lw_all := lw_g (lw_at lw_m2 126 rfl) rfl
theorem q460 : (Jvm.Cond.instanceMethod ({ cls := "java/lang/Throwable", name := "fillInStackTrace", desc := "()Ljava/lang/Throwable;" } : Jvm.MethodName)) ∈ lw_all := lw_g (lw_at lw_m2 127 rfl) rfl
theorem q461 : (Jvm.Cond.sameMethod "java/lang/Throwable" "java/lang/Throwable" "fillInStackTrace" "()Ljava/lang/Throwable;") ∈ lw_all := lw_g (lw_at lw_m2 128 rfl) rfl
theorem q470 : (Jvm.Cond.codeSync ({ cls := "java/lang/Throwable", name := "fillInStackTrace", desc := "()Ljava/lang/Throwable;" } : Jvm.MethodName) prog_43_method_18_code (1 : Nat) (Option.some (Jvm.ClassFile.FieldType.object "java/lang/Throwable"))) ∈ lw_all := lw_g (lw_at lw_m2 137 rfl) rfl
theorem q471 : (Jvm.Cond.methodLink "java/lang/Throwable" (202 : Nat) ({ cls := "java/lang/Throwable", name := "fillInStackTrace", desc := "(I)Ljava/lang/Throwable;" } : Jvm.MethodName)) ∈ lw_all := lw_g (lw_at lw_m2 138 rfl) rfl
theorem q472 : (Jvm.Cond.privateMethod ({ cls := "java/lang/Throwable", name := "fillInStackTrace", desc := "(I)Ljava/lang/Throwable;" } : Jvm.MethodName)) ∈ lw_tbl := lw_at lw_m2 139 rfl
theorem q473 : (Jvm.Cond.instanceMethod ({ cls := "java/lang/Throwable", name := "fillInStackTrace", desc := "(I)Ljava/lang/Throwable;" } : Jvm.MethodName)) ∈ lw_all := lw_g (lw_at lw_m2 140 rfl) rfl
theorem q474 : (Jvm.Cond.instantiable "java/lang/Throwable" (6 : Nat)) ∈ lw_all := lw_g (lw_at lw_m2 141 rfl) rfl
theorem q475 : (Jvm.Cond.native ({ cls := "java/lang/Throwable", name := "fillInStackTrace", desc := "(I)Ljava/lang/Throwable;" } : Jvm.MethodName)) ∈ lw_all := lw_g (lw_at lw_m2 142 rfl) rfl
theorem q486 : (Jvm.Cond.fieldLink "java/lang/Throwable" (198 : Nat) "java/lang/Throwable" "backtrace" "Ljava/lang/Object;") ∈ lw_all := lw_g (lw_at lw_m2 153 rfl) rfl
theorem q487 : (Jvm.Cond.fieldLink "java/lang/Throwable" (31 : Nat) "java/lang/Throwable" "detailMessage" "Ljava/lang/String;") ∈ lw_all := lw_g (lw_at lw_m2 154 rfl) rfl
theorem q488 : (Jvm.Cond.fieldLink "java/lang/Throwable" (7 : Nat) "java/lang/Throwable" "cause" "Ljava/lang/Throwable;") ∈ lw_all := lw_g (lw_at lw_m2 155 rfl) rfl
theorem q489 : (Jvm.Cond.fieldLink "java/lang/Throwable" (17 : Nat) "java/lang/Throwable" "stackTrace" "[Ljava/lang/StackTraceElement;") ∈ lw_all := lw_g (lw_at lw_m2 156 rfl) rfl
theorem q490 : (Jvm.Cond.fieldLink "java/lang/Throwable" (24 : Nat) "java/lang/Throwable" "suppressedExceptions" "Ljava/util/List;") ∈ lw_all := lw_g (lw_at lw_m2 157 rfl) rfl
theorem q491 : (Jvm.Cond.soleField "java/lang/Throwable" "backtrace") ∈ lw_all := lw_g (lw_at lw_m2 158 rfl) rfl
theorem q492 : (Jvm.Cond.soleField "java/lang/Throwable" "detailMessage") ∈ lw_all := lw_g (lw_at lw_m2 159 rfl) rfl
theorem q493 : (Jvm.Cond.soleField "java/lang/Throwable" "cause") ∈ lw_all := lw_g (lw_at lw_m2 160 rfl) rfl
theorem q494 : (Jvm.Cond.soleField "java/lang/Throwable" "stackTrace") ∈ lw_all := lw_g (lw_at lw_m2 161 rfl) rfl
theorem q496 : (Jvm.Cond.soleField "java/lang/Throwable" "depth") ∈ lw_all := lw_g (lw_at lw_m2 163 rfl) rfl
theorem q497 : (Jvm.Cond.soleField "java/lang/Throwable" "suppressedExceptions") ∈ lw_all := lw_g (lw_at lw_m2 164 rfl) rfl
theorem q1512 : (Jvm.Cond.instanceMethod ({ cls := "java/lang/Throwable", name := "<init>", desc := "(Ljava/lang/String;)V" } : Jvm.MethodName)) ∈ lw_all := lw_g (lw_at lw_m6 219 rfl) rfl
theorem q1513 : (Jvm.Cond.code ({ cls := "java/lang/Throwable", name := "<init>", desc := "(Ljava/lang/String;)V" } : Jvm.MethodName) prog_43_method_2_code (2 : Nat) (Option.none : Option Jvm.ClassFile.FieldType)) ∈ lw_all := lw_g (lw_at lw_m6 220 rfl) rfl
theorem q2532 : (Jvm.Cond.instanceMethod ({ cls := "java/lang/Throwable", name := "<init>", desc := "(Ljava/lang/String;Ljava/lang/Throwable;ZZ)V" } : Jvm.MethodName)) ∈ lw_all := lw_g (lw_at lw_m11 39 rfl) rfl
theorem q2533 : (Jvm.Cond.code ({ cls := "java/lang/Throwable", name := "<init>", desc := "(Ljava/lang/String;Ljava/lang/Throwable;ZZ)V" } : Jvm.MethodName) prog_43_method_5_code (5 : Nat) (Option.none : Option Jvm.ClassFile.FieldType)) ∈ lw_all := lw_g (lw_at lw_m11 40 rfl) rfl
theorem q3203 : (Jvm.Cond.sameMethod "java/lang/Throwable" "java/lang/Throwable" "fillInStackTrace" "(I)Ljava/lang/Throwable;") ∈ lw_all := lw_g (lw_at lw_m13 230 rfl) rfl
theorem q3254 : (Jvm.Cond.castable "java/lang/Throwable" "java/lang/Object") ∈ lw_tbl := lw_at lw_m14 41 rfl
theorem in_J8 : ∀ w ∈ wsJ80, w ∈ lw_all := lw_in wsJ80 [441, 443, 445, 447, 449] (by decide +kernel) (by decide +kernel)
/-! java/lang/Exception -/
set_option maxRecDepth 100000
def RJ9 : String := "java/lang/Exception"
abbrev cJ9_init : ByteArray := prog_25_method_1_code
def yJ9_init : MethodName := ⟨RJ9, "<init>", "()V"⟩
theorem dJ9_init_0 : decode cJ9_init 0 = .ok (.aload_n 0, 1) := by decide +kernel
theorem dJ9_init_1 : decode cJ9_init 1 = .ok (.invokespecial 1, 3) := by decide +kernel
theorem dJ9_init_4 : decode cJ9_init 4 = .ok (.return_, 1) := by decide +kernel
abbrev cJ9_init_2 : ByteArray := prog_25_method_2_code
def yJ9_init_2 : MethodName := ⟨RJ9, "<init>", "(Ljava/lang/String;)V"⟩
def dkwJ9_init_2_0 : List UInt8 := [42, 43, 183, 0, 7, 177]
abbrev dktJ9_init_2_0 : List UInt8 := dkwJ9_init_2_0 ++ []
theorem dksJ9_init_2_0 : cJ9_init_2.data.toList.drop 0 = dktJ9_init_2_0 := by decide +kernel
theorem dJ9_init_2_0 : decode cJ9_init_2 0 = .ok (.aload_n 0, 1) := dk_42 (dk_at dksJ9_init_2_0 0 rfl rfl)
theorem dJ9_init_2_1 : decode cJ9_init_2 1 = .ok (.aload_n 1, 1) := dk_43 (dk_at dksJ9_init_2_0 1 rfl rfl)
theorem dJ9_init_2_2 : decode cJ9_init_2 2 = .ok (.invokespecial 7, 3) := dk_183 0 7 (dk_at dksJ9_init_2_0 2 rfl rfl)
theorem dJ9_init_2_5 : decode cJ9_init_2 5 = .ok (.return_, 1) := dk_177 (dk_at dksJ9_init_2_0 5 rfl rfl)
abbrev cJ9_init_3 : ByteArray := prog_25_method_5_code
def yJ9_init_3 : MethodName := ⟨RJ9, "<init>", "(Ljava/lang/String;Ljava/lang/Throwable;ZZ)V"⟩
def dkwJ9_init_3_0 : List UInt8 := [42, 43, 44, 29, 21, 4, 183, 0, 16, 177]
abbrev dktJ9_init_3_0 : List UInt8 := dkwJ9_init_3_0 ++ []
theorem dksJ9_init_3_0 : cJ9_init_3.data.toList.drop 0 = dktJ9_init_3_0 := by decide +kernel
theorem dJ9_init_3_0 : decode cJ9_init_3 0 = .ok (.aload_n 0, 1) := dk_42 (dk_at dksJ9_init_3_0 0 rfl rfl)
theorem dJ9_init_3_1 : decode cJ9_init_3 1 = .ok (.aload_n 1, 1) := dk_43 (dk_at dksJ9_init_3_0 1 rfl rfl)
theorem dJ9_init_3_2 : decode cJ9_init_3 2 = .ok (.aload_n 2, 1) := dk_44 (dk_at dksJ9_init_3_0 2 rfl rfl)
theorem dJ9_init_3_3 : decode cJ9_init_3 3 = .ok (.iload_n 3, 1) := dk_29 (dk_at dksJ9_init_3_0 3 rfl rfl)
theorem dJ9_init_3_4 : decode cJ9_init_3 4 = .ok (.iload 4, 2) := dk_21 4 (dk_at dksJ9_init_3_0 4 rfl rfl)
theorem dJ9_init_3_6 : decode cJ9_init_3 6 = .ok (.invokespecial 16, 3) := dk_183 0 16 (dk_at dksJ9_init_3_0 6 rfl rfl)
theorem dJ9_init_3_9 : decode cJ9_init_3 9 = .ok (.return_, 1) := dk_177 (dk_at dksJ9_init_3_0 9 rfl rfl)
theorem q106 : (Jvm.Cond.initialized "java/lang/Exception") ∈ lw_all := lw_g (lw_at lw_m1 13 rfl) rfl
theorem q434 : (Jvm.Cond.declares ({ cls := "java/lang/Exception", name := "<init>", desc := "()V" } : Jvm.MethodName)) ∈ lw_tbl := lw_at lw_m2 101 rfl
theorem q435 : (Jvm.Cond.declares ({ cls := "java/lang/Exception", name := "<init>", desc := "(Ljava/lang/String;)V" } : Jvm.MethodName)) ∈ lw_tbl := lw_at lw_m2 102 rfl
theorem q483 : (Jvm.Cond.instanceMethod ({ cls := "java/lang/Exception", name := "<init>", desc := "()V" } : Jvm.MethodName)) ∈ lw_all := lw_g (lw_at lw_m2 150 rfl) rfl
theorem q484 : (Jvm.Cond.code ({ cls := "java/lang/Exception", name := "<init>", desc := "()V" } : Jvm.MethodName) prog_25_method_1_code (1 : Nat) (Option.none : Option Jvm.ClassFile.FieldType)) ∈ lw_all := lw_g (lw_at lw_m2 151 rfl) rfl
theorem q485 : (Jvm.Cond.methodLink "java/lang/Exception" (1 : Nat) ({ cls := "java/lang/Throwable", name := "<init>", desc := "()V" } : Jvm.MethodName)) ∈ lw_all := lw_g (lw_at lw_m2 152 rfl) rfl
theorem q1509 : (Jvm.Cond.instanceMethod ({ cls := "java/lang/Exception", name := "<init>", desc := "(Ljava/lang/String;)V" } : Jvm.MethodName)) ∈ lw_all := lw_g (lw_at lw_m6 216 rfl) rfl
theorem q1510 : (Jvm.Cond.code ({ cls := "java/lang/Exception", name := "<init>", desc := "(Ljava/lang/String;)V" } : Jvm.MethodName) prog_25_method_2_code (2 : Nat) (Option.none : Option Jvm.ClassFile.FieldType)) ∈ lw_all := lw_g (lw_at lw_m6 217 rfl) rfl
theorem q1511 : (Jvm.Cond.methodLink "java/lang/Exception" (7 : Nat) ({ cls := "java/lang/Throwable", name := "<init>", desc := "(Ljava/lang/String;)V" } : Jvm.MethodName)) ∈ lw_all := lw_g (lw_at lw_m6 218 rfl) rfl
theorem q2529 : (Jvm.Cond.instanceMethod ({ cls := "java/lang/Exception", name := "<init>", desc := "(Ljava/lang/String;Ljava/lang/Throwable;ZZ)V" } : Jvm.MethodName)) ∈ lw_all := lw_g (lw_at lw_m11 36 rfl) rfl
theorem q2530 : (Jvm.Cond.code ({ cls := "java/lang/Exception", name := "<init>", desc := "(Ljava/lang/String;Ljava/lang/Throwable;ZZ)V" } : Jvm.MethodName) prog_25_method_5_code (5 : Nat) (Option.none : Option Jvm.ClassFile.FieldType)) ∈ lw_all := lw_g (lw_at lw_m11 37 rfl) rfl
theorem q2531 : (Jvm.Cond.methodLink "java/lang/Exception" (16 : Nat) ({ cls := "java/lang/Throwable", name := "<init>", desc := "(Ljava/lang/String;Ljava/lang/Throwable;ZZ)V" } : Jvm.MethodName)) ∈ lw_all := lw_g (lw_at lw_m11 38 rfl) rfl
/-! java/lang/RuntimeException -/
set_option maxRecDepth 100000
def RJ10 : String := "java/lang/RuntimeException"
abbrev cJ10_init : ByteArray := prog_36_method_1_code
def yJ10_init : MethodName := ⟨RJ10, "<init>", "()V"⟩
theorem dJ10_init_0 : decode cJ10_init 0 = .ok (.aload_n 0, 1) := by decide +kernel
theorem dJ10_init_1 : decode cJ10_init 1 = .ok (.invokespecial 1, 3) := by decide +kernel
theorem dJ10_init_4 : decode cJ10_init 4 = .ok (.return_, 1) := by decide +kernel
abbrev cJ10_init_2 : ByteArray := prog_36_method_2_code
def yJ10_init_2 : MethodName := ⟨RJ10, "<init>", "(Ljava/lang/String;)V"⟩
def dkwJ10_init_2_0 : List UInt8 := [42, 43, 183, 0, 7, 177]
abbrev dktJ10_init_2_0 : List UInt8 := dkwJ10_init_2_0 ++ []
theorem dksJ10_init_2_0 : cJ10_init_2.data.toList.drop 0 = dktJ10_init_2_0 := by decide +kernel
theorem dJ10_init_2_0 : decode cJ10_init_2 0 = .ok (.aload_n 0, 1) := dk_42 (dk_at dksJ10_init_2_0 0 rfl rfl)
theorem dJ10_init_2_1 : decode cJ10_init_2 1 = .ok (.aload_n 1, 1) := dk_43 (dk_at dksJ10_init_2_0 1 rfl rfl)
theorem dJ10_init_2_2 : decode cJ10_init_2 2 = .ok (.invokespecial 7, 3) := dk_183 0 7 (dk_at dksJ10_init_2_0 2 rfl rfl)
theorem dJ10_init_2_5 : decode cJ10_init_2 5 = .ok (.return_, 1) := dk_177 (dk_at dksJ10_init_2_0 5 rfl rfl)
theorem q107 : (Jvm.Cond.initialized "java/lang/RuntimeException") ∈ lw_all := lw_g (lw_at lw_m1 14 rfl) rfl
theorem q432 : (Jvm.Cond.declares ({ cls := "java/lang/RuntimeException", name := "<init>", desc := "()V" } : Jvm.MethodName)) ∈ lw_tbl := lw_at lw_m2 99 rfl
theorem q433 : (Jvm.Cond.declares ({ cls := "java/lang/RuntimeException", name := "<init>", desc := "(Ljava/lang/String;)V" } : Jvm.MethodName)) ∈ lw_tbl := lw_at lw_m2 100 rfl
theorem q480 : (Jvm.Cond.instanceMethod ({ cls := "java/lang/RuntimeException", name := "<init>", desc := "()V" } : Jvm.MethodName)) ∈ lw_all := lw_g (lw_at lw_m2 147 rfl) rfl
theorem q481 : (Jvm.Cond.code ({ cls := "java/lang/RuntimeException", name := "<init>", desc := "()V" } : Jvm.MethodName) prog_36_method_1_code (1 : Nat) (Option.none : Option Jvm.ClassFile.FieldType)) ∈ lw_all := lw_g (lw_at lw_m2 148 rfl) rfl
theorem q482 : (Jvm.Cond.methodLink "java/lang/RuntimeException" (1 : Nat) ({ cls := "java/lang/Exception", name := "<init>", desc := "()V" } : Jvm.MethodName)) ∈ lw_all := lw_g (lw_at lw_m2 149 rfl) rfl
theorem q1506 : (Jvm.Cond.instanceMethod ({ cls := "java/lang/RuntimeException", name := "<init>", desc := "(Ljava/lang/String;)V" } : Jvm.MethodName)) ∈ lw_all := lw_g (lw_at lw_m6 213 rfl) rfl
theorem q1507 : (Jvm.Cond.code ({ cls := "java/lang/RuntimeException", name := "<init>", desc := "(Ljava/lang/String;)V" } : Jvm.MethodName) prog_36_method_2_code (2 : Nat) (Option.none : Option Jvm.ClassFile.FieldType)) ∈ lw_all := lw_g (lw_at lw_m6 214 rfl) rfl
theorem q1508 : (Jvm.Cond.methodLink "java/lang/RuntimeException" (7 : Nat) ({ cls := "java/lang/Exception", name := "<init>", desc := "(Ljava/lang/String;)V" } : Jvm.MethodName)) ∈ lw_all := lw_g (lw_at lw_m6 215 rfl) rfl
/-! java/lang/IllegalArgumentException -/
set_option maxRecDepth 100000
def RJ11 : String := "java/lang/IllegalArgumentException"
def TJ11 : u_T := fun k => match k with
  | 0 => ("java/lang/Throwable", "cause", "Ljava/lang/Throwable;", false)
  | 1 => ("java/lang/Throwable", "stackTrace", "[Ljava/lang/StackTraceElement;", false)
  | 2 => ("java/lang/Throwable", "suppressedExceptions", "Ljava/util/List;", false)
  | 3 => ("java/lang/Throwable", "detailMessage", "Ljava/lang/String;", false)
  | 4 => ("java/lang/Throwable", "backtrace", "Ljava/lang/Object;", false)
  | _ => ("java/lang/Throwable", "depth", "I", false)
def tyJ11 : Nat → FieldType := fun k => match k with
  | 0 => .object "java/lang/Throwable"
  | 1 => .array (.object "java/lang/StackTraceElement")
  | 2 => .object "java/util/List"
  | 3 => .object "java/lang/String"
  | 4 => .object "java/lang/Object"
  | _ => .int
abbrev wsJ110 : List Cond := u_ws RJ11 TJ11 6
theorem nmJ11 : ∀ a, a < 6 → ∀ b, b < 6 → a ≠ b → (TJ11 a).2.1 ≠ (TJ11 b).2.1 := by decide +kernel
theorem tyJ11_ok : ∀ k, k < 6 → parseFieldDescriptor (TJ11 k).2.2.1 = some (tyJ11 k) := by decide +kernel
abbrev cJ11_init : ByteArray := prog_26_method_1_code
def yJ11_init : MethodName := ⟨RJ11, "<init>", "()V"⟩
theorem dJ11_init_0 : decode cJ11_init 0 = .ok (.aload_n 0, 1) := by decide +kernel
theorem dJ11_init_1 : decode cJ11_init 1 = .ok (.invokespecial 1, 3) := by decide +kernel
theorem dJ11_init_4 : decode cJ11_init 4 = .ok (.return_, 1) := by decide +kernel
abbrev cJ11_init_2 : ByteArray := prog_26_method_2_code
def yJ11_init_2 : MethodName := ⟨RJ11, "<init>", "(Ljava/lang/String;)V"⟩
def dkwJ11_init_2_0 : List UInt8 := [42, 43, 183, 0, 7, 177]
abbrev dktJ11_init_2_0 : List UInt8 := dkwJ11_init_2_0 ++ []
theorem dksJ11_init_2_0 : cJ11_init_2.data.toList.drop 0 = dktJ11_init_2_0 := by decide +kernel
theorem dJ11_init_2_0 : decode cJ11_init_2 0 = .ok (.aload_n 0, 1) := dk_42 (dk_at dksJ11_init_2_0 0 rfl rfl)
theorem dJ11_init_2_1 : decode cJ11_init_2 1 = .ok (.aload_n 1, 1) := dk_43 (dk_at dksJ11_init_2_0 1 rfl rfl)
theorem dJ11_init_2_2 : decode cJ11_init_2 2 = .ok (.invokespecial 7, 3) := dk_183 0 7 (dk_at dksJ11_init_2_0 2 rfl rfl)
theorem dJ11_init_2_5 : decode cJ11_init_2 5 = .ok (.return_, 1) := dk_177 (dk_at dksJ11_init_2_0 5 rfl rfl)
theorem q108 : (Jvm.Cond.initialized "java/lang/IllegalArgumentException") ∈ lw_all := lw_g (lw_at lw_m1 15 rfl) rfl
theorem q465 : (Jvm.Cond.selects "java/lang/IllegalArgumentException" ({ cls := "java/lang/Throwable", name := "fillInStackTrace", desc := "()Ljava/lang/Throwable;" } : Jvm.MethodName) ({ cls := "java/lang/Throwable", name := "fillInStackTrace", desc := "()Ljava/lang/Throwable;" } : Jvm.MethodName)) ∈ lw_all := lw_g (lw_at lw_m2 132 rfl) rfl
theorem q650 : (Jvm.Cond.instantiable "java/lang/IllegalArgumentException" (6 : Nat)) ∈ lw_all := lw_g (lw_at lw_m3 77 rfl) rfl
theorem q651 : (Jvm.Cond.castable "java/lang/IllegalArgumentException" "java/lang/IllegalArgumentException") ∈ lw_tbl := lw_at lw_m3 78 rfl
theorem q652 : (Jvm.Cond.selects "java/lang/IllegalArgumentException" ({ cls := "java/lang/Throwable", name := "fillInStackTrace", desc := "(I)Ljava/lang/Throwable;" } : Jvm.MethodName) ({ cls := "java/lang/Throwable", name := "fillInStackTrace", desc := "(I)Ljava/lang/Throwable;" } : Jvm.MethodName)) ∈ lw_all := lw_g (lw_at lw_m3 79 rfl) rfl
theorem q653 : (Jvm.Cond.lays "java/lang/IllegalArgumentException" "java/lang/Throwable" "cause" "Ljava/lang/Throwable;") ∈ lw_all := lw_g (lw_at lw_m3 80 rfl) rfl
theorem q654 : (Jvm.Cond.lays "java/lang/IllegalArgumentException" "java/lang/Throwable" "stackTrace" "[Ljava/lang/StackTraceElement;") ∈ lw_all := lw_g (lw_at lw_m3 81 rfl) rfl
theorem q655 : (Jvm.Cond.lays "java/lang/IllegalArgumentException" "java/lang/Throwable" "suppressedExceptions" "Ljava/util/List;") ∈ lw_all := lw_g (lw_at lw_m3 82 rfl) rfl
theorem q656 : (Jvm.Cond.lays "java/lang/IllegalArgumentException" "java/lang/Throwable" "detailMessage" "Ljava/lang/String;") ∈ lw_all := lw_g (lw_at lw_m3 83 rfl) rfl
theorem q657 : (Jvm.Cond.lays "java/lang/IllegalArgumentException" "java/lang/Throwable" "backtrace" "Ljava/lang/Object;") ∈ lw_all := lw_g (lw_at lw_m3 84 rfl) rfl
theorem q659 : (Jvm.Cond.instanceMethod ({ cls := "java/lang/IllegalArgumentException", name := "<init>", desc := "()V" } : Jvm.MethodName)) ∈ lw_all := lw_g (lw_at lw_m3 86 rfl) rfl
theorem q660 : (Jvm.Cond.code ({ cls := "java/lang/IllegalArgumentException", name := "<init>", desc := "()V" } : Jvm.MethodName) prog_26_method_1_code (1 : Nat) (Option.none : Option Jvm.ClassFile.FieldType)) ∈ lw_all := lw_g (lw_at lw_m3 87 rfl) rfl
theorem q661 : (Jvm.Cond.methodLink "java/lang/IllegalArgumentException" (1 : Nat) ({ cls := "java/lang/RuntimeException", name := "<init>", desc := "()V" } : Jvm.MethodName)) ∈ lw_all := lw_g (lw_at lw_m3 88 rfl) rfl
theorem q662 : (Jvm.Cond.lays "java/lang/IllegalArgumentException" "java/lang/Throwable" "depth" "I") ∈ lw_all := lw_g (lw_at lw_m3 89 rfl) rfl
theorem q663 : (Jvm.Cond.superclass "java/lang/IllegalArgumentException" "java/lang/RuntimeException") ∈ lw_all := lw_g (lw_at lw_m3 90 rfl) rfl
theorem q722 : (Jvm.Cond.selects "java/lang/IllegalArgumentException" ({ cls := "java/lang/Object", name := "getClass", desc := "()Ljava/lang/Class;" } : Jvm.MethodName) ({ cls := "java/lang/Object", name := "getClass", desc := "()Ljava/lang/Class;" } : Jvm.MethodName)) ∈ lw_all := lw_g (lw_at lw_m3 149 rfl) rfl
theorem q1503 : (Jvm.Cond.instanceMethod ({ cls := "java/lang/IllegalArgumentException", name := "<init>", desc := "(Ljava/lang/String;)V" } : Jvm.MethodName)) ∈ lw_all := lw_g (lw_at lw_m6 210 rfl) rfl
theorem q1504 : (Jvm.Cond.code ({ cls := "java/lang/IllegalArgumentException", name := "<init>", desc := "(Ljava/lang/String;)V" } : Jvm.MethodName) prog_26_method_2_code (2 : Nat) (Option.none : Option Jvm.ClassFile.FieldType)) ∈ lw_all := lw_g (lw_at lw_m6 211 rfl) rfl
theorem q1505 : (Jvm.Cond.methodLink "java/lang/IllegalArgumentException" (7 : Nat) ({ cls := "java/lang/RuntimeException", name := "<init>", desc := "(Ljava/lang/String;)V" } : Jvm.MethodName)) ∈ lw_all := lw_g (lw_at lw_m6 212 rfl) rfl
theorem q3227 : (Jvm.Cond.castable "java/lang/IllegalArgumentException" "java/lang/Object") ∈ lw_tbl := lw_at lw_m14 14 rfl
theorem in_J11 : ∀ w ∈ wsJ110, w ∈ lw_all := lw_in wsJ110 [653, 654, 655, 656, 657, 662] (by decide +kernel) (by decide +kernel)
/-! java/lang/IllegalStateException -/
set_option maxRecDepth 100000
def RJ12 : String := "java/lang/IllegalStateException"
def TJ12 : u_T := fun k => match k with
  | 0 => ("java/lang/Throwable", "cause", "Ljava/lang/Throwable;", false)
  | 1 => ("java/lang/Throwable", "stackTrace", "[Ljava/lang/StackTraceElement;", false)
  | 2 => ("java/lang/Throwable", "suppressedExceptions", "Ljava/util/List;", false)
  | 3 => ("java/lang/Throwable", "detailMessage", "Ljava/lang/String;", false)
  | 4 => ("java/lang/Throwable", "backtrace", "Ljava/lang/Object;", false)
  | _ => ("java/lang/Throwable", "depth", "I", false)
def tyJ12 : Nat → FieldType := fun k => match k with
  | 0 => .object "java/lang/Throwable"
  | 1 => .array (.object "java/lang/StackTraceElement")
  | 2 => .object "java/util/List"
  | 3 => .object "java/lang/String"
  | 4 => .object "java/lang/Object"
  | _ => .int
abbrev wsJ120 : List Cond := u_ws RJ12 TJ12 6
theorem nmJ12 : ∀ a, a < 6 → ∀ b, b < 6 → a ≠ b → (TJ12 a).2.1 ≠ (TJ12 b).2.1 := by decide +kernel
theorem tyJ12_ok : ∀ k, k < 6 → parseFieldDescriptor (TJ12 k).2.2.1 = some (tyJ12 k) := by decide +kernel
abbrev cJ12_init : ByteArray := prog_27_method_1_code
def yJ12_init : MethodName := ⟨RJ12, "<init>", "()V"⟩
theorem dJ12_init_0 : decode cJ12_init 0 = .ok (.aload_n 0, 1) := by decide +kernel
theorem dJ12_init_1 : decode cJ12_init 1 = .ok (.invokespecial 1, 3) := by decide +kernel
theorem dJ12_init_4 : decode cJ12_init 4 = .ok (.return_, 1) := by decide +kernel
abbrev cJ12_init_2 : ByteArray := prog_27_method_2_code
def yJ12_init_2 : MethodName := ⟨RJ12, "<init>", "(Ljava/lang/String;)V"⟩
def dkwJ12_init_2_0 : List UInt8 := [42, 43, 183, 0, 7, 177]
abbrev dktJ12_init_2_0 : List UInt8 := dkwJ12_init_2_0 ++ []
theorem dksJ12_init_2_0 : cJ12_init_2.data.toList.drop 0 = dktJ12_init_2_0 := by decide +kernel
theorem dJ12_init_2_0 : decode cJ12_init_2 0 = .ok (.aload_n 0, 1) := dk_42 (dk_at dksJ12_init_2_0 0 rfl rfl)
theorem dJ12_init_2_1 : decode cJ12_init_2 1 = .ok (.aload_n 1, 1) := dk_43 (dk_at dksJ12_init_2_0 1 rfl rfl)
theorem dJ12_init_2_2 : decode cJ12_init_2 2 = .ok (.invokespecial 7, 3) := dk_183 0 7 (dk_at dksJ12_init_2_0 2 rfl rfl)
theorem dJ12_init_2_5 : decode cJ12_init_2 5 = .ok (.return_, 1) := dk_177 (dk_at dksJ12_init_2_0 5 rfl rfl)
theorem q109 : (Jvm.Cond.initialized "java/lang/IllegalStateException") ∈ lw_all := lw_g (lw_at lw_m1 16 rfl) rfl
theorem q466 : (Jvm.Cond.selects "java/lang/IllegalStateException" ({ cls := "java/lang/Throwable", name := "fillInStackTrace", desc := "()Ljava/lang/Throwable;" } : Jvm.MethodName) ({ cls := "java/lang/Throwable", name := "fillInStackTrace", desc := "()Ljava/lang/Throwable;" } : Jvm.MethodName)) ∈ lw_all := lw_g (lw_at lw_m2 133 rfl) rfl
theorem q723 : (Jvm.Cond.selects "java/lang/IllegalStateException" ({ cls := "java/lang/Object", name := "getClass", desc := "()Ljava/lang/Class;" } : Jvm.MethodName) ({ cls := "java/lang/Object", name := "getClass", desc := "()Ljava/lang/Class;" } : Jvm.MethodName)) ∈ lw_all := lw_g (lw_at lw_m3 150 rfl) rfl
theorem q1865 : (Jvm.Cond.instantiable "java/lang/IllegalStateException" (6 : Nat)) ∈ lw_all := lw_g (lw_at lw_m8 92 rfl) rfl
theorem q1866 : (Jvm.Cond.castable "java/lang/IllegalStateException" "java/lang/IllegalStateException") ∈ lw_tbl := lw_at lw_m8 93 rfl
theorem q1867 : (Jvm.Cond.selects "java/lang/IllegalStateException" ({ cls := "java/lang/Throwable", name := "fillInStackTrace", desc := "(I)Ljava/lang/Throwable;" } : Jvm.MethodName) ({ cls := "java/lang/Throwable", name := "fillInStackTrace", desc := "(I)Ljava/lang/Throwable;" } : Jvm.MethodName)) ∈ lw_all := lw_g (lw_at lw_m8 94 rfl) rfl
theorem q1868 : (Jvm.Cond.lays "java/lang/IllegalStateException" "java/lang/Throwable" "cause" "Ljava/lang/Throwable;") ∈ lw_all := lw_g (lw_at lw_m8 95 rfl) rfl
theorem q1869 : (Jvm.Cond.lays "java/lang/IllegalStateException" "java/lang/Throwable" "stackTrace" "[Ljava/lang/StackTraceElement;") ∈ lw_all := lw_g (lw_at lw_m8 96 rfl) rfl
theorem q1870 : (Jvm.Cond.lays "java/lang/IllegalStateException" "java/lang/Throwable" "suppressedExceptions" "Ljava/util/List;") ∈ lw_all := lw_g (lw_at lw_m8 97 rfl) rfl
theorem q1871 : (Jvm.Cond.lays "java/lang/IllegalStateException" "java/lang/Throwable" "detailMessage" "Ljava/lang/String;") ∈ lw_all := lw_g (lw_at lw_m8 98 rfl) rfl
theorem q1872 : (Jvm.Cond.lays "java/lang/IllegalStateException" "java/lang/Throwable" "backtrace" "Ljava/lang/Object;") ∈ lw_all := lw_g (lw_at lw_m8 99 rfl) rfl
theorem q1874 : (Jvm.Cond.instanceMethod ({ cls := "java/lang/IllegalStateException", name := "<init>", desc := "()V" } : Jvm.MethodName)) ∈ lw_all := lw_g (lw_at lw_m8 101 rfl) rfl
theorem q1875 : (Jvm.Cond.code ({ cls := "java/lang/IllegalStateException", name := "<init>", desc := "()V" } : Jvm.MethodName) prog_27_method_1_code (1 : Nat) (Option.none : Option Jvm.ClassFile.FieldType)) ∈ lw_all := lw_g (lw_at lw_m8 102 rfl) rfl
theorem q1876 : (Jvm.Cond.methodLink "java/lang/IllegalStateException" (1 : Nat) ({ cls := "java/lang/RuntimeException", name := "<init>", desc := "()V" } : Jvm.MethodName)) ∈ lw_all := lw_g (lw_at lw_m8 103 rfl) rfl
theorem q1877 : (Jvm.Cond.lays "java/lang/IllegalStateException" "java/lang/Throwable" "depth" "I") ∈ lw_all := lw_g (lw_at lw_m8 104 rfl) rfl
theorem q1878 : (Jvm.Cond.superclass "java/lang/IllegalStateException" "java/lang/RuntimeException") ∈ lw_all := lw_g (lw_at lw_m8 105 rfl) rfl
theorem q1915 : (Jvm.Cond.instanceMethod ({ cls := "java/lang/IllegalStateException", name := "<init>", desc := "(Ljava/lang/String;)V" } : Jvm.MethodName)) ∈ lw_all := lw_g (lw_at lw_m8 142 rfl) rfl
theorem q1916 : (Jvm.Cond.code ({ cls := "java/lang/IllegalStateException", name := "<init>", desc := "(Ljava/lang/String;)V" } : Jvm.MethodName) prog_27_method_2_code (2 : Nat) (Option.none : Option Jvm.ClassFile.FieldType)) ∈ lw_all := lw_g (lw_at lw_m8 143 rfl) rfl
theorem q1917 : (Jvm.Cond.methodLink "java/lang/IllegalStateException" (7 : Nat) ({ cls := "java/lang/RuntimeException", name := "<init>", desc := "(Ljava/lang/String;)V" } : Jvm.MethodName)) ∈ lw_all := lw_g (lw_at lw_m8 144 rfl) rfl
theorem q3228 : (Jvm.Cond.castable "java/lang/IllegalStateException" "java/lang/Object") ∈ lw_tbl := lw_at lw_m14 15 rfl
theorem in_J12 : ∀ w ∈ wsJ120, w ∈ lw_all := lw_in wsJ120 [1868, 1869, 1870, 1871, 1872, 1877] (by decide +kernel) (by decide +kernel)
/-! jdk/internal/util/ArraysSupport -/
set_option maxRecDepth 100000
def RJ13 : String := "jdk/internal/util/ArraysSupport"
abbrev cJ13_newLength : ByteArray := prog_82_method_27_code
def yJ13_newLength : MethodName := ⟨RJ13, "newLength", "(III)I"⟩
def dkwJ13_newLength_1 : List UInt8 := [184, 0, 201, 172]
abbrev dktJ13_newLength_1 : List UInt8 := dkwJ13_newLength_1 ++ []
def dkwJ13_newLength_0 : List UInt8 := [26, 27, 28, 184, 0, 194, 96, 62, 3, 29, 162, 0, 11, 29, 18, 200, 163, 0, 5, 29, 172, 26, 27]
abbrev dktJ13_newLength_0 : List UInt8 := dkwJ13_newLength_0 ++ dktJ13_newLength_1
theorem dksJ13_newLength_0 : cJ13_newLength.data.toList.drop 0 = dktJ13_newLength_0 := by decide +kernel
theorem dksJ13_newLength_1 : cJ13_newLength.data.toList.drop 23 = dktJ13_newLength_1 := dk_seg dksJ13_newLength_0 23 rfl rfl
theorem dJ13_newLength_0 : decode cJ13_newLength 0 = .ok (.iload_n 0, 1) := dk_26 (dk_at dksJ13_newLength_0 0 rfl rfl)
theorem dJ13_newLength_1 : decode cJ13_newLength 1 = .ok (.iload_n 1, 1) := dk_27 (dk_at dksJ13_newLength_0 1 rfl rfl)
theorem dJ13_newLength_2 : decode cJ13_newLength 2 = .ok (.iload_n 2, 1) := dk_28 (dk_at dksJ13_newLength_0 2 rfl rfl)
theorem dJ13_newLength_3 : decode cJ13_newLength 3 = .ok (.invokestatic 194, 3) := dk_184 0 194 (dk_at dksJ13_newLength_0 3 rfl rfl)
theorem dJ13_newLength_6 : decode cJ13_newLength 6 = .ok (.iadd, 1) := dk_96 (dk_at dksJ13_newLength_0 6 rfl rfl)
theorem dJ13_newLength_7 : decode cJ13_newLength 7 = .ok (.istore_n 3, 1) := dk_62 (dk_at dksJ13_newLength_0 7 rfl rfl)
theorem dJ13_newLength_8 : decode cJ13_newLength 8 = .ok (.iconst 0, 1) := dk_3 (dk_at dksJ13_newLength_0 8 rfl rfl)
theorem dJ13_newLength_9 : decode cJ13_newLength 9 = .ok (.iload_n 3, 1) := dk_29 (dk_at dksJ13_newLength_0 9 rfl rfl)
theorem dJ13_newLength_10 : decode cJ13_newLength 10 = .ok (.if_icmp .ge 11, 3) := dk_162 0 11 (dk_at dksJ13_newLength_0 10 rfl rfl)
theorem dJ13_newLength_13 : decode cJ13_newLength 13 = .ok (.iload_n 3, 1) := dk_29 (dk_at dksJ13_newLength_0 13 rfl rfl)
theorem dJ13_newLength_14 : decode cJ13_newLength 14 = .ok (.ldc 200, 2) := dk_18 200 (dk_at dksJ13_newLength_0 14 rfl rfl)
theorem dJ13_newLength_16 : decode cJ13_newLength 16 = .ok (.if_icmp .gt 5, 3) := dk_163 0 5 (dk_at dksJ13_newLength_0 16 rfl rfl)
theorem dJ13_newLength_19 : decode cJ13_newLength 19 = .ok (.iload_n 3, 1) := dk_29 (dk_at dksJ13_newLength_0 19 rfl rfl)
theorem dJ13_newLength_20 : decode cJ13_newLength 20 = .ok (.ireturn, 1) := dk_172 (dk_at dksJ13_newLength_0 20 rfl rfl)
theorem dJ13_newLength_21 : decode cJ13_newLength 21 = .ok (.iload_n 0, 1) := dk_26 (dk_at dksJ13_newLength_0 21 rfl rfl)
theorem dJ13_newLength_22 : decode cJ13_newLength 22 = .ok (.iload_n 1, 1) := dk_27 (dk_at dksJ13_newLength_0 22 rfl rfl)
theorem dJ13_newLength_23 : decode cJ13_newLength 23 = .ok (.invokestatic 201, 3) := dk_184 0 201 (dk_at dksJ13_newLength_1 0 rfl rfl)
theorem dJ13_newLength_26 : decode cJ13_newLength 26 = .ok (.ireturn, 1) := dk_172 (dk_at dksJ13_newLength_1 3 rfl rfl)
abbrev cJ13_hugeLength : ByteArray := prog_82_method_28_code
def yJ13_hugeLength : MethodName := ⟨RJ13, "hugeLength", "(II)I"⟩
def dkwJ13_hugeLength_2 : List UInt8 := [191, 28, 18, 200, 163, 0, 6, 18, 200, 172, 28, 172]
abbrev dktJ13_hugeLength_2 : List UInt8 := dkwJ13_hugeLength_2 ++ []
def dkwJ13_hugeLength_1 : List UInt8 := [26, 182, 0, 98, 18, 208, 182, 0, 94, 27, 182, 0, 98, 18, 210, 182, 0, 94, 182, 0, 101, 183, 0, 212]
abbrev dktJ13_hugeLength_1 : List UInt8 := dkwJ13_hugeLength_1 ++ dktJ13_hugeLength_2
def dkwJ13_hugeLength_0 : List UInt8 := [26, 27, 96, 61, 28, 156, 0, 44, 187, 0, 204, 89, 187, 0, 89, 89, 183, 0, 91, 18, 206, 182, 0, 94]
abbrev dktJ13_hugeLength_0 : List UInt8 := dkwJ13_hugeLength_0 ++ dktJ13_hugeLength_1
theorem dksJ13_hugeLength_0 : cJ13_hugeLength.data.toList.drop 0 = dktJ13_hugeLength_0 := by decide +kernel
theorem dksJ13_hugeLength_1 : cJ13_hugeLength.data.toList.drop 24 = dktJ13_hugeLength_1 := dk_seg dksJ13_hugeLength_0 24 rfl rfl
theorem dksJ13_hugeLength_2 : cJ13_hugeLength.data.toList.drop 48 = dktJ13_hugeLength_2 := dk_seg dksJ13_hugeLength_1 24 rfl rfl
theorem dJ13_hugeLength_0 : decode cJ13_hugeLength 0 = .ok (.iload_n 0, 1) := dk_26 (dk_at dksJ13_hugeLength_0 0 rfl rfl)
theorem dJ13_hugeLength_1 : decode cJ13_hugeLength 1 = .ok (.iload_n 1, 1) := dk_27 (dk_at dksJ13_hugeLength_0 1 rfl rfl)
theorem dJ13_hugeLength_2 : decode cJ13_hugeLength 2 = .ok (.iadd, 1) := dk_96 (dk_at dksJ13_hugeLength_0 2 rfl rfl)
theorem dJ13_hugeLength_3 : decode cJ13_hugeLength 3 = .ok (.istore_n 2, 1) := dk_61 (dk_at dksJ13_hugeLength_0 3 rfl rfl)
theorem dJ13_hugeLength_4 : decode cJ13_hugeLength 4 = .ok (.iload_n 2, 1) := dk_28 (dk_at dksJ13_hugeLength_0 4 rfl rfl)
theorem dJ13_hugeLength_5 : decode cJ13_hugeLength 5 = .ok (.ifCond .ge 44, 3) := dk_156 0 44 (dk_at dksJ13_hugeLength_0 5 rfl rfl)
theorem dJ13_hugeLength_8 : decode cJ13_hugeLength 8 = .ok (.new 204, 3) := dk_187 0 204 (dk_at dksJ13_hugeLength_0 8 rfl rfl)
theorem dJ13_hugeLength_11 : decode cJ13_hugeLength 11 = .ok (.dup, 1) := dk_89 (dk_at dksJ13_hugeLength_0 11 rfl rfl)
theorem dJ13_hugeLength_12 : decode cJ13_hugeLength 12 = .ok (.new 89, 3) := dk_187 0 89 (dk_at dksJ13_hugeLength_0 12 rfl rfl)
theorem dJ13_hugeLength_15 : decode cJ13_hugeLength 15 = .ok (.dup, 1) := dk_89 (dk_at dksJ13_hugeLength_0 15 rfl rfl)
theorem dJ13_hugeLength_16 : decode cJ13_hugeLength 16 = .ok (.invokespecial 91, 3) := dk_183 0 91 (dk_at dksJ13_hugeLength_0 16 rfl rfl)
theorem dJ13_hugeLength_19 : decode cJ13_hugeLength 19 = .ok (.ldc 206, 2) := dk_18 206 (dk_at dksJ13_hugeLength_0 19 rfl rfl)
theorem dJ13_hugeLength_21 : decode cJ13_hugeLength 21 = .ok (.invokevirtual 94, 3) := dk_182 0 94 (dk_at dksJ13_hugeLength_0 21 rfl rfl)
theorem dJ13_hugeLength_24 : decode cJ13_hugeLength 24 = .ok (.iload_n 0, 1) := dk_26 (dk_at dksJ13_hugeLength_1 0 rfl rfl)
theorem dJ13_hugeLength_25 : decode cJ13_hugeLength 25 = .ok (.invokevirtual 98, 3) := dk_182 0 98 (dk_at dksJ13_hugeLength_1 1 rfl rfl)
theorem dJ13_hugeLength_28 : decode cJ13_hugeLength 28 = .ok (.ldc 208, 2) := dk_18 208 (dk_at dksJ13_hugeLength_1 4 rfl rfl)
theorem dJ13_hugeLength_30 : decode cJ13_hugeLength 30 = .ok (.invokevirtual 94, 3) := dk_182 0 94 (dk_at dksJ13_hugeLength_1 6 rfl rfl)
theorem dJ13_hugeLength_33 : decode cJ13_hugeLength 33 = .ok (.iload_n 1, 1) := dk_27 (dk_at dksJ13_hugeLength_1 9 rfl rfl)
theorem dJ13_hugeLength_34 : decode cJ13_hugeLength 34 = .ok (.invokevirtual 98, 3) := dk_182 0 98 (dk_at dksJ13_hugeLength_1 10 rfl rfl)
theorem dJ13_hugeLength_37 : decode cJ13_hugeLength 37 = .ok (.ldc 210, 2) := dk_18 210 (dk_at dksJ13_hugeLength_1 13 rfl rfl)
theorem dJ13_hugeLength_39 : decode cJ13_hugeLength 39 = .ok (.invokevirtual 94, 3) := dk_182 0 94 (dk_at dksJ13_hugeLength_1 15 rfl rfl)
theorem dJ13_hugeLength_42 : decode cJ13_hugeLength 42 = .ok (.invokevirtual 101, 3) := dk_182 0 101 (dk_at dksJ13_hugeLength_1 18 rfl rfl)
theorem dJ13_hugeLength_45 : decode cJ13_hugeLength 45 = .ok (.invokespecial 212, 3) := dk_183 0 212 (dk_at dksJ13_hugeLength_1 21 rfl rfl)
theorem dJ13_hugeLength_48 : decode cJ13_hugeLength 48 = .ok (.athrow, 1) := dk_191 (dk_at dksJ13_hugeLength_2 0 rfl rfl)
theorem dJ13_hugeLength_49 : decode cJ13_hugeLength 49 = .ok (.iload_n 2, 1) := dk_28 (dk_at dksJ13_hugeLength_2 1 rfl rfl)
theorem dJ13_hugeLength_50 : decode cJ13_hugeLength 50 = .ok (.ldc 200, 2) := dk_18 200 (dk_at dksJ13_hugeLength_2 2 rfl rfl)
theorem dJ13_hugeLength_52 : decode cJ13_hugeLength 52 = .ok (.if_icmp .gt 6, 3) := dk_163 0 6 (dk_at dksJ13_hugeLength_2 4 rfl rfl)
theorem dJ13_hugeLength_55 : decode cJ13_hugeLength 55 = .ok (.ldc 200, 2) := dk_18 200 (dk_at dksJ13_hugeLength_2 7 rfl rfl)
theorem dJ13_hugeLength_57 : decode cJ13_hugeLength 57 = .ok (.ireturn, 1) := dk_172 (dk_at dksJ13_hugeLength_2 9 rfl rfl)
theorem dJ13_hugeLength_58 : decode cJ13_hugeLength 58 = .ok (.iload_n 2, 1) := dk_28 (dk_at dksJ13_hugeLength_2 10 rfl rfl)
theorem dJ13_hugeLength_59 : decode cJ13_hugeLength 59 = .ok (.ireturn, 1) := dk_172 (dk_at dksJ13_hugeLength_2 11 rfl rfl)
abbrev cJ13_mismatch : ByteArray := prog_82_method_13_code
def yJ13_mismatch : MethodName := ⟨RJ13, "mismatch", "([B[BI)I"⟩
def dkwJ13_mismatch_3 : List UInt8 := [172]
abbrev dktJ13_mismatch_3 : List UInt8 := dkwJ13_mismatch_3 ++ []
def dkwJ13_mismatch_2 : List UInt8 := [62, 29, 28, 162, 0, 20, 42, 29, 51, 43, 29, 51, 159, 0, 5, 29, 172, 132, 3, 1, 167, 255, 237, 2]
abbrev dktJ13_mismatch_2 : List UInt8 := dkwJ13_mismatch_2 ++ dktJ13_mismatch_3
def dkwJ13_mismatch_1 : List UInt8 := [43, 178, 0, 126, 133, 28, 178, 0, 129, 184, 0, 122, 62, 29, 155, 0, 5, 29, 172, 28, 29, 2, 130, 100]
abbrev dktJ13_mismatch_1 : List UInt8 := dkwJ13_mismatch_1 ++ dktJ13_mismatch_2
def dkwJ13_mismatch_0 : List UInt8 := [3, 62, 28, 16, 7, 164, 0, 44, 42, 3, 51, 43, 3, 51, 159, 0, 5, 3, 172, 42, 178, 0, 126, 133]
abbrev dktJ13_mismatch_0 : List UInt8 := dkwJ13_mismatch_0 ++ dktJ13_mismatch_1
theorem dksJ13_mismatch_0 : cJ13_mismatch.data.toList.drop 0 = dktJ13_mismatch_0 := by decide +kernel
theorem dksJ13_mismatch_1 : cJ13_mismatch.data.toList.drop 24 = dktJ13_mismatch_1 := dk_seg dksJ13_mismatch_0 24 rfl rfl
theorem dksJ13_mismatch_2 : cJ13_mismatch.data.toList.drop 48 = dktJ13_mismatch_2 := dk_seg dksJ13_mismatch_1 24 rfl rfl
theorem dksJ13_mismatch_3 : cJ13_mismatch.data.toList.drop 72 = dktJ13_mismatch_3 := dk_seg dksJ13_mismatch_2 24 rfl rfl
theorem dJ13_mismatch_0 : decode cJ13_mismatch 0 = .ok (.iconst 0, 1) := dk_3 (dk_at dksJ13_mismatch_0 0 rfl rfl)
theorem dJ13_mismatch_1 : decode cJ13_mismatch 1 = .ok (.istore_n 3, 1) := dk_62 (dk_at dksJ13_mismatch_0 1 rfl rfl)
theorem dJ13_mismatch_2 : decode cJ13_mismatch 2 = .ok (.iload_n 2, 1) := dk_28 (dk_at dksJ13_mismatch_0 2 rfl rfl)
theorem dJ13_mismatch_3 : decode cJ13_mismatch 3 = .ok (.bipush 7, 2) := dk_16 7 (dk_at dksJ13_mismatch_0 3 rfl rfl)
theorem dJ13_mismatch_5 : decode cJ13_mismatch 5 = .ok (.if_icmp .le 44, 3) := dk_164 0 44 (dk_at dksJ13_mismatch_0 5 rfl rfl)
theorem dJ13_mismatch_8 : decode cJ13_mismatch 8 = .ok (.aload_n 0, 1) := dk_42 (dk_at dksJ13_mismatch_0 8 rfl rfl)
theorem dJ13_mismatch_9 : decode cJ13_mismatch 9 = .ok (.iconst 0, 1) := dk_3 (dk_at dksJ13_mismatch_0 9 rfl rfl)
theorem dJ13_mismatch_10 : decode cJ13_mismatch 10 = .ok (.baload, 1) := dk_51 (dk_at dksJ13_mismatch_0 10 rfl rfl)
theorem dJ13_mismatch_11 : decode cJ13_mismatch 11 = .ok (.aload_n 1, 1) := dk_43 (dk_at dksJ13_mismatch_0 11 rfl rfl)
theorem dJ13_mismatch_12 : decode cJ13_mismatch 12 = .ok (.iconst 0, 1) := dk_3 (dk_at dksJ13_mismatch_0 12 rfl rfl)
theorem dJ13_mismatch_13 : decode cJ13_mismatch 13 = .ok (.baload, 1) := dk_51 (dk_at dksJ13_mismatch_0 13 rfl rfl)
theorem dJ13_mismatch_14 : decode cJ13_mismatch 14 = .ok (.if_icmp .eq 5, 3) := dk_159 0 5 (dk_at dksJ13_mismatch_0 14 rfl rfl)
theorem dJ13_mismatch_17 : decode cJ13_mismatch 17 = .ok (.iconst 0, 1) := dk_3 (dk_at dksJ13_mismatch_0 17 rfl rfl)
theorem dJ13_mismatch_18 : decode cJ13_mismatch 18 = .ok (.ireturn, 1) := dk_172 (dk_at dksJ13_mismatch_0 18 rfl rfl)
theorem dJ13_mismatch_19 : decode cJ13_mismatch 19 = .ok (.aload_n 0, 1) := dk_42 (dk_at dksJ13_mismatch_0 19 rfl rfl)
theorem dJ13_mismatch_20 : decode cJ13_mismatch 20 = .ok (.getstatic 126, 3) := dk_178 0 126 (dk_at dksJ13_mismatch_0 20 rfl rfl)
theorem dJ13_mismatch_23 : decode cJ13_mismatch 23 = .ok (.i2l, 1) := dk_133 (dk_at dksJ13_mismatch_0 23 rfl rfl)
theorem dJ13_mismatch_24 : decode cJ13_mismatch 24 = .ok (.aload_n 1, 1) := dk_43 (dk_at dksJ13_mismatch_1 0 rfl rfl)
theorem dJ13_mismatch_25 : decode cJ13_mismatch 25 = .ok (.getstatic 126, 3) := dk_178 0 126 (dk_at dksJ13_mismatch_1 1 rfl rfl)
theorem dJ13_mismatch_28 : decode cJ13_mismatch 28 = .ok (.i2l, 1) := dk_133 (dk_at dksJ13_mismatch_1 4 rfl rfl)
theorem dJ13_mismatch_29 : decode cJ13_mismatch 29 = .ok (.iload_n 2, 1) := dk_28 (dk_at dksJ13_mismatch_1 5 rfl rfl)
theorem dJ13_mismatch_30 : decode cJ13_mismatch 30 = .ok (.getstatic 129, 3) := dk_178 0 129 (dk_at dksJ13_mismatch_1 6 rfl rfl)
theorem dJ13_mismatch_33 : decode cJ13_mismatch 33 = .ok (.invokestatic 122, 3) := dk_184 0 122 (dk_at dksJ13_mismatch_1 9 rfl rfl)
theorem dJ13_mismatch_36 : decode cJ13_mismatch 36 = .ok (.istore_n 3, 1) := dk_62 (dk_at dksJ13_mismatch_1 12 rfl rfl)
theorem dJ13_mismatch_37 : decode cJ13_mismatch 37 = .ok (.iload_n 3, 1) := dk_29 (dk_at dksJ13_mismatch_1 13 rfl rfl)
theorem dJ13_mismatch_38 : decode cJ13_mismatch 38 = .ok (.ifCond .lt 5, 3) := dk_155 0 5 (dk_at dksJ13_mismatch_1 14 rfl rfl)
theorem dJ13_mismatch_41 : decode cJ13_mismatch 41 = .ok (.iload_n 3, 1) := dk_29 (dk_at dksJ13_mismatch_1 17 rfl rfl)
theorem dJ13_mismatch_42 : decode cJ13_mismatch 42 = .ok (.ireturn, 1) := dk_172 (dk_at dksJ13_mismatch_1 18 rfl rfl)
theorem dJ13_mismatch_43 : decode cJ13_mismatch 43 = .ok (.iload_n 2, 1) := dk_28 (dk_at dksJ13_mismatch_1 19 rfl rfl)
theorem dJ13_mismatch_44 : decode cJ13_mismatch 44 = .ok (.iload_n 3, 1) := dk_29 (dk_at dksJ13_mismatch_1 20 rfl rfl)
theorem dJ13_mismatch_45 : decode cJ13_mismatch 45 = .ok (.iconst (-1), 1) := dk_2 (dk_at dksJ13_mismatch_1 21 rfl rfl)
theorem dJ13_mismatch_46 : decode cJ13_mismatch 46 = .ok (.ixor, 1) := dk_130 (dk_at dksJ13_mismatch_1 22 rfl rfl)
theorem dJ13_mismatch_47 : decode cJ13_mismatch 47 = .ok (.isub, 1) := dk_100 (dk_at dksJ13_mismatch_1 23 rfl rfl)
theorem dJ13_mismatch_48 : decode cJ13_mismatch 48 = .ok (.istore_n 3, 1) := dk_62 (dk_at dksJ13_mismatch_2 0 rfl rfl)
theorem dJ13_mismatch_49 : decode cJ13_mismatch 49 = .ok (.iload_n 3, 1) := dk_29 (dk_at dksJ13_mismatch_2 1 rfl rfl)
theorem dJ13_mismatch_50 : decode cJ13_mismatch 50 = .ok (.iload_n 2, 1) := dk_28 (dk_at dksJ13_mismatch_2 2 rfl rfl)
theorem dJ13_mismatch_51 : decode cJ13_mismatch 51 = .ok (.if_icmp .ge 20, 3) := dk_162 0 20 (dk_at dksJ13_mismatch_2 3 rfl rfl)
theorem dJ13_mismatch_54 : decode cJ13_mismatch 54 = .ok (.aload_n 0, 1) := dk_42 (dk_at dksJ13_mismatch_2 6 rfl rfl)
theorem dJ13_mismatch_55 : decode cJ13_mismatch 55 = .ok (.iload_n 3, 1) := dk_29 (dk_at dksJ13_mismatch_2 7 rfl rfl)
theorem dJ13_mismatch_56 : decode cJ13_mismatch 56 = .ok (.baload, 1) := dk_51 (dk_at dksJ13_mismatch_2 8 rfl rfl)
theorem dJ13_mismatch_57 : decode cJ13_mismatch 57 = .ok (.aload_n 1, 1) := dk_43 (dk_at dksJ13_mismatch_2 9 rfl rfl)
theorem dJ13_mismatch_58 : decode cJ13_mismatch 58 = .ok (.iload_n 3, 1) := dk_29 (dk_at dksJ13_mismatch_2 10 rfl rfl)
theorem dJ13_mismatch_59 : decode cJ13_mismatch 59 = .ok (.baload, 1) := dk_51 (dk_at dksJ13_mismatch_2 11 rfl rfl)
theorem dJ13_mismatch_60 : decode cJ13_mismatch 60 = .ok (.if_icmp .eq 5, 3) := dk_159 0 5 (dk_at dksJ13_mismatch_2 12 rfl rfl)
theorem dJ13_mismatch_63 : decode cJ13_mismatch 63 = .ok (.iload_n 3, 1) := dk_29 (dk_at dksJ13_mismatch_2 15 rfl rfl)
theorem dJ13_mismatch_64 : decode cJ13_mismatch 64 = .ok (.ireturn, 1) := dk_172 (dk_at dksJ13_mismatch_2 16 rfl rfl)
theorem dJ13_mismatch_65 : decode cJ13_mismatch 65 = .ok (.iinc 3 1, 3) := dk_132 3 1 (dk_at dksJ13_mismatch_2 17 rfl rfl)
theorem dJ13_mismatch_68 : decode cJ13_mismatch 68 = .ok (.goto (-19), 3) := dk_167 255 237 (dk_at dksJ13_mismatch_2 20 rfl rfl)
theorem dJ13_mismatch_71 : decode cJ13_mismatch 71 = .ok (.iconst (-1), 1) := dk_2 (dk_at dksJ13_mismatch_2 23 rfl rfl)
theorem dJ13_mismatch_72 : decode cJ13_mismatch 72 = .ok (.ireturn, 1) := dk_172 (dk_at dksJ13_mismatch_3 0 rfl rfl)
abbrev cJ13_vectorizedMismatch : ByteArray := prog_82_method_3_code
def yJ13_vectorizedMismatch : MethodName := ⟨RJ13, "vectorizedMismatch", "(Ljava/lang/Object;JLjava/lang/Object;JII)I"⟩
def dkwJ13_vectorizedMismatch_11 : List UInt8 := [54, 10, 21, 10, 2, 130, 172, 21, 10, 2, 130, 172]
abbrev dktJ13_vectorizedMismatch_11 : List UInt8 := dkwJ13_vectorizedMismatch_11 ++ []
def dkwJ13_vectorizedMismatch_10 : List UInt8 := [178, 0, 46, 21, 7, 96, 122, 54, 17, 21, 9, 21, 8, 120, 21, 17, 96, 172, 21, 10, 21, 11, 100]
abbrev dktJ13_vectorizedMismatch_10 : List UInt8 := dkwJ13_vectorizedMismatch_10 ++ dktJ13_vectorizedMismatch_11
def dkwJ13_vectorizedMismatch_9 : List UInt8 := [153, 0, 18, 21, 16, 184, 0, 58, 178, 0, 46, 21, 7, 96, 122, 167, 0, 15, 21, 16, 184, 0, 11]
abbrev dktJ13_vectorizedMismatch_9 : List UInt8 := dkwJ13_vectorizedMismatch_9 ++ dktJ13_vectorizedMismatch_10
def dkwJ13_vectorizedMismatch_8 : List UInt8 := [182, 0, 54, 54, 15, 21, 14, 21, 15, 159, 0, 54, 21, 14, 21, 15, 130, 54, 16, 178, 0, 36]
abbrev dktJ13_vectorizedMismatch_8 : List UInt8 := dkwJ13_vectorizedMismatch_8 ++ dktJ13_vectorizedMismatch_9
def dkwJ13_vectorizedMismatch_7 : List UInt8 := [55, 12, 178, 0, 26, 42, 31, 22, 12, 97, 182, 0, 54, 54, 14, 178, 0, 26, 45, 22, 4, 22, 12, 97]
abbrev dktJ13_vectorizedMismatch_7 : List UInt8 := dkwJ13_vectorizedMismatch_7 ++ dktJ13_vectorizedMismatch_8
def dkwJ13_vectorizedMismatch_6 : List UInt8 := [4, 178, 0, 51, 21, 7, 100, 120, 54, 11, 21, 10, 21, 11, 161, 0, 104, 21, 9, 133, 178, 0, 20, 121]
abbrev dktJ13_vectorizedMismatch_6 : List UInt8 := dkwJ13_vectorizedMismatch_6 ++ dktJ13_vectorizedMismatch_7
def dkwJ13_vectorizedMismatch_5 : List UInt8 := [132, 9, 1, 167, 255, 148, 21, 6, 21, 9, 21, 8, 120, 100, 54, 10, 21, 7, 178, 0, 51, 162, 0, 126]
abbrev dktJ13_vectorizedMismatch_5 : List UInt8 := dkwJ13_vectorizedMismatch_5 ++ dktJ13_vectorizedMismatch_6
def dkwJ13_vectorizedMismatch_4 : List UInt8 := [22, 16, 184, 0, 49, 178, 0, 46, 21, 7, 96, 122, 54, 18, 21, 9, 21, 8, 120, 21, 18, 96, 172]
abbrev dktJ13_vectorizedMismatch_4 : List UInt8 := dkwJ13_vectorizedMismatch_4 ++ dktJ13_vectorizedMismatch_5
def dkwJ13_vectorizedMismatch_3 : List UInt8 := [55, 16, 178, 0, 36, 153, 0, 18, 22, 16, 184, 0, 40, 178, 0, 46, 21, 7, 96, 122, 167, 0, 15]
abbrev dktJ13_vectorizedMismatch_3 : List UInt8 := dkwJ13_vectorizedMismatch_3 ++ dktJ13_vectorizedMismatch_4
def dkwJ13_vectorizedMismatch_2 : List UInt8 := [22, 4, 22, 10, 97, 182, 0, 30, 55, 14, 22, 12, 22, 14, 148, 153, 0, 54, 22, 12, 22, 14, 131]
abbrev dktJ13_vectorizedMismatch_2 : List UInt8 := dkwJ13_vectorizedMismatch_2 ++ dktJ13_vectorizedMismatch_3
def dkwJ13_vectorizedMismatch_1 : List UInt8 := [178, 0, 20, 121, 55, 10, 178, 0, 26, 42, 31, 22, 10, 97, 182, 0, 30, 55, 12, 178, 0, 26, 45]
abbrev dktJ13_vectorizedMismatch_1 : List UInt8 := dkwJ13_vectorizedMismatch_1 ++ dktJ13_vectorizedMismatch_2
def dkwJ13_vectorizedMismatch_0 : List UInt8 := [178, 0, 20, 21, 7, 100, 54, 8, 3, 54, 9, 21, 9, 21, 6, 21, 8, 122, 162, 0, 104, 21, 9, 133]
abbrev dktJ13_vectorizedMismatch_0 : List UInt8 := dkwJ13_vectorizedMismatch_0 ++ dktJ13_vectorizedMismatch_1
theorem dksJ13_vectorizedMismatch_0 : cJ13_vectorizedMismatch.data.toList.drop 0 = dktJ13_vectorizedMismatch_0 := by decide +kernel
theorem dksJ13_vectorizedMismatch_1 : cJ13_vectorizedMismatch.data.toList.drop 24 = dktJ13_vectorizedMismatch_1 := dk_seg dksJ13_vectorizedMismatch_0 24 rfl rfl
theorem dksJ13_vectorizedMismatch_2 : cJ13_vectorizedMismatch.data.toList.drop 47 = dktJ13_vectorizedMismatch_2 := dk_seg dksJ13_vectorizedMismatch_1 23 rfl rfl
theorem dksJ13_vectorizedMismatch_3 : cJ13_vectorizedMismatch.data.toList.drop 70 = dktJ13_vectorizedMismatch_3 := dk_seg dksJ13_vectorizedMismatch_2 23 rfl rfl
theorem dksJ13_vectorizedMismatch_4 : cJ13_vectorizedMismatch.data.toList.drop 93 = dktJ13_vectorizedMismatch_4 := dk_seg dksJ13_vectorizedMismatch_3 23 rfl rfl
theorem dksJ13_vectorizedMismatch_5 : cJ13_vectorizedMismatch.data.toList.drop 116 = dktJ13_vectorizedMismatch_5 := dk_seg dksJ13_vectorizedMismatch_4 23 rfl rfl
theorem dksJ13_vectorizedMismatch_6 : cJ13_vectorizedMismatch.data.toList.drop 140 = dktJ13_vectorizedMismatch_6 := dk_seg dksJ13_vectorizedMismatch_5 24 rfl rfl
theorem dksJ13_vectorizedMismatch_7 : cJ13_vectorizedMismatch.data.toList.drop 164 = dktJ13_vectorizedMismatch_7 := dk_seg dksJ13_vectorizedMismatch_6 24 rfl rfl
theorem dksJ13_vectorizedMismatch_8 : cJ13_vectorizedMismatch.data.toList.drop 188 = dktJ13_vectorizedMismatch_8 := dk_seg dksJ13_vectorizedMismatch_7 24 rfl rfl
theorem dksJ13_vectorizedMismatch_9 : cJ13_vectorizedMismatch.data.toList.drop 210 = dktJ13_vectorizedMismatch_9 := dk_seg dksJ13_vectorizedMismatch_8 22 rfl rfl
theorem dksJ13_vectorizedMismatch_10 : cJ13_vectorizedMismatch.data.toList.drop 233 = dktJ13_vectorizedMismatch_10 := dk_seg dksJ13_vectorizedMismatch_9 23 rfl rfl
theorem dksJ13_vectorizedMismatch_11 : cJ13_vectorizedMismatch.data.toList.drop 256 = dktJ13_vectorizedMismatch_11 := dk_seg dksJ13_vectorizedMismatch_10 23 rfl rfl
theorem dJ13_vectorizedMismatch_0 : decode cJ13_vectorizedMismatch 0 = .ok (.getstatic 20, 3) := dk_178 0 20 (dk_at dksJ13_vectorizedMismatch_0 0 rfl rfl)
theorem dJ13_vectorizedMismatch_3 : decode cJ13_vectorizedMismatch 3 = .ok (.iload 7, 2) := dk_21 7 (dk_at dksJ13_vectorizedMismatch_0 3 rfl rfl)
theorem dJ13_vectorizedMismatch_5 : decode cJ13_vectorizedMismatch 5 = .ok (.isub, 1) := dk_100 (dk_at dksJ13_vectorizedMismatch_0 5 rfl rfl)
theorem dJ13_vectorizedMismatch_6 : decode cJ13_vectorizedMismatch 6 = .ok (.istore 8, 2) := dk_54 8 (dk_at dksJ13_vectorizedMismatch_0 6 rfl rfl)
theorem dJ13_vectorizedMismatch_8 : decode cJ13_vectorizedMismatch 8 = .ok (.iconst 0, 1) := dk_3 (dk_at dksJ13_vectorizedMismatch_0 8 rfl rfl)
theorem dJ13_vectorizedMismatch_9 : decode cJ13_vectorizedMismatch 9 = .ok (.istore 9, 2) := dk_54 9 (dk_at dksJ13_vectorizedMismatch_0 9 rfl rfl)
theorem dJ13_vectorizedMismatch_11 : decode cJ13_vectorizedMismatch 11 = .ok (.iload 9, 2) := dk_21 9 (dk_at dksJ13_vectorizedMismatch_0 11 rfl rfl)
theorem dJ13_vectorizedMismatch_13 : decode cJ13_vectorizedMismatch 13 = .ok (.iload 6, 2) := dk_21 6 (dk_at dksJ13_vectorizedMismatch_0 13 rfl rfl)
theorem dJ13_vectorizedMismatch_15 : decode cJ13_vectorizedMismatch 15 = .ok (.iload 8, 2) := dk_21 8 (dk_at dksJ13_vectorizedMismatch_0 15 rfl rfl)
theorem dJ13_vectorizedMismatch_17 : decode cJ13_vectorizedMismatch 17 = .ok (.ishr, 1) := dk_122 (dk_at dksJ13_vectorizedMismatch_0 17 rfl rfl)
theorem dJ13_vectorizedMismatch_18 : decode cJ13_vectorizedMismatch 18 = .ok (.if_icmp .ge 104, 3) := dk_162 0 104 (dk_at dksJ13_vectorizedMismatch_0 18 rfl rfl)
theorem dJ13_vectorizedMismatch_21 : decode cJ13_vectorizedMismatch 21 = .ok (.iload 9, 2) := dk_21 9 (dk_at dksJ13_vectorizedMismatch_0 21 rfl rfl)
theorem dJ13_vectorizedMismatch_23 : decode cJ13_vectorizedMismatch 23 = .ok (.i2l, 1) := dk_133 (dk_at dksJ13_vectorizedMismatch_0 23 rfl rfl)
theorem dJ13_vectorizedMismatch_24 : decode cJ13_vectorizedMismatch 24 = .ok (.getstatic 20, 3) := dk_178 0 20 (dk_at dksJ13_vectorizedMismatch_1 0 rfl rfl)
theorem dJ13_vectorizedMismatch_27 : decode cJ13_vectorizedMismatch 27 = .ok (.lshl, 1) := dk_121 (dk_at dksJ13_vectorizedMismatch_1 3 rfl rfl)
theorem dJ13_vectorizedMismatch_28 : decode cJ13_vectorizedMismatch 28 = .ok (.lstore 10, 2) := dk_55 10 (dk_at dksJ13_vectorizedMismatch_1 4 rfl rfl)
theorem dJ13_vectorizedMismatch_30 : decode cJ13_vectorizedMismatch 30 = .ok (.getstatic 26, 3) := dk_178 0 26 (dk_at dksJ13_vectorizedMismatch_1 6 rfl rfl)
theorem dJ13_vectorizedMismatch_33 : decode cJ13_vectorizedMismatch 33 = .ok (.aload_n 0, 1) := dk_42 (dk_at dksJ13_vectorizedMismatch_1 9 rfl rfl)
theorem dJ13_vectorizedMismatch_34 : decode cJ13_vectorizedMismatch 34 = .ok (.lload_n 1, 1) := dk_31 (dk_at dksJ13_vectorizedMismatch_1 10 rfl rfl)
theorem dJ13_vectorizedMismatch_35 : decode cJ13_vectorizedMismatch 35 = .ok (.lload 10, 2) := dk_22 10 (dk_at dksJ13_vectorizedMismatch_1 11 rfl rfl)
theorem dJ13_vectorizedMismatch_37 : decode cJ13_vectorizedMismatch 37 = .ok (.ladd, 1) := dk_97 (dk_at dksJ13_vectorizedMismatch_1 13 rfl rfl)
theorem dJ13_vectorizedMismatch_38 : decode cJ13_vectorizedMismatch 38 = .ok (.invokevirtual 30, 3) := dk_182 0 30 (dk_at dksJ13_vectorizedMismatch_1 14 rfl rfl)
theorem dJ13_vectorizedMismatch_41 : decode cJ13_vectorizedMismatch 41 = .ok (.lstore 12, 2) := dk_55 12 (dk_at dksJ13_vectorizedMismatch_1 17 rfl rfl)
theorem dJ13_vectorizedMismatch_43 : decode cJ13_vectorizedMismatch 43 = .ok (.getstatic 26, 3) := dk_178 0 26 (dk_at dksJ13_vectorizedMismatch_1 19 rfl rfl)
theorem dJ13_vectorizedMismatch_46 : decode cJ13_vectorizedMismatch 46 = .ok (.aload_n 3, 1) := dk_45 (dk_at dksJ13_vectorizedMismatch_1 22 rfl rfl)
theorem dJ13_vectorizedMismatch_47 : decode cJ13_vectorizedMismatch 47 = .ok (.lload 4, 2) := dk_22 4 (dk_at dksJ13_vectorizedMismatch_2 0 rfl rfl)
theorem dJ13_vectorizedMismatch_49 : decode cJ13_vectorizedMismatch 49 = .ok (.lload 10, 2) := dk_22 10 (dk_at dksJ13_vectorizedMismatch_2 2 rfl rfl)
theorem dJ13_vectorizedMismatch_51 : decode cJ13_vectorizedMismatch 51 = .ok (.ladd, 1) := dk_97 (dk_at dksJ13_vectorizedMismatch_2 4 rfl rfl)
theorem dJ13_vectorizedMismatch_52 : decode cJ13_vectorizedMismatch 52 = .ok (.invokevirtual 30, 3) := dk_182 0 30 (dk_at dksJ13_vectorizedMismatch_2 5 rfl rfl)
theorem dJ13_vectorizedMismatch_55 : decode cJ13_vectorizedMismatch 55 = .ok (.lstore 14, 2) := dk_55 14 (dk_at dksJ13_vectorizedMismatch_2 8 rfl rfl)
theorem dJ13_vectorizedMismatch_57 : decode cJ13_vectorizedMismatch 57 = .ok (.lload 12, 2) := dk_22 12 (dk_at dksJ13_vectorizedMismatch_2 10 rfl rfl)
theorem dJ13_vectorizedMismatch_59 : decode cJ13_vectorizedMismatch 59 = .ok (.lload 14, 2) := dk_22 14 (dk_at dksJ13_vectorizedMismatch_2 12 rfl rfl)
theorem dJ13_vectorizedMismatch_61 : decode cJ13_vectorizedMismatch 61 = .ok (.lcmp, 1) := dk_148 (dk_at dksJ13_vectorizedMismatch_2 14 rfl rfl)
theorem dJ13_vectorizedMismatch_62 : decode cJ13_vectorizedMismatch 62 = .ok (.ifCond .eq 54, 3) := dk_153 0 54 (dk_at dksJ13_vectorizedMismatch_2 15 rfl rfl)
theorem dJ13_vectorizedMismatch_65 : decode cJ13_vectorizedMismatch 65 = .ok (.lload 12, 2) := dk_22 12 (dk_at dksJ13_vectorizedMismatch_2 18 rfl rfl)
theorem dJ13_vectorizedMismatch_67 : decode cJ13_vectorizedMismatch 67 = .ok (.lload 14, 2) := dk_22 14 (dk_at dksJ13_vectorizedMismatch_2 20 rfl rfl)
theorem dJ13_vectorizedMismatch_69 : decode cJ13_vectorizedMismatch 69 = .ok (.lxor, 1) := dk_131 (dk_at dksJ13_vectorizedMismatch_2 22 rfl rfl)
theorem dJ13_vectorizedMismatch_70 : decode cJ13_vectorizedMismatch 70 = .ok (.lstore 16, 2) := dk_55 16 (dk_at dksJ13_vectorizedMismatch_3 0 rfl rfl)
theorem dJ13_vectorizedMismatch_72 : decode cJ13_vectorizedMismatch 72 = .ok (.getstatic 36, 3) := dk_178 0 36 (dk_at dksJ13_vectorizedMismatch_3 2 rfl rfl)
theorem dJ13_vectorizedMismatch_75 : decode cJ13_vectorizedMismatch 75 = .ok (.ifCond .eq 18, 3) := dk_153 0 18 (dk_at dksJ13_vectorizedMismatch_3 5 rfl rfl)
theorem dJ13_vectorizedMismatch_78 : decode cJ13_vectorizedMismatch 78 = .ok (.lload 16, 2) := dk_22 16 (dk_at dksJ13_vectorizedMismatch_3 8 rfl rfl)
theorem dJ13_vectorizedMismatch_80 : decode cJ13_vectorizedMismatch 80 = .ok (.invokestatic 40, 3) := dk_184 0 40 (dk_at dksJ13_vectorizedMismatch_3 10 rfl rfl)
theorem dJ13_vectorizedMismatch_83 : decode cJ13_vectorizedMismatch 83 = .ok (.getstatic 46, 3) := dk_178 0 46 (dk_at dksJ13_vectorizedMismatch_3 13 rfl rfl)
theorem dJ13_vectorizedMismatch_86 : decode cJ13_vectorizedMismatch 86 = .ok (.iload 7, 2) := dk_21 7 (dk_at dksJ13_vectorizedMismatch_3 16 rfl rfl)
theorem dJ13_vectorizedMismatch_88 : decode cJ13_vectorizedMismatch 88 = .ok (.iadd, 1) := dk_96 (dk_at dksJ13_vectorizedMismatch_3 18 rfl rfl)
theorem dJ13_vectorizedMismatch_89 : decode cJ13_vectorizedMismatch 89 = .ok (.ishr, 1) := dk_122 (dk_at dksJ13_vectorizedMismatch_3 19 rfl rfl)
theorem dJ13_vectorizedMismatch_90 : decode cJ13_vectorizedMismatch 90 = .ok (.goto 15, 3) := dk_167 0 15 (dk_at dksJ13_vectorizedMismatch_3 20 rfl rfl)
theorem dJ13_vectorizedMismatch_93 : decode cJ13_vectorizedMismatch 93 = .ok (.lload 16, 2) := dk_22 16 (dk_at dksJ13_vectorizedMismatch_4 0 rfl rfl)
theorem dJ13_vectorizedMismatch_95 : decode cJ13_vectorizedMismatch 95 = .ok (.invokestatic 49, 3) := dk_184 0 49 (dk_at dksJ13_vectorizedMismatch_4 2 rfl rfl)
theorem dJ13_vectorizedMismatch_98 : decode cJ13_vectorizedMismatch 98 = .ok (.getstatic 46, 3) := dk_178 0 46 (dk_at dksJ13_vectorizedMismatch_4 5 rfl rfl)
theorem dJ13_vectorizedMismatch_101 : decode cJ13_vectorizedMismatch 101 = .ok (.iload 7, 2) := dk_21 7 (dk_at dksJ13_vectorizedMismatch_4 8 rfl rfl)
theorem dJ13_vectorizedMismatch_103 : decode cJ13_vectorizedMismatch 103 = .ok (.iadd, 1) := dk_96 (dk_at dksJ13_vectorizedMismatch_4 10 rfl rfl)
theorem dJ13_vectorizedMismatch_104 : decode cJ13_vectorizedMismatch 104 = .ok (.ishr, 1) := dk_122 (dk_at dksJ13_vectorizedMismatch_4 11 rfl rfl)
theorem dJ13_vectorizedMismatch_105 : decode cJ13_vectorizedMismatch 105 = .ok (.istore 18, 2) := dk_54 18 (dk_at dksJ13_vectorizedMismatch_4 12 rfl rfl)
theorem dJ13_vectorizedMismatch_107 : decode cJ13_vectorizedMismatch 107 = .ok (.iload 9, 2) := dk_21 9 (dk_at dksJ13_vectorizedMismatch_4 14 rfl rfl)
theorem dJ13_vectorizedMismatch_109 : decode cJ13_vectorizedMismatch 109 = .ok (.iload 8, 2) := dk_21 8 (dk_at dksJ13_vectorizedMismatch_4 16 rfl rfl)
theorem dJ13_vectorizedMismatch_111 : decode cJ13_vectorizedMismatch 111 = .ok (.ishl, 1) := dk_120 (dk_at dksJ13_vectorizedMismatch_4 18 rfl rfl)
theorem dJ13_vectorizedMismatch_112 : decode cJ13_vectorizedMismatch 112 = .ok (.iload 18, 2) := dk_21 18 (dk_at dksJ13_vectorizedMismatch_4 19 rfl rfl)
theorem dJ13_vectorizedMismatch_114 : decode cJ13_vectorizedMismatch 114 = .ok (.iadd, 1) := dk_96 (dk_at dksJ13_vectorizedMismatch_4 21 rfl rfl)
theorem dJ13_vectorizedMismatch_115 : decode cJ13_vectorizedMismatch 115 = .ok (.ireturn, 1) := dk_172 (dk_at dksJ13_vectorizedMismatch_4 22 rfl rfl)
theorem dJ13_vectorizedMismatch_116 : decode cJ13_vectorizedMismatch 116 = .ok (.iinc 9 1, 3) := dk_132 9 1 (dk_at dksJ13_vectorizedMismatch_5 0 rfl rfl)
theorem dJ13_vectorizedMismatch_119 : decode cJ13_vectorizedMismatch 119 = .ok (.goto (-108), 3) := dk_167 255 148 (dk_at dksJ13_vectorizedMismatch_5 3 rfl rfl)
theorem dJ13_vectorizedMismatch_122 : decode cJ13_vectorizedMismatch 122 = .ok (.iload 6, 2) := dk_21 6 (dk_at dksJ13_vectorizedMismatch_5 6 rfl rfl)
theorem dJ13_vectorizedMismatch_124 : decode cJ13_vectorizedMismatch 124 = .ok (.iload 9, 2) := dk_21 9 (dk_at dksJ13_vectorizedMismatch_5 8 rfl rfl)
theorem dJ13_vectorizedMismatch_126 : decode cJ13_vectorizedMismatch 126 = .ok (.iload 8, 2) := dk_21 8 (dk_at dksJ13_vectorizedMismatch_5 10 rfl rfl)
theorem dJ13_vectorizedMismatch_128 : decode cJ13_vectorizedMismatch 128 = .ok (.ishl, 1) := dk_120 (dk_at dksJ13_vectorizedMismatch_5 12 rfl rfl)
theorem dJ13_vectorizedMismatch_129 : decode cJ13_vectorizedMismatch 129 = .ok (.isub, 1) := dk_100 (dk_at dksJ13_vectorizedMismatch_5 13 rfl rfl)
theorem dJ13_vectorizedMismatch_130 : decode cJ13_vectorizedMismatch 130 = .ok (.istore 10, 2) := dk_54 10 (dk_at dksJ13_vectorizedMismatch_5 14 rfl rfl)
theorem dJ13_vectorizedMismatch_132 : decode cJ13_vectorizedMismatch 132 = .ok (.iload 7, 2) := dk_21 7 (dk_at dksJ13_vectorizedMismatch_5 16 rfl rfl)
theorem dJ13_vectorizedMismatch_134 : decode cJ13_vectorizedMismatch 134 = .ok (.getstatic 51, 3) := dk_178 0 51 (dk_at dksJ13_vectorizedMismatch_5 18 rfl rfl)
theorem dJ13_vectorizedMismatch_137 : decode cJ13_vectorizedMismatch 137 = .ok (.if_icmp .ge 126, 3) := dk_162 0 126 (dk_at dksJ13_vectorizedMismatch_5 21 rfl rfl)
theorem dJ13_vectorizedMismatch_140 : decode cJ13_vectorizedMismatch 140 = .ok (.iconst 1, 1) := dk_4 (dk_at dksJ13_vectorizedMismatch_6 0 rfl rfl)
theorem dJ13_vectorizedMismatch_141 : decode cJ13_vectorizedMismatch 141 = .ok (.getstatic 51, 3) := dk_178 0 51 (dk_at dksJ13_vectorizedMismatch_6 1 rfl rfl)
theorem dJ13_vectorizedMismatch_144 : decode cJ13_vectorizedMismatch 144 = .ok (.iload 7, 2) := dk_21 7 (dk_at dksJ13_vectorizedMismatch_6 4 rfl rfl)
theorem dJ13_vectorizedMismatch_146 : decode cJ13_vectorizedMismatch 146 = .ok (.isub, 1) := dk_100 (dk_at dksJ13_vectorizedMismatch_6 6 rfl rfl)
theorem dJ13_vectorizedMismatch_147 : decode cJ13_vectorizedMismatch 147 = .ok (.ishl, 1) := dk_120 (dk_at dksJ13_vectorizedMismatch_6 7 rfl rfl)
theorem dJ13_vectorizedMismatch_148 : decode cJ13_vectorizedMismatch 148 = .ok (.istore 11, 2) := dk_54 11 (dk_at dksJ13_vectorizedMismatch_6 8 rfl rfl)
theorem dJ13_vectorizedMismatch_150 : decode cJ13_vectorizedMismatch 150 = .ok (.iload 10, 2) := dk_21 10 (dk_at dksJ13_vectorizedMismatch_6 10 rfl rfl)
theorem dJ13_vectorizedMismatch_152 : decode cJ13_vectorizedMismatch 152 = .ok (.iload 11, 2) := dk_21 11 (dk_at dksJ13_vectorizedMismatch_6 12 rfl rfl)
theorem dJ13_vectorizedMismatch_154 : decode cJ13_vectorizedMismatch 154 = .ok (.if_icmp .lt 104, 3) := dk_161 0 104 (dk_at dksJ13_vectorizedMismatch_6 14 rfl rfl)
theorem dJ13_vectorizedMismatch_157 : decode cJ13_vectorizedMismatch 157 = .ok (.iload 9, 2) := dk_21 9 (dk_at dksJ13_vectorizedMismatch_6 17 rfl rfl)
theorem dJ13_vectorizedMismatch_159 : decode cJ13_vectorizedMismatch 159 = .ok (.i2l, 1) := dk_133 (dk_at dksJ13_vectorizedMismatch_6 19 rfl rfl)
theorem dJ13_vectorizedMismatch_160 : decode cJ13_vectorizedMismatch 160 = .ok (.getstatic 20, 3) := dk_178 0 20 (dk_at dksJ13_vectorizedMismatch_6 20 rfl rfl)
theorem dJ13_vectorizedMismatch_163 : decode cJ13_vectorizedMismatch 163 = .ok (.lshl, 1) := dk_121 (dk_at dksJ13_vectorizedMismatch_6 23 rfl rfl)
theorem dJ13_vectorizedMismatch_164 : decode cJ13_vectorizedMismatch 164 = .ok (.lstore 12, 2) := dk_55 12 (dk_at dksJ13_vectorizedMismatch_7 0 rfl rfl)
theorem dJ13_vectorizedMismatch_166 : decode cJ13_vectorizedMismatch 166 = .ok (.getstatic 26, 3) := dk_178 0 26 (dk_at dksJ13_vectorizedMismatch_7 2 rfl rfl)
theorem dJ13_vectorizedMismatch_169 : decode cJ13_vectorizedMismatch 169 = .ok (.aload_n 0, 1) := dk_42 (dk_at dksJ13_vectorizedMismatch_7 5 rfl rfl)
theorem dJ13_vectorizedMismatch_170 : decode cJ13_vectorizedMismatch 170 = .ok (.lload_n 1, 1) := dk_31 (dk_at dksJ13_vectorizedMismatch_7 6 rfl rfl)
theorem dJ13_vectorizedMismatch_171 : decode cJ13_vectorizedMismatch 171 = .ok (.lload 12, 2) := dk_22 12 (dk_at dksJ13_vectorizedMismatch_7 7 rfl rfl)
theorem dJ13_vectorizedMismatch_173 : decode cJ13_vectorizedMismatch 173 = .ok (.ladd, 1) := dk_97 (dk_at dksJ13_vectorizedMismatch_7 9 rfl rfl)
theorem dJ13_vectorizedMismatch_174 : decode cJ13_vectorizedMismatch 174 = .ok (.invokevirtual 54, 3) := dk_182 0 54 (dk_at dksJ13_vectorizedMismatch_7 10 rfl rfl)
theorem dJ13_vectorizedMismatch_177 : decode cJ13_vectorizedMismatch 177 = .ok (.istore 14, 2) := dk_54 14 (dk_at dksJ13_vectorizedMismatch_7 13 rfl rfl)
theorem dJ13_vectorizedMismatch_179 : decode cJ13_vectorizedMismatch 179 = .ok (.getstatic 26, 3) := dk_178 0 26 (dk_at dksJ13_vectorizedMismatch_7 15 rfl rfl)
theorem dJ13_vectorizedMismatch_182 : decode cJ13_vectorizedMismatch 182 = .ok (.aload_n 3, 1) := dk_45 (dk_at dksJ13_vectorizedMismatch_7 18 rfl rfl)
theorem dJ13_vectorizedMismatch_183 : decode cJ13_vectorizedMismatch 183 = .ok (.lload 4, 2) := dk_22 4 (dk_at dksJ13_vectorizedMismatch_7 19 rfl rfl)
theorem dJ13_vectorizedMismatch_185 : decode cJ13_vectorizedMismatch 185 = .ok (.lload 12, 2) := dk_22 12 (dk_at dksJ13_vectorizedMismatch_7 21 rfl rfl)
theorem dJ13_vectorizedMismatch_187 : decode cJ13_vectorizedMismatch 187 = .ok (.ladd, 1) := dk_97 (dk_at dksJ13_vectorizedMismatch_7 23 rfl rfl)
theorem dJ13_vectorizedMismatch_188 : decode cJ13_vectorizedMismatch 188 = .ok (.invokevirtual 54, 3) := dk_182 0 54 (dk_at dksJ13_vectorizedMismatch_8 0 rfl rfl)
theorem dJ13_vectorizedMismatch_191 : decode cJ13_vectorizedMismatch 191 = .ok (.istore 15, 2) := dk_54 15 (dk_at dksJ13_vectorizedMismatch_8 3 rfl rfl)
theorem dJ13_vectorizedMismatch_193 : decode cJ13_vectorizedMismatch 193 = .ok (.iload 14, 2) := dk_21 14 (dk_at dksJ13_vectorizedMismatch_8 5 rfl rfl)
theorem dJ13_vectorizedMismatch_195 : decode cJ13_vectorizedMismatch 195 = .ok (.iload 15, 2) := dk_21 15 (dk_at dksJ13_vectorizedMismatch_8 7 rfl rfl)
theorem dJ13_vectorizedMismatch_197 : decode cJ13_vectorizedMismatch 197 = .ok (.if_icmp .eq 54, 3) := dk_159 0 54 (dk_at dksJ13_vectorizedMismatch_8 9 rfl rfl)
theorem dJ13_vectorizedMismatch_200 : decode cJ13_vectorizedMismatch 200 = .ok (.iload 14, 2) := dk_21 14 (dk_at dksJ13_vectorizedMismatch_8 12 rfl rfl)
theorem dJ13_vectorizedMismatch_202 : decode cJ13_vectorizedMismatch 202 = .ok (.iload 15, 2) := dk_21 15 (dk_at dksJ13_vectorizedMismatch_8 14 rfl rfl)
theorem dJ13_vectorizedMismatch_204 : decode cJ13_vectorizedMismatch 204 = .ok (.ixor, 1) := dk_130 (dk_at dksJ13_vectorizedMismatch_8 16 rfl rfl)
theorem dJ13_vectorizedMismatch_205 : decode cJ13_vectorizedMismatch 205 = .ok (.istore 16, 2) := dk_54 16 (dk_at dksJ13_vectorizedMismatch_8 17 rfl rfl)
theorem dJ13_vectorizedMismatch_207 : decode cJ13_vectorizedMismatch 207 = .ok (.getstatic 36, 3) := dk_178 0 36 (dk_at dksJ13_vectorizedMismatch_8 19 rfl rfl)
theorem dJ13_vectorizedMismatch_210 : decode cJ13_vectorizedMismatch 210 = .ok (.ifCond .eq 18, 3) := dk_153 0 18 (dk_at dksJ13_vectorizedMismatch_9 0 rfl rfl)
theorem dJ13_vectorizedMismatch_213 : decode cJ13_vectorizedMismatch 213 = .ok (.iload 16, 2) := dk_21 16 (dk_at dksJ13_vectorizedMismatch_9 3 rfl rfl)
theorem dJ13_vectorizedMismatch_215 : decode cJ13_vectorizedMismatch 215 = .ok (.invokestatic 58, 3) := dk_184 0 58 (dk_at dksJ13_vectorizedMismatch_9 5 rfl rfl)
theorem dJ13_vectorizedMismatch_218 : decode cJ13_vectorizedMismatch 218 = .ok (.getstatic 46, 3) := dk_178 0 46 (dk_at dksJ13_vectorizedMismatch_9 8 rfl rfl)
theorem dJ13_vectorizedMismatch_221 : decode cJ13_vectorizedMismatch 221 = .ok (.iload 7, 2) := dk_21 7 (dk_at dksJ13_vectorizedMismatch_9 11 rfl rfl)
theorem dJ13_vectorizedMismatch_223 : decode cJ13_vectorizedMismatch 223 = .ok (.iadd, 1) := dk_96 (dk_at dksJ13_vectorizedMismatch_9 13 rfl rfl)
theorem dJ13_vectorizedMismatch_224 : decode cJ13_vectorizedMismatch 224 = .ok (.ishr, 1) := dk_122 (dk_at dksJ13_vectorizedMismatch_9 14 rfl rfl)
theorem dJ13_vectorizedMismatch_225 : decode cJ13_vectorizedMismatch 225 = .ok (.goto 15, 3) := dk_167 0 15 (dk_at dksJ13_vectorizedMismatch_9 15 rfl rfl)
theorem dJ13_vectorizedMismatch_228 : decode cJ13_vectorizedMismatch 228 = .ok (.iload 16, 2) := dk_21 16 (dk_at dksJ13_vectorizedMismatch_9 18 rfl rfl)
theorem dJ13_vectorizedMismatch_230 : decode cJ13_vectorizedMismatch 230 = .ok (.invokestatic 11, 3) := dk_184 0 11 (dk_at dksJ13_vectorizedMismatch_9 20 rfl rfl)
theorem dJ13_vectorizedMismatch_233 : decode cJ13_vectorizedMismatch 233 = .ok (.getstatic 46, 3) := dk_178 0 46 (dk_at dksJ13_vectorizedMismatch_10 0 rfl rfl)
theorem dJ13_vectorizedMismatch_236 : decode cJ13_vectorizedMismatch 236 = .ok (.iload 7, 2) := dk_21 7 (dk_at dksJ13_vectorizedMismatch_10 3 rfl rfl)
theorem dJ13_vectorizedMismatch_238 : decode cJ13_vectorizedMismatch 238 = .ok (.iadd, 1) := dk_96 (dk_at dksJ13_vectorizedMismatch_10 5 rfl rfl)
theorem dJ13_vectorizedMismatch_239 : decode cJ13_vectorizedMismatch 239 = .ok (.ishr, 1) := dk_122 (dk_at dksJ13_vectorizedMismatch_10 6 rfl rfl)
theorem dJ13_vectorizedMismatch_240 : decode cJ13_vectorizedMismatch 240 = .ok (.istore 17, 2) := dk_54 17 (dk_at dksJ13_vectorizedMismatch_10 7 rfl rfl)
theorem dJ13_vectorizedMismatch_242 : decode cJ13_vectorizedMismatch 242 = .ok (.iload 9, 2) := dk_21 9 (dk_at dksJ13_vectorizedMismatch_10 9 rfl rfl)
theorem dJ13_vectorizedMismatch_244 : decode cJ13_vectorizedMismatch 244 = .ok (.iload 8, 2) := dk_21 8 (dk_at dksJ13_vectorizedMismatch_10 11 rfl rfl)
theorem dJ13_vectorizedMismatch_246 : decode cJ13_vectorizedMismatch 246 = .ok (.ishl, 1) := dk_120 (dk_at dksJ13_vectorizedMismatch_10 13 rfl rfl)
theorem dJ13_vectorizedMismatch_247 : decode cJ13_vectorizedMismatch 247 = .ok (.iload 17, 2) := dk_21 17 (dk_at dksJ13_vectorizedMismatch_10 14 rfl rfl)
theorem dJ13_vectorizedMismatch_249 : decode cJ13_vectorizedMismatch 249 = .ok (.iadd, 1) := dk_96 (dk_at dksJ13_vectorizedMismatch_10 16 rfl rfl)
theorem dJ13_vectorizedMismatch_250 : decode cJ13_vectorizedMismatch 250 = .ok (.ireturn, 1) := dk_172 (dk_at dksJ13_vectorizedMismatch_10 17 rfl rfl)
theorem dJ13_vectorizedMismatch_251 : decode cJ13_vectorizedMismatch 251 = .ok (.iload 10, 2) := dk_21 10 (dk_at dksJ13_vectorizedMismatch_10 18 rfl rfl)
theorem dJ13_vectorizedMismatch_253 : decode cJ13_vectorizedMismatch 253 = .ok (.iload 11, 2) := dk_21 11 (dk_at dksJ13_vectorizedMismatch_10 20 rfl rfl)
theorem dJ13_vectorizedMismatch_255 : decode cJ13_vectorizedMismatch 255 = .ok (.isub, 1) := dk_100 (dk_at dksJ13_vectorizedMismatch_10 22 rfl rfl)
theorem dJ13_vectorizedMismatch_256 : decode cJ13_vectorizedMismatch 256 = .ok (.istore 10, 2) := dk_54 10 (dk_at dksJ13_vectorizedMismatch_11 0 rfl rfl)
theorem dJ13_vectorizedMismatch_258 : decode cJ13_vectorizedMismatch 258 = .ok (.iload 10, 2) := dk_21 10 (dk_at dksJ13_vectorizedMismatch_11 2 rfl rfl)
theorem dJ13_vectorizedMismatch_260 : decode cJ13_vectorizedMismatch 260 = .ok (.iconst (-1), 1) := dk_2 (dk_at dksJ13_vectorizedMismatch_11 4 rfl rfl)
theorem dJ13_vectorizedMismatch_261 : decode cJ13_vectorizedMismatch 261 = .ok (.ixor, 1) := dk_130 (dk_at dksJ13_vectorizedMismatch_11 5 rfl rfl)
theorem dJ13_vectorizedMismatch_262 : decode cJ13_vectorizedMismatch 262 = .ok (.ireturn, 1) := dk_172 (dk_at dksJ13_vectorizedMismatch_11 6 rfl rfl)
theorem dJ13_vectorizedMismatch_263 : decode cJ13_vectorizedMismatch 263 = .ok (.iload 10, 2) := dk_21 10 (dk_at dksJ13_vectorizedMismatch_11 7 rfl rfl)
theorem dJ13_vectorizedMismatch_265 : decode cJ13_vectorizedMismatch 265 = .ok (.iconst (-1), 1) := dk_2 (dk_at dksJ13_vectorizedMismatch_11 9 rfl rfl)
theorem dJ13_vectorizedMismatch_266 : decode cJ13_vectorizedMismatch 266 = .ok (.ixor, 1) := dk_130 (dk_at dksJ13_vectorizedMismatch_11 10 rfl rfl)
theorem dJ13_vectorizedMismatch_267 : decode cJ13_vectorizedMismatch 267 = .ok (.ireturn, 1) := dk_172 (dk_at dksJ13_vectorizedMismatch_11 11 rfl rfl)
theorem q111 : (Jvm.Cond.initialized "jdk/internal/util/ArraysSupport") ∈ lw_all := lw_g (lw_at lw_m1 18 rfl) rfl
theorem q694 : (Jvm.Cond.static ({ cls := "jdk/internal/util/ArraysSupport", name := "newLength", desc := "(III)I" } : Jvm.MethodName)) ∈ lw_all := lw_g (lw_at lw_m3 121 rfl) rfl
theorem q695 : (Jvm.Cond.code ({ cls := "jdk/internal/util/ArraysSupport", name := "newLength", desc := "(III)I" } : Jvm.MethodName) prog_82_method_27_code (4 : Nat) (Option.some Jvm.ClassFile.FieldType.int)) ∈ lw_all := lw_g (lw_at lw_m3 122 rfl) rfl
theorem q696 : (Jvm.Cond.methodLink "jdk/internal/util/ArraysSupport" (194 : Nat) ({ cls := "java/lang/Math", name := "max", desc := "(II)I" } : Jvm.MethodName)) ∈ lw_all := lw_g (lw_at lw_m3 123 rfl) rfl
theorem q699 : (Jvm.Cond.constant "jdk/internal/util/ArraysSupport" (200 : Nat) (2147483639 : Int32)) ∈ lw_all := lw_g (lw_at lw_m3 126 rfl) rfl
theorem q700 : (Jvm.Cond.methodLink "jdk/internal/util/ArraysSupport" (201 : Nat) ({ cls := "jdk/internal/util/ArraysSupport", name := "hugeLength", desc := "(II)I" } : Jvm.MethodName)) ∈ lw_all := lw_g (lw_at lw_m3 127 rfl) rfl
theorem q701 : (Jvm.Cond.static ({ cls := "jdk/internal/util/ArraysSupport", name := "hugeLength", desc := "(II)I" } : Jvm.MethodName)) ∈ lw_all := lw_g (lw_at lw_m3 128 rfl) rfl
theorem q702 : (Jvm.Cond.code ({ cls := "jdk/internal/util/ArraysSupport", name := "hugeLength", desc := "(II)I" } : Jvm.MethodName) prog_82_method_28_code (3 : Nat) (Option.some Jvm.ClassFile.FieldType.int)) ∈ lw_all := lw_g (lw_at lw_m3 129 rfl) rfl
theorem q823 : (Jvm.Cond.static ({ cls := "jdk/internal/util/ArraysSupport", name := "mismatch", desc := "([B[BI)I" } : Jvm.MethodName)) ∈ lw_all := lw_g (lw_at lw_m4 10 rfl) rfl
theorem q824 : (Jvm.Cond.code ({ cls := "jdk/internal/util/ArraysSupport", name := "mismatch", desc := "([B[BI)I" } : Jvm.MethodName) prog_82_method_13_code (4 : Nat) (Option.some Jvm.ClassFile.FieldType.int)) ∈ lw_all := lw_g (lw_at lw_m4 11 rfl) rfl
theorem q825 : (Jvm.Cond.fieldLink "jdk/internal/util/ArraysSupport" (126 : Nat) "jdk/internal/misc/Unsafe" "ARRAY_BYTE_BASE_OFFSET" "I") ∈ lw_all := lw_g (lw_at lw_m4 12 rfl) rfl
theorem q827 : (Jvm.Cond.fieldLink "jdk/internal/util/ArraysSupport" (129 : Nat) "jdk/internal/util/ArraysSupport" "LOG2_ARRAY_BYTE_INDEX_SCALE" "I") ∈ lw_all := lw_g (lw_at lw_m4 14 rfl) rfl
theorem q828 : (Jvm.Cond.laysStatic "jdk/internal/util/ArraysSupport" "LOG2_ARRAY_BYTE_INDEX_SCALE" "I") ∈ lw_tbl := lw_at lw_m4 15 rfl
theorem q829 : (Jvm.Cond.methodLink "jdk/internal/util/ArraysSupport" (122 : Nat) ({ cls := "jdk/internal/util/ArraysSupport", name := "vectorizedMismatch", desc := "(Ljava/lang/Object;JLjava/lang/Object;JII)I" } : Jvm.MethodName)) ∈ lw_all := lw_g (lw_at lw_m4 16 rfl) rfl
theorem q830 : (Jvm.Cond.static ({ cls := "jdk/internal/util/ArraysSupport", name := "vectorizedMismatch", desc := "(Ljava/lang/Object;JLjava/lang/Object;JII)I" } : Jvm.MethodName)) ∈ lw_all := lw_g (lw_at lw_m4 17 rfl) rfl
theorem q831 : (Jvm.Cond.code ({ cls := "jdk/internal/util/ArraysSupport", name := "vectorizedMismatch", desc := "(Ljava/lang/Object;JLjava/lang/Object;JII)I" } : Jvm.MethodName) prog_82_method_3_code (19 : Nat) (Option.some Jvm.ClassFile.FieldType.int)) ∈ lw_all := lw_g (lw_at lw_m4 18 rfl) rfl
theorem q832 : (Jvm.Cond.fieldLink "jdk/internal/util/ArraysSupport" (20 : Nat) "jdk/internal/util/ArraysSupport" "LOG2_ARRAY_LONG_INDEX_SCALE" "I") ∈ lw_all := lw_g (lw_at lw_m4 19 rfl) rfl
theorem q833 : (Jvm.Cond.laysStatic "jdk/internal/util/ArraysSupport" "LOG2_ARRAY_LONG_INDEX_SCALE" "I") ∈ lw_tbl := lw_at lw_m4 20 rfl
theorem q834 : (Jvm.Cond.fieldLink "jdk/internal/util/ArraysSupport" (26 : Nat) "jdk/internal/util/ArraysSupport" "U" "Ljdk/internal/misc/Unsafe;") ∈ lw_all := lw_g (lw_at lw_m4 21 rfl) rfl
theorem q835 : (Jvm.Cond.laysStatic "jdk/internal/util/ArraysSupport" "U" "Ljdk/internal/misc/Unsafe;") ∈ lw_tbl := lw_at lw_m4 22 rfl
theorem q836 : (Jvm.Cond.methodLink "jdk/internal/util/ArraysSupport" (30 : Nat) ({ cls := "jdk/internal/misc/Unsafe", name := "getLongUnaligned", desc := "(Ljava/lang/Object;J)J" } : Jvm.MethodName)) ∈ lw_all := lw_g (lw_at lw_m4 23 rfl) rfl
theorem q888 : (Jvm.Cond.fieldLink "jdk/internal/util/ArraysSupport" (36 : Nat) "jdk/internal/util/ArraysSupport" "BIG_ENDIAN" "Z") ∈ lw_all := lw_g (lw_at lw_m4 75 rfl) rfl
theorem q889 : (Jvm.Cond.laysStatic "jdk/internal/util/ArraysSupport" "BIG_ENDIAN" "Z") ∈ lw_tbl := lw_at lw_m4 76 rfl
theorem q890 : (Jvm.Cond.methodLink "jdk/internal/util/ArraysSupport" (40 : Nat) ({ cls := "java/lang/Long", name := "numberOfLeadingZeros", desc := "(J)I" } : Jvm.MethodName)) ∈ lw_all := lw_g (lw_at lw_m4 77 rfl) rfl
theorem q897 : (Jvm.Cond.fieldLink "jdk/internal/util/ArraysSupport" (46 : Nat) "jdk/internal/util/ArraysSupport" "LOG2_BYTE_BIT_SIZE" "I") ∈ lw_all := lw_g (lw_at lw_m4 84 rfl) rfl
theorem q898 : (Jvm.Cond.laysStatic "jdk/internal/util/ArraysSupport" "LOG2_BYTE_BIT_SIZE" "I") ∈ lw_tbl := lw_at lw_m4 85 rfl
theorem q899 : (Jvm.Cond.methodLink "jdk/internal/util/ArraysSupport" (49 : Nat) ({ cls := "java/lang/Long", name := "numberOfTrailingZeros", desc := "(J)I" } : Jvm.MethodName)) ∈ lw_all := lw_g (lw_at lw_m4 86 rfl) rfl
theorem q905 : (Jvm.Cond.fieldLink "jdk/internal/util/ArraysSupport" (51 : Nat) "jdk/internal/util/ArraysSupport" "LOG2_ARRAY_INT_INDEX_SCALE" "I") ∈ lw_all := lw_g (lw_at lw_m4 92 rfl) rfl
theorem q906 : (Jvm.Cond.laysStatic "jdk/internal/util/ArraysSupport" "LOG2_ARRAY_INT_INDEX_SCALE" "I") ∈ lw_tbl := lw_at lw_m4 93 rfl
theorem q907 : (Jvm.Cond.methodLink "jdk/internal/util/ArraysSupport" (54 : Nat) ({ cls := "jdk/internal/misc/Unsafe", name := "getIntUnaligned", desc := "(Ljava/lang/Object;J)I" } : Jvm.MethodName)) ∈ lw_all := lw_g (lw_at lw_m4 94 rfl) rfl
theorem q924 : (Jvm.Cond.methodLink "jdk/internal/util/ArraysSupport" (58 : Nat) ({ cls := "java/lang/Integer", name := "numberOfLeadingZeros", desc := "(I)I" } : Jvm.MethodName)) ∈ lw_all := lw_g (lw_at lw_m4 111 rfl) rfl
theorem q925 : (Jvm.Cond.methodLink "jdk/internal/util/ArraysSupport" (11 : Nat) ({ cls := "java/lang/Integer", name := "numberOfTrailingZeros", desc := "(I)I" } : Jvm.MethodName)) ∈ lw_all := lw_g (lw_at lw_m4 112 rfl) rfl
/-! java/lang/Math -/
set_option maxRecDepth 100000
def RJ14 : String := "java/lang/Math"
abbrev cJ14_max : ByteArray := prog_33_method_65_code
def yJ14_max : MethodName := ⟨RJ14, "max", "(II)I"⟩
def dkwJ14_max_0 : List UInt8 := [26, 27, 161, 0, 7, 26, 167, 0, 4, 27, 172]
abbrev dktJ14_max_0 : List UInt8 := dkwJ14_max_0 ++ []
theorem dksJ14_max_0 : cJ14_max.data.toList.drop 0 = dktJ14_max_0 := by decide +kernel
theorem dJ14_max_0 : decode cJ14_max 0 = .ok (.iload_n 0, 1) := dk_26 (dk_at dksJ14_max_0 0 rfl rfl)
theorem dJ14_max_1 : decode cJ14_max 1 = .ok (.iload_n 1, 1) := dk_27 (dk_at dksJ14_max_0 1 rfl rfl)
theorem dJ14_max_2 : decode cJ14_max 2 = .ok (.if_icmp .lt 7, 3) := dk_161 0 7 (dk_at dksJ14_max_0 2 rfl rfl)
theorem dJ14_max_5 : decode cJ14_max 5 = .ok (.iload_n 0, 1) := dk_26 (dk_at dksJ14_max_0 5 rfl rfl)
theorem dJ14_max_6 : decode cJ14_max 6 = .ok (.goto 4, 3) := dk_167 0 4 (dk_at dksJ14_max_0 6 rfl rfl)
theorem dJ14_max_9 : decode cJ14_max 9 = .ok (.iload_n 1, 1) := dk_27 (dk_at dksJ14_max_0 9 rfl rfl)
theorem dJ14_max_10 : decode cJ14_max 10 = .ok (.ireturn, 1) := dk_172 (dk_at dksJ14_max_0 10 rfl rfl)
abbrev cJ14_min : ByteArray := prog_33_method_69_code
def yJ14_min : MethodName := ⟨RJ14, "min", "(II)I"⟩
def dkwJ14_min_0 : List UInt8 := [26, 27, 163, 0, 7, 26, 167, 0, 4, 27, 172]
abbrev dktJ14_min_0 : List UInt8 := dkwJ14_min_0 ++ []
theorem dksJ14_min_0 : cJ14_min.data.toList.drop 0 = dktJ14_min_0 := by decide +kernel
theorem dJ14_min_0 : decode cJ14_min 0 = .ok (.iload_n 0, 1) := dk_26 (dk_at dksJ14_min_0 0 rfl rfl)
theorem dJ14_min_1 : decode cJ14_min 1 = .ok (.iload_n 1, 1) := dk_27 (dk_at dksJ14_min_0 1 rfl rfl)
theorem dJ14_min_2 : decode cJ14_min 2 = .ok (.if_icmp .gt 7, 3) := dk_163 0 7 (dk_at dksJ14_min_0 2 rfl rfl)
theorem dJ14_min_5 : decode cJ14_min 5 = .ok (.iload_n 0, 1) := dk_26 (dk_at dksJ14_min_0 5 rfl rfl)
theorem dJ14_min_6 : decode cJ14_min 6 = .ok (.goto 4, 3) := dk_167 0 4 (dk_at dksJ14_min_0 6 rfl rfl)
theorem dJ14_min_9 : decode cJ14_min 9 = .ok (.iload_n 1, 1) := dk_27 (dk_at dksJ14_min_0 9 rfl rfl)
theorem dJ14_min_10 : decode cJ14_min 10 = .ok (.ireturn, 1) := dk_172 (dk_at dksJ14_min_0 10 rfl rfl)
abbrev cJ14_abs : ByteArray := prog_33_method_59_code
def yJ14_abs : MethodName := ⟨RJ14, "abs", "(I)I"⟩
def dkwJ14_abs_0 : List UInt8 := [26, 156, 0, 8, 26, 116, 167, 0, 4, 26, 172]
abbrev dktJ14_abs_0 : List UInt8 := dkwJ14_abs_0 ++ []
theorem dksJ14_abs_0 : cJ14_abs.data.toList.drop 0 = dktJ14_abs_0 := by decide +kernel
theorem dJ14_abs_0 : decode cJ14_abs 0 = .ok (.iload_n 0, 1) := dk_26 (dk_at dksJ14_abs_0 0 rfl rfl)
theorem dJ14_abs_1 : decode cJ14_abs 1 = .ok (.ifCond .ge 8, 3) := dk_156 0 8 (dk_at dksJ14_abs_0 1 rfl rfl)
theorem dJ14_abs_4 : decode cJ14_abs 4 = .ok (.iload_n 0, 1) := dk_26 (dk_at dksJ14_abs_0 4 rfl rfl)
theorem dJ14_abs_5 : decode cJ14_abs 5 = .ok (.ineg, 1) := dk_116 (dk_at dksJ14_abs_0 5 rfl rfl)
theorem dJ14_abs_6 : decode cJ14_abs 6 = .ok (.goto 4, 3) := dk_167 0 4 (dk_at dksJ14_abs_0 6 rfl rfl)
theorem dJ14_abs_9 : decode cJ14_abs 9 = .ok (.iload_n 0, 1) := dk_26 (dk_at dksJ14_abs_0 9 rfl rfl)
theorem dJ14_abs_10 : decode cJ14_abs 10 = .ok (.ireturn, 1) := dk_172 (dk_at dksJ14_abs_0 10 rfl rfl)
theorem q112 : (Jvm.Cond.initialized "java/lang/Math") ∈ lw_all := lw_g (lw_at lw_m1 19 rfl) rfl
theorem q697 : (Jvm.Cond.static ({ cls := "java/lang/Math", name := "max", desc := "(II)I" } : Jvm.MethodName)) ∈ lw_all := lw_g (lw_at lw_m3 124 rfl) rfl
theorem q698 : (Jvm.Cond.code ({ cls := "java/lang/Math", name := "max", desc := "(II)I" } : Jvm.MethodName) prog_33_method_65_code (2 : Nat) (Option.some Jvm.ClassFile.FieldType.int)) ∈ lw_all := lw_g (lw_at lw_m3 125 rfl) rfl
theorem q749 : (Jvm.Cond.static ({ cls := "java/lang/Math", name := "min", desc := "(II)I" } : Jvm.MethodName)) ∈ lw_all := lw_g (lw_at lw_m3 176 rfl) rfl
theorem q750 : (Jvm.Cond.code ({ cls := "java/lang/Math", name := "min", desc := "(II)I" } : Jvm.MethodName) prog_33_method_69_code (2 : Nat) (Option.some Jvm.ClassFile.FieldType.int)) ∈ lw_all := lw_g (lw_at lw_m3 177 rfl) rfl
theorem q2110 : (Jvm.Cond.static ({ cls := "java/lang/Math", name := "abs", desc := "(I)I" } : Jvm.MethodName)) ∈ lw_all := lw_g (lw_at lw_m9 97 rfl) rfl
theorem q2111 : (Jvm.Cond.code ({ cls := "java/lang/Math", name := "abs", desc := "(I)I" } : Jvm.MethodName) prog_33_method_59_code (1 : Nat) (Option.some Jvm.ClassFile.FieldType.int)) ∈ lw_all := lw_g (lw_at lw_m9 98 rfl) rfl
/-! java/util/Arrays -/
set_option maxRecDepth 100000
def RJ15 : String := "java/util/Arrays"
abbrev cJ15_copyOf : ByteArray := prog_56_method_119_code
def yJ15_copyOf : MethodName := ⟨RJ15, "copyOf", "([Ljava/lang/Object;I)[Ljava/lang/Object;"⟩
def dkwJ15_copyOf_0 : List UInt8 := [42, 27, 42, 182, 0, 86, 184, 1, 44, 176]
abbrev dktJ15_copyOf_0 : List UInt8 := dkwJ15_copyOf_0 ++ []
theorem dksJ15_copyOf_0 : cJ15_copyOf.data.toList.drop 0 = dktJ15_copyOf_0 := by decide +kernel
theorem dJ15_copyOf_0 : decode cJ15_copyOf 0 = .ok (.aload_n 0, 1) := dk_42 (dk_at dksJ15_copyOf_0 0 rfl rfl)
theorem dJ15_copyOf_1 : decode cJ15_copyOf 1 = .ok (.iload_n 1, 1) := dk_27 (dk_at dksJ15_copyOf_0 1 rfl rfl)
theorem dJ15_copyOf_2 : decode cJ15_copyOf 2 = .ok (.aload_n 0, 1) := dk_42 (dk_at dksJ15_copyOf_0 2 rfl rfl)
theorem dJ15_copyOf_3 : decode cJ15_copyOf 3 = .ok (.invokevirtual 86, 3) := dk_182 0 86 (dk_at dksJ15_copyOf_0 3 rfl rfl)
theorem dJ15_copyOf_6 : decode cJ15_copyOf 6 = .ok (.invokestatic 300, 3) := dk_184 1 44 (dk_at dksJ15_copyOf_0 6 rfl rfl)
theorem dJ15_copyOf_9 : decode cJ15_copyOf 9 = .ok (.areturn, 1) := dk_176 (dk_at dksJ15_copyOf_0 9 rfl rfl)
abbrev cJ15_copyOf_2 : ByteArray := prog_56_method_120_code
def yJ15_copyOf_2 : MethodName := ⟨RJ15, "copyOf", "([Ljava/lang/Object;ILjava/lang/Class;)[Ljava/lang/Object;"⟩
def dkwJ15_copyOf_2_1 : List UInt8 := [78, 42, 3, 45, 3, 42, 190, 27, 184, 1, 48, 184, 0, 150, 45, 176]
abbrev dktJ15_copyOf_2_1 : List UInt8 := dkwJ15_copyOf_2_1 ++ []
def dkwJ15_copyOf_2_0 : List UInt8 := [44, 18, 110, 166, 0, 10, 27, 189, 0, 2, 167, 0, 14, 44, 182, 0, 90, 27, 184, 0, 95, 192, 0, 110]
abbrev dktJ15_copyOf_2_0 : List UInt8 := dkwJ15_copyOf_2_0 ++ dktJ15_copyOf_2_1
theorem dksJ15_copyOf_2_0 : cJ15_copyOf_2.data.toList.drop 0 = dktJ15_copyOf_2_0 := by decide +kernel
theorem dksJ15_copyOf_2_1 : cJ15_copyOf_2.data.toList.drop 24 = dktJ15_copyOf_2_1 := dk_seg dksJ15_copyOf_2_0 24 rfl rfl
theorem dJ15_copyOf_2_0 : decode cJ15_copyOf_2 0 = .ok (.aload_n 2, 1) := dk_44 (dk_at dksJ15_copyOf_2_0 0 rfl rfl)
theorem dJ15_copyOf_2_1 : decode cJ15_copyOf_2 1 = .ok (.ldc 110, 2) := dk_18 110 (dk_at dksJ15_copyOf_2_0 1 rfl rfl)
theorem dJ15_copyOf_2_3 : decode cJ15_copyOf_2 3 = .ok (.if_acmp .ne 10, 3) := dk_166 0 10 (dk_at dksJ15_copyOf_2_0 3 rfl rfl)
theorem dJ15_copyOf_2_6 : decode cJ15_copyOf_2 6 = .ok (.iload_n 1, 1) := dk_27 (dk_at dksJ15_copyOf_2_0 6 rfl rfl)
theorem dJ15_copyOf_2_7 : decode cJ15_copyOf_2 7 = .ok (.anewarray 2, 3) := dk_189 0 2 (dk_at dksJ15_copyOf_2_0 7 rfl rfl)
theorem dJ15_copyOf_2_10 : decode cJ15_copyOf_2 10 = .ok (.goto 14, 3) := dk_167 0 14 (dk_at dksJ15_copyOf_2_0 10 rfl rfl)
theorem dJ15_copyOf_2_13 : decode cJ15_copyOf_2 13 = .ok (.aload_n 2, 1) := dk_44 (dk_at dksJ15_copyOf_2_0 13 rfl rfl)
theorem dJ15_copyOf_2_14 : decode cJ15_copyOf_2 14 = .ok (.invokevirtual 90, 3) := dk_182 0 90 (dk_at dksJ15_copyOf_2_0 14 rfl rfl)
theorem dJ15_copyOf_2_17 : decode cJ15_copyOf_2 17 = .ok (.iload_n 1, 1) := dk_27 (dk_at dksJ15_copyOf_2_0 17 rfl rfl)
theorem dJ15_copyOf_2_18 : decode cJ15_copyOf_2 18 = .ok (.invokestatic 95, 3) := dk_184 0 95 (dk_at dksJ15_copyOf_2_0 18 rfl rfl)
theorem dJ15_copyOf_2_21 : decode cJ15_copyOf_2 21 = .ok (.checkcast 110, 3) := dk_192 0 110 (dk_at dksJ15_copyOf_2_0 21 rfl rfl)
theorem dJ15_copyOf_2_24 : decode cJ15_copyOf_2 24 = .ok (.astore_n 3, 1) := dk_78 (dk_at dksJ15_copyOf_2_1 0 rfl rfl)
theorem dJ15_copyOf_2_25 : decode cJ15_copyOf_2 25 = .ok (.aload_n 0, 1) := dk_42 (dk_at dksJ15_copyOf_2_1 1 rfl rfl)
theorem dJ15_copyOf_2_26 : decode cJ15_copyOf_2 26 = .ok (.iconst 0, 1) := dk_3 (dk_at dksJ15_copyOf_2_1 2 rfl rfl)
theorem dJ15_copyOf_2_27 : decode cJ15_copyOf_2 27 = .ok (.aload_n 3, 1) := dk_45 (dk_at dksJ15_copyOf_2_1 3 rfl rfl)
theorem dJ15_copyOf_2_28 : decode cJ15_copyOf_2 28 = .ok (.iconst 0, 1) := dk_3 (dk_at dksJ15_copyOf_2_1 4 rfl rfl)
theorem dJ15_copyOf_2_29 : decode cJ15_copyOf_2 29 = .ok (.aload_n 0, 1) := dk_42 (dk_at dksJ15_copyOf_2_1 5 rfl rfl)
theorem dJ15_copyOf_2_30 : decode cJ15_copyOf_2 30 = .ok (.arraylength, 1) := dk_190 (dk_at dksJ15_copyOf_2_1 6 rfl rfl)
theorem dJ15_copyOf_2_31 : decode cJ15_copyOf_2 31 = .ok (.iload_n 1, 1) := dk_27 (dk_at dksJ15_copyOf_2_1 7 rfl rfl)
theorem dJ15_copyOf_2_32 : decode cJ15_copyOf_2 32 = .ok (.invokestatic 304, 3) := dk_184 1 48 (dk_at dksJ15_copyOf_2_1 8 rfl rfl)
theorem dJ15_copyOf_2_35 : decode cJ15_copyOf_2 35 = .ok (.invokestatic 150, 3) := dk_184 0 150 (dk_at dksJ15_copyOf_2_1 11 rfl rfl)
theorem dJ15_copyOf_2_38 : decode cJ15_copyOf_2 38 = .ok (.aload_n 3, 1) := dk_45 (dk_at dksJ15_copyOf_2_1 14 rfl rfl)
theorem dJ15_copyOf_2_39 : decode cJ15_copyOf_2 39 = .ok (.areturn, 1) := dk_176 (dk_at dksJ15_copyOf_2_1 15 rfl rfl)
abbrev cJ15_copyOf_3 : ByteArray := prog_56_method_121_code
def yJ15_copyOf_3 : MethodName := ⟨RJ15, "copyOf", "([BI)[B"⟩
def dkwJ15_copyOf_3_1 : List UInt8 := [27, 184, 1, 48, 184, 0, 150, 44, 176]
abbrev dktJ15_copyOf_3_1 : List UInt8 := dkwJ15_copyOf_3_1 ++ []
def dkwJ15_copyOf_3_0 : List UInt8 := [27, 42, 190, 160, 0, 11, 42, 182, 1, 54, 192, 1, 55, 176, 27, 188, 8, 77, 42, 3, 44, 3, 42, 190]
abbrev dktJ15_copyOf_3_0 : List UInt8 := dkwJ15_copyOf_3_0 ++ dktJ15_copyOf_3_1
theorem dksJ15_copyOf_3_0 : cJ15_copyOf_3.data.toList.drop 0 = dktJ15_copyOf_3_0 := by decide +kernel
theorem dksJ15_copyOf_3_1 : cJ15_copyOf_3.data.toList.drop 24 = dktJ15_copyOf_3_1 := dk_seg dksJ15_copyOf_3_0 24 rfl rfl
theorem dJ15_copyOf_3_0 : decode cJ15_copyOf_3 0 = .ok (.iload_n 1, 1) := dk_27 (dk_at dksJ15_copyOf_3_0 0 rfl rfl)
theorem dJ15_copyOf_3_1 : decode cJ15_copyOf_3 1 = .ok (.aload_n 0, 1) := dk_42 (dk_at dksJ15_copyOf_3_0 1 rfl rfl)
theorem dJ15_copyOf_3_2 : decode cJ15_copyOf_3 2 = .ok (.arraylength, 1) := dk_190 (dk_at dksJ15_copyOf_3_0 2 rfl rfl)
theorem dJ15_copyOf_3_3 : decode cJ15_copyOf_3 3 = .ok (.if_icmp .ne 11, 3) := dk_160 0 11 (dk_at dksJ15_copyOf_3_0 3 rfl rfl)
theorem dJ15_copyOf_3_6 : decode cJ15_copyOf_3 6 = .ok (.aload_n 0, 1) := dk_42 (dk_at dksJ15_copyOf_3_0 6 rfl rfl)
theorem dJ15_copyOf_3_7 : decode cJ15_copyOf_3 7 = .ok (.invokevirtual 310, 3) := dk_182 1 54 (dk_at dksJ15_copyOf_3_0 7 rfl rfl)
theorem dJ15_copyOf_3_10 : decode cJ15_copyOf_3 10 = .ok (.checkcast 311, 3) := dk_192 1 55 (dk_at dksJ15_copyOf_3_0 10 rfl rfl)
theorem dJ15_copyOf_3_13 : decode cJ15_copyOf_3 13 = .ok (.areturn, 1) := dk_176 (dk_at dksJ15_copyOf_3_0 13 rfl rfl)
theorem dJ15_copyOf_3_14 : decode cJ15_copyOf_3 14 = .ok (.iload_n 1, 1) := dk_27 (dk_at dksJ15_copyOf_3_0 14 rfl rfl)
theorem dJ15_copyOf_3_15 : decode cJ15_copyOf_3 15 = .ok (.newarray .byte, 2) := dk_188_8 (dk_at dksJ15_copyOf_3_0 15 rfl rfl)
theorem dJ15_copyOf_3_17 : decode cJ15_copyOf_3 17 = .ok (.astore_n 2, 1) := dk_77 (dk_at dksJ15_copyOf_3_0 17 rfl rfl)
theorem dJ15_copyOf_3_18 : decode cJ15_copyOf_3 18 = .ok (.aload_n 0, 1) := dk_42 (dk_at dksJ15_copyOf_3_0 18 rfl rfl)
theorem dJ15_copyOf_3_19 : decode cJ15_copyOf_3 19 = .ok (.iconst 0, 1) := dk_3 (dk_at dksJ15_copyOf_3_0 19 rfl rfl)
theorem dJ15_copyOf_3_20 : decode cJ15_copyOf_3 20 = .ok (.aload_n 2, 1) := dk_44 (dk_at dksJ15_copyOf_3_0 20 rfl rfl)
theorem dJ15_copyOf_3_21 : decode cJ15_copyOf_3 21 = .ok (.iconst 0, 1) := dk_3 (dk_at dksJ15_copyOf_3_0 21 rfl rfl)
theorem dJ15_copyOf_3_22 : decode cJ15_copyOf_3 22 = .ok (.aload_n 0, 1) := dk_42 (dk_at dksJ15_copyOf_3_0 22 rfl rfl)
theorem dJ15_copyOf_3_23 : decode cJ15_copyOf_3 23 = .ok (.arraylength, 1) := dk_190 (dk_at dksJ15_copyOf_3_0 23 rfl rfl)
theorem dJ15_copyOf_3_24 : decode cJ15_copyOf_3 24 = .ok (.iload_n 1, 1) := dk_27 (dk_at dksJ15_copyOf_3_1 0 rfl rfl)
theorem dJ15_copyOf_3_25 : decode cJ15_copyOf_3 25 = .ok (.invokestatic 304, 3) := dk_184 1 48 (dk_at dksJ15_copyOf_3_1 1 rfl rfl)
theorem dJ15_copyOf_3_28 : decode cJ15_copyOf_3 28 = .ok (.invokestatic 150, 3) := dk_184 0 150 (dk_at dksJ15_copyOf_3_1 4 rfl rfl)
theorem dJ15_copyOf_3_31 : decode cJ15_copyOf_3 31 = .ok (.aload_n 2, 1) := dk_44 (dk_at dksJ15_copyOf_3_1 7 rfl rfl)
theorem dJ15_copyOf_3_32 : decode cJ15_copyOf_3 32 = .ok (.areturn, 1) := dk_176 (dk_at dksJ15_copyOf_3_1 8 rfl rfl)
abbrev cJ15_copyOfRange : ByteArray := prog_56_method_132_code
def yJ15_copyOfRange : MethodName := ⟨RJ15, "copyOfRange", "([BII)[B"⟩
def dkwJ15_copyOfRange_1 : List UInt8 := [176]
abbrev dktJ15_copyOfRange_1 : List UInt8 := dkwJ15_copyOfRange_1 ++ []
def dkwJ15_copyOfRange_0 : List UInt8 := [27, 154, 0, 9, 28, 42, 190, 159, 0, 10, 42, 27, 28, 184, 1, 83, 176, 42, 182, 1, 54, 192, 1, 55]
abbrev dktJ15_copyOfRange_0 : List UInt8 := dkwJ15_copyOfRange_0 ++ dktJ15_copyOfRange_1
theorem dksJ15_copyOfRange_0 : cJ15_copyOfRange.data.toList.drop 0 = dktJ15_copyOfRange_0 := by decide +kernel
theorem dksJ15_copyOfRange_1 : cJ15_copyOfRange.data.toList.drop 24 = dktJ15_copyOfRange_1 := dk_seg dksJ15_copyOfRange_0 24 rfl rfl
theorem dJ15_copyOfRange_0 : decode cJ15_copyOfRange 0 = .ok (.iload_n 1, 1) := dk_27 (dk_at dksJ15_copyOfRange_0 0 rfl rfl)
theorem dJ15_copyOfRange_1 : decode cJ15_copyOfRange 1 = .ok (.ifCond .ne 9, 3) := dk_154 0 9 (dk_at dksJ15_copyOfRange_0 1 rfl rfl)
theorem dJ15_copyOfRange_4 : decode cJ15_copyOfRange 4 = .ok (.iload_n 2, 1) := dk_28 (dk_at dksJ15_copyOfRange_0 4 rfl rfl)
theorem dJ15_copyOfRange_5 : decode cJ15_copyOfRange 5 = .ok (.aload_n 0, 1) := dk_42 (dk_at dksJ15_copyOfRange_0 5 rfl rfl)
theorem dJ15_copyOfRange_6 : decode cJ15_copyOfRange 6 = .ok (.arraylength, 1) := dk_190 (dk_at dksJ15_copyOfRange_0 6 rfl rfl)
theorem dJ15_copyOfRange_7 : decode cJ15_copyOfRange 7 = .ok (.if_icmp .eq 10, 3) := dk_159 0 10 (dk_at dksJ15_copyOfRange_0 7 rfl rfl)
theorem dJ15_copyOfRange_10 : decode cJ15_copyOfRange 10 = .ok (.aload_n 0, 1) := dk_42 (dk_at dksJ15_copyOfRange_0 10 rfl rfl)
theorem dJ15_copyOfRange_11 : decode cJ15_copyOfRange 11 = .ok (.iload_n 1, 1) := dk_27 (dk_at dksJ15_copyOfRange_0 11 rfl rfl)
theorem dJ15_copyOfRange_12 : decode cJ15_copyOfRange 12 = .ok (.iload_n 2, 1) := dk_28 (dk_at dksJ15_copyOfRange_0 12 rfl rfl)
theorem dJ15_copyOfRange_13 : decode cJ15_copyOfRange 13 = .ok (.invokestatic 339, 3) := dk_184 1 83 (dk_at dksJ15_copyOfRange_0 13 rfl rfl)
theorem dJ15_copyOfRange_16 : decode cJ15_copyOfRange 16 = .ok (.areturn, 1) := dk_176 (dk_at dksJ15_copyOfRange_0 16 rfl rfl)
theorem dJ15_copyOfRange_17 : decode cJ15_copyOfRange 17 = .ok (.aload_n 0, 1) := dk_42 (dk_at dksJ15_copyOfRange_0 17 rfl rfl)
theorem dJ15_copyOfRange_18 : decode cJ15_copyOfRange 18 = .ok (.invokevirtual 310, 3) := dk_182 1 54 (dk_at dksJ15_copyOfRange_0 18 rfl rfl)
theorem dJ15_copyOfRange_21 : decode cJ15_copyOfRange 21 = .ok (.checkcast 311, 3) := dk_192 1 55 (dk_at dksJ15_copyOfRange_0 21 rfl rfl)
theorem dJ15_copyOfRange_24 : decode cJ15_copyOfRange 24 = .ok (.areturn, 1) := dk_176 (dk_at dksJ15_copyOfRange_1 0 rfl rfl)
abbrev cJ15_copyOfRangeByte : ByteArray := prog_56_method_133_code
def yJ15_copyOfRangeByte : MethodName := ⟨RJ15, "copyOfRangeByte", "([BII)[B"⟩
def dkwJ15_copyOfRangeByte_1 : List UInt8 := [184, 1, 48, 184, 0, 150, 25, 4, 176]
abbrev dktJ15_copyOfRangeByte_1 : List UInt8 := dkwJ15_copyOfRangeByte_1 ++ []
def dkwJ15_copyOfRangeByte_0 : List UInt8 := [27, 28, 184, 1, 87, 28, 27, 100, 62, 29, 188, 8, 58, 4, 42, 27, 25, 4, 3, 42, 190, 27, 100, 29]
abbrev dktJ15_copyOfRangeByte_0 : List UInt8 := dkwJ15_copyOfRangeByte_0 ++ dktJ15_copyOfRangeByte_1
theorem dksJ15_copyOfRangeByte_0 : cJ15_copyOfRangeByte.data.toList.drop 0 = dktJ15_copyOfRangeByte_0 := by decide +kernel
theorem dksJ15_copyOfRangeByte_1 : cJ15_copyOfRangeByte.data.toList.drop 24 = dktJ15_copyOfRangeByte_1 := dk_seg dksJ15_copyOfRangeByte_0 24 rfl rfl
theorem dJ15_copyOfRangeByte_0 : decode cJ15_copyOfRangeByte 0 = .ok (.iload_n 1, 1) := dk_27 (dk_at dksJ15_copyOfRangeByte_0 0 rfl rfl)
theorem dJ15_copyOfRangeByte_1 : decode cJ15_copyOfRangeByte 1 = .ok (.iload_n 2, 1) := dk_28 (dk_at dksJ15_copyOfRangeByte_0 1 rfl rfl)
theorem dJ15_copyOfRangeByte_2 : decode cJ15_copyOfRangeByte 2 = .ok (.invokestatic 343, 3) := dk_184 1 87 (dk_at dksJ15_copyOfRangeByte_0 2 rfl rfl)
theorem dJ15_copyOfRangeByte_5 : decode cJ15_copyOfRangeByte 5 = .ok (.iload_n 2, 1) := dk_28 (dk_at dksJ15_copyOfRangeByte_0 5 rfl rfl)
theorem dJ15_copyOfRangeByte_6 : decode cJ15_copyOfRangeByte 6 = .ok (.iload_n 1, 1) := dk_27 (dk_at dksJ15_copyOfRangeByte_0 6 rfl rfl)
theorem dJ15_copyOfRangeByte_7 : decode cJ15_copyOfRangeByte 7 = .ok (.isub, 1) := dk_100 (dk_at dksJ15_copyOfRangeByte_0 7 rfl rfl)
theorem dJ15_copyOfRangeByte_8 : decode cJ15_copyOfRangeByte 8 = .ok (.istore_n 3, 1) := dk_62 (dk_at dksJ15_copyOfRangeByte_0 8 rfl rfl)
theorem dJ15_copyOfRangeByte_9 : decode cJ15_copyOfRangeByte 9 = .ok (.iload_n 3, 1) := dk_29 (dk_at dksJ15_copyOfRangeByte_0 9 rfl rfl)
theorem dJ15_copyOfRangeByte_10 : decode cJ15_copyOfRangeByte 10 = .ok (.newarray .byte, 2) := dk_188_8 (dk_at dksJ15_copyOfRangeByte_0 10 rfl rfl)
theorem dJ15_copyOfRangeByte_12 : decode cJ15_copyOfRangeByte 12 = .ok (.astore 4, 2) := dk_58 4 (dk_at dksJ15_copyOfRangeByte_0 12 rfl rfl)
theorem dJ15_copyOfRangeByte_14 : decode cJ15_copyOfRangeByte 14 = .ok (.aload_n 0, 1) := dk_42 (dk_at dksJ15_copyOfRangeByte_0 14 rfl rfl)
theorem dJ15_copyOfRangeByte_15 : decode cJ15_copyOfRangeByte 15 = .ok (.iload_n 1, 1) := dk_27 (dk_at dksJ15_copyOfRangeByte_0 15 rfl rfl)
theorem dJ15_copyOfRangeByte_16 : decode cJ15_copyOfRangeByte 16 = .ok (.aload 4, 2) := dk_25 4 (dk_at dksJ15_copyOfRangeByte_0 16 rfl rfl)
theorem dJ15_copyOfRangeByte_18 : decode cJ15_copyOfRangeByte 18 = .ok (.iconst 0, 1) := dk_3 (dk_at dksJ15_copyOfRangeByte_0 18 rfl rfl)
theorem dJ15_copyOfRangeByte_19 : decode cJ15_copyOfRangeByte 19 = .ok (.aload_n 0, 1) := dk_42 (dk_at dksJ15_copyOfRangeByte_0 19 rfl rfl)
theorem dJ15_copyOfRangeByte_20 : decode cJ15_copyOfRangeByte 20 = .ok (.arraylength, 1) := dk_190 (dk_at dksJ15_copyOfRangeByte_0 20 rfl rfl)
theorem dJ15_copyOfRangeByte_21 : decode cJ15_copyOfRangeByte 21 = .ok (.iload_n 1, 1) := dk_27 (dk_at dksJ15_copyOfRangeByte_0 21 rfl rfl)
theorem dJ15_copyOfRangeByte_22 : decode cJ15_copyOfRangeByte 22 = .ok (.isub, 1) := dk_100 (dk_at dksJ15_copyOfRangeByte_0 22 rfl rfl)
theorem dJ15_copyOfRangeByte_23 : decode cJ15_copyOfRangeByte 23 = .ok (.iload_n 3, 1) := dk_29 (dk_at dksJ15_copyOfRangeByte_0 23 rfl rfl)
theorem dJ15_copyOfRangeByte_24 : decode cJ15_copyOfRangeByte 24 = .ok (.invokestatic 304, 3) := dk_184 1 48 (dk_at dksJ15_copyOfRangeByte_1 0 rfl rfl)
theorem dJ15_copyOfRangeByte_27 : decode cJ15_copyOfRangeByte 27 = .ok (.invokestatic 150, 3) := dk_184 0 150 (dk_at dksJ15_copyOfRangeByte_1 3 rfl rfl)
theorem dJ15_copyOfRangeByte_30 : decode cJ15_copyOfRangeByte 30 = .ok (.aload 4, 2) := dk_25 4 (dk_at dksJ15_copyOfRangeByte_1 6 rfl rfl)
theorem dJ15_copyOfRangeByte_32 : decode cJ15_copyOfRangeByte 32 = .ok (.areturn, 1) := dk_176 (dk_at dksJ15_copyOfRangeByte_1 8 rfl rfl)
abbrev cJ15_checkLength : ByteArray := prog_56_method_131_code
def yJ15_checkLength : MethodName := ⟨RJ15, "checkLength", "(II)V"⟩
def dkwJ15_checkLength_1 : List UInt8 := [182, 0, 50, 27, 182, 0, 54, 182, 0, 61, 183, 0, 65, 191, 177]
abbrev dktJ15_checkLength_1 : List UInt8 := dkwJ15_checkLength_1 ++ []
def dkwJ15_checkLength_0 : List UInt8 := [27, 26, 162, 0, 35, 187, 0, 43, 89, 187, 0, 45, 89, 183, 0, 47, 26, 182, 0, 54, 19, 1, 81]
abbrev dktJ15_checkLength_0 : List UInt8 := dkwJ15_checkLength_0 ++ dktJ15_checkLength_1
theorem dksJ15_checkLength_0 : cJ15_checkLength.data.toList.drop 0 = dktJ15_checkLength_0 := by decide +kernel
theorem dksJ15_checkLength_1 : cJ15_checkLength.data.toList.drop 23 = dktJ15_checkLength_1 := dk_seg dksJ15_checkLength_0 23 rfl rfl
theorem dJ15_checkLength_0 : decode cJ15_checkLength 0 = .ok (.iload_n 1, 1) := dk_27 (dk_at dksJ15_checkLength_0 0 rfl rfl)
theorem dJ15_checkLength_1 : decode cJ15_checkLength 1 = .ok (.iload_n 0, 1) := dk_26 (dk_at dksJ15_checkLength_0 1 rfl rfl)
theorem dJ15_checkLength_2 : decode cJ15_checkLength 2 = .ok (.if_icmp .ge 35, 3) := dk_162 0 35 (dk_at dksJ15_checkLength_0 2 rfl rfl)
theorem dJ15_checkLength_5 : decode cJ15_checkLength 5 = .ok (.new 43, 3) := dk_187 0 43 (dk_at dksJ15_checkLength_0 5 rfl rfl)
theorem dJ15_checkLength_8 : decode cJ15_checkLength 8 = .ok (.dup, 1) := dk_89 (dk_at dksJ15_checkLength_0 8 rfl rfl)
theorem dJ15_checkLength_9 : decode cJ15_checkLength 9 = .ok (.new 45, 3) := dk_187 0 45 (dk_at dksJ15_checkLength_0 9 rfl rfl)
theorem dJ15_checkLength_12 : decode cJ15_checkLength 12 = .ok (.dup, 1) := dk_89 (dk_at dksJ15_checkLength_0 12 rfl rfl)
theorem dJ15_checkLength_13 : decode cJ15_checkLength 13 = .ok (.invokespecial 47, 3) := dk_183 0 47 (dk_at dksJ15_checkLength_0 13 rfl rfl)
theorem dJ15_checkLength_16 : decode cJ15_checkLength 16 = .ok (.iload_n 0, 1) := dk_26 (dk_at dksJ15_checkLength_0 16 rfl rfl)
theorem dJ15_checkLength_17 : decode cJ15_checkLength 17 = .ok (.invokevirtual 54, 3) := dk_182 0 54 (dk_at dksJ15_checkLength_0 17 rfl rfl)
theorem dJ15_checkLength_20 : decode cJ15_checkLength 20 = .ok (.ldc_w 337, 3) := dk_19 1 81 (dk_at dksJ15_checkLength_0 20 rfl rfl)
theorem dJ15_checkLength_23 : decode cJ15_checkLength 23 = .ok (.invokevirtual 50, 3) := dk_182 0 50 (dk_at dksJ15_checkLength_1 0 rfl rfl)
theorem dJ15_checkLength_26 : decode cJ15_checkLength 26 = .ok (.iload_n 1, 1) := dk_27 (dk_at dksJ15_checkLength_1 3 rfl rfl)
theorem dJ15_checkLength_27 : decode cJ15_checkLength 27 = .ok (.invokevirtual 54, 3) := dk_182 0 54 (dk_at dksJ15_checkLength_1 4 rfl rfl)
theorem dJ15_checkLength_30 : decode cJ15_checkLength 30 = .ok (.invokevirtual 61, 3) := dk_182 0 61 (dk_at dksJ15_checkLength_1 7 rfl rfl)
theorem dJ15_checkLength_33 : decode cJ15_checkLength 33 = .ok (.invokespecial 65, 3) := dk_183 0 65 (dk_at dksJ15_checkLength_1 10 rfl rfl)
theorem dJ15_checkLength_36 : decode cJ15_checkLength 36 = .ok (.athrow, 1) := dk_191 (dk_at dksJ15_checkLength_1 13 rfl rfl)
theorem dJ15_checkLength_37 : decode cJ15_checkLength 37 = .ok (.return_, 1) := dk_177 (dk_at dksJ15_checkLength_1 14 rfl rfl)
abbrev cJ15_fill : ByteArray := prog_56_method_110_code
def yJ15_fill : MethodName := ⟨RJ15, "fill", "([BIIB)V"⟩
def dkwJ15_fill_1 : List UInt8 := [167, 255, 242, 177]
abbrev dktJ15_fill_1 : List UInt8 := dkwJ15_fill_1 ++ []
def dkwJ15_fill_0 : List UInt8 := [42, 190, 27, 28, 184, 0, 13, 27, 54, 4, 21, 4, 28, 162, 0, 14, 42, 21, 4, 29, 84, 132, 4, 1]
abbrev dktJ15_fill_0 : List UInt8 := dkwJ15_fill_0 ++ dktJ15_fill_1
theorem dksJ15_fill_0 : cJ15_fill.data.toList.drop 0 = dktJ15_fill_0 := by decide +kernel
theorem dksJ15_fill_1 : cJ15_fill.data.toList.drop 24 = dktJ15_fill_1 := dk_seg dksJ15_fill_0 24 rfl rfl
theorem dJ15_fill_0 : decode cJ15_fill 0 = .ok (.aload_n 0, 1) := dk_42 (dk_at dksJ15_fill_0 0 rfl rfl)
theorem dJ15_fill_1 : decode cJ15_fill 1 = .ok (.arraylength, 1) := dk_190 (dk_at dksJ15_fill_0 1 rfl rfl)
theorem dJ15_fill_2 : decode cJ15_fill 2 = .ok (.iload_n 1, 1) := dk_27 (dk_at dksJ15_fill_0 2 rfl rfl)
theorem dJ15_fill_3 : decode cJ15_fill 3 = .ok (.iload_n 2, 1) := dk_28 (dk_at dksJ15_fill_0 3 rfl rfl)
theorem dJ15_fill_4 : decode cJ15_fill 4 = .ok (.invokestatic 13, 3) := dk_184 0 13 (dk_at dksJ15_fill_0 4 rfl rfl)
theorem dJ15_fill_7 : decode cJ15_fill 7 = .ok (.iload_n 1, 1) := dk_27 (dk_at dksJ15_fill_0 7 rfl rfl)
theorem dJ15_fill_8 : decode cJ15_fill 8 = .ok (.istore 4, 2) := dk_54 4 (dk_at dksJ15_fill_0 8 rfl rfl)
theorem dJ15_fill_10 : decode cJ15_fill 10 = .ok (.iload 4, 2) := dk_21 4 (dk_at dksJ15_fill_0 10 rfl rfl)
theorem dJ15_fill_12 : decode cJ15_fill 12 = .ok (.iload_n 2, 1) := dk_28 (dk_at dksJ15_fill_0 12 rfl rfl)
theorem dJ15_fill_13 : decode cJ15_fill 13 = .ok (.if_icmp .ge 14, 3) := dk_162 0 14 (dk_at dksJ15_fill_0 13 rfl rfl)
theorem dJ15_fill_16 : decode cJ15_fill 16 = .ok (.aload_n 0, 1) := dk_42 (dk_at dksJ15_fill_0 16 rfl rfl)
theorem dJ15_fill_17 : decode cJ15_fill 17 = .ok (.iload 4, 2) := dk_21 4 (dk_at dksJ15_fill_0 17 rfl rfl)
theorem dJ15_fill_19 : decode cJ15_fill 19 = .ok (.iload_n 3, 1) := dk_29 (dk_at dksJ15_fill_0 19 rfl rfl)
theorem dJ15_fill_20 : decode cJ15_fill 20 = .ok (.bastore, 1) := dk_84 (dk_at dksJ15_fill_0 20 rfl rfl)
theorem dJ15_fill_21 : decode cJ15_fill 21 = .ok (.iinc 4 1, 3) := dk_132 4 1 (dk_at dksJ15_fill_0 21 rfl rfl)
theorem dJ15_fill_24 : decode cJ15_fill 24 = .ok (.goto (-14), 3) := dk_167 255 242 (dk_at dksJ15_fill_1 0 rfl rfl)
theorem dJ15_fill_27 : decode cJ15_fill 27 = .ok (.return_, 1) := dk_177 (dk_at dksJ15_fill_1 3 rfl rfl)
abbrev cJ15_rangeCheck : ByteArray := prog_56_method_30_code
def yJ15_rangeCheck : MethodName := ⟨RJ15, "rangeCheck", "(III)V"⟩
def dkwJ15_rangeCheck_3 : List UInt8 := [183, 0, 70, 191, 177]
abbrev dktJ15_rangeCheck_3 : List UInt8 := dkwJ15_rangeCheck_3 ++ []
def dkwJ15_rangeCheck_2 : List UInt8 := [27, 156, 0, 12, 187, 0, 68, 89, 27, 183, 0, 70, 191, 28, 26, 164, 0, 12, 187, 0, 68, 89, 28]
abbrev dktJ15_rangeCheck_2 : List UInt8 := dkwJ15_rangeCheck_2 ++ dktJ15_rangeCheck_3
def dkwJ15_rangeCheck_1 : List UInt8 := [182, 0, 54, 18, 57, 182, 0, 50, 28, 182, 0, 54, 18, 59, 182, 0, 50, 182, 0, 61, 183, 0, 65, 191]
abbrev dktJ15_rangeCheck_1 : List UInt8 := dkwJ15_rangeCheck_1 ++ dktJ15_rangeCheck_2
def dkwJ15_rangeCheck_0 : List UInt8 := [27, 28, 164, 0, 44, 187, 0, 43, 89, 187, 0, 45, 89, 183, 0, 47, 18, 48, 182, 0, 50, 27]
abbrev dktJ15_rangeCheck_0 : List UInt8 := dkwJ15_rangeCheck_0 ++ dktJ15_rangeCheck_1
theorem dksJ15_rangeCheck_0 : cJ15_rangeCheck.data.toList.drop 0 = dktJ15_rangeCheck_0 := by decide +kernel
theorem dksJ15_rangeCheck_1 : cJ15_rangeCheck.data.toList.drop 22 = dktJ15_rangeCheck_1 := dk_seg dksJ15_rangeCheck_0 22 rfl rfl
theorem dksJ15_rangeCheck_2 : cJ15_rangeCheck.data.toList.drop 46 = dktJ15_rangeCheck_2 := dk_seg dksJ15_rangeCheck_1 24 rfl rfl
theorem dksJ15_rangeCheck_3 : cJ15_rangeCheck.data.toList.drop 69 = dktJ15_rangeCheck_3 := dk_seg dksJ15_rangeCheck_2 23 rfl rfl
theorem dJ15_rangeCheck_0 : decode cJ15_rangeCheck 0 = .ok (.iload_n 1, 1) := dk_27 (dk_at dksJ15_rangeCheck_0 0 rfl rfl)
theorem dJ15_rangeCheck_1 : decode cJ15_rangeCheck 1 = .ok (.iload_n 2, 1) := dk_28 (dk_at dksJ15_rangeCheck_0 1 rfl rfl)
theorem dJ15_rangeCheck_2 : decode cJ15_rangeCheck 2 = .ok (.if_icmp .le 44, 3) := dk_164 0 44 (dk_at dksJ15_rangeCheck_0 2 rfl rfl)
theorem dJ15_rangeCheck_5 : decode cJ15_rangeCheck 5 = .ok (.new 43, 3) := dk_187 0 43 (dk_at dksJ15_rangeCheck_0 5 rfl rfl)
theorem dJ15_rangeCheck_8 : decode cJ15_rangeCheck 8 = .ok (.dup, 1) := dk_89 (dk_at dksJ15_rangeCheck_0 8 rfl rfl)
theorem dJ15_rangeCheck_9 : decode cJ15_rangeCheck 9 = .ok (.new 45, 3) := dk_187 0 45 (dk_at dksJ15_rangeCheck_0 9 rfl rfl)
theorem dJ15_rangeCheck_12 : decode cJ15_rangeCheck 12 = .ok (.dup, 1) := dk_89 (dk_at dksJ15_rangeCheck_0 12 rfl rfl)
theorem dJ15_rangeCheck_13 : decode cJ15_rangeCheck 13 = .ok (.invokespecial 47, 3) := dk_183 0 47 (dk_at dksJ15_rangeCheck_0 13 rfl rfl)
theorem dJ15_rangeCheck_16 : decode cJ15_rangeCheck 16 = .ok (.ldc 48, 2) := dk_18 48 (dk_at dksJ15_rangeCheck_0 16 rfl rfl)
theorem dJ15_rangeCheck_18 : decode cJ15_rangeCheck 18 = .ok (.invokevirtual 50, 3) := dk_182 0 50 (dk_at dksJ15_rangeCheck_0 18 rfl rfl)
theorem dJ15_rangeCheck_21 : decode cJ15_rangeCheck 21 = .ok (.iload_n 1, 1) := dk_27 (dk_at dksJ15_rangeCheck_0 21 rfl rfl)
theorem dJ15_rangeCheck_22 : decode cJ15_rangeCheck 22 = .ok (.invokevirtual 54, 3) := dk_182 0 54 (dk_at dksJ15_rangeCheck_1 0 rfl rfl)
theorem dJ15_rangeCheck_25 : decode cJ15_rangeCheck 25 = .ok (.ldc 57, 2) := dk_18 57 (dk_at dksJ15_rangeCheck_1 3 rfl rfl)
theorem dJ15_rangeCheck_27 : decode cJ15_rangeCheck 27 = .ok (.invokevirtual 50, 3) := dk_182 0 50 (dk_at dksJ15_rangeCheck_1 5 rfl rfl)
theorem dJ15_rangeCheck_30 : decode cJ15_rangeCheck 30 = .ok (.iload_n 2, 1) := dk_28 (dk_at dksJ15_rangeCheck_1 8 rfl rfl)
theorem dJ15_rangeCheck_31 : decode cJ15_rangeCheck 31 = .ok (.invokevirtual 54, 3) := dk_182 0 54 (dk_at dksJ15_rangeCheck_1 9 rfl rfl)
theorem dJ15_rangeCheck_34 : decode cJ15_rangeCheck 34 = .ok (.ldc 59, 2) := dk_18 59 (dk_at dksJ15_rangeCheck_1 12 rfl rfl)
theorem dJ15_rangeCheck_36 : decode cJ15_rangeCheck 36 = .ok (.invokevirtual 50, 3) := dk_182 0 50 (dk_at dksJ15_rangeCheck_1 14 rfl rfl)
theorem dJ15_rangeCheck_39 : decode cJ15_rangeCheck 39 = .ok (.invokevirtual 61, 3) := dk_182 0 61 (dk_at dksJ15_rangeCheck_1 17 rfl rfl)
theorem dJ15_rangeCheck_42 : decode cJ15_rangeCheck 42 = .ok (.invokespecial 65, 3) := dk_183 0 65 (dk_at dksJ15_rangeCheck_1 20 rfl rfl)
theorem dJ15_rangeCheck_45 : decode cJ15_rangeCheck 45 = .ok (.athrow, 1) := dk_191 (dk_at dksJ15_rangeCheck_1 23 rfl rfl)
theorem dJ15_rangeCheck_46 : decode cJ15_rangeCheck 46 = .ok (.iload_n 1, 1) := dk_27 (dk_at dksJ15_rangeCheck_2 0 rfl rfl)
theorem dJ15_rangeCheck_47 : decode cJ15_rangeCheck 47 = .ok (.ifCond .ge 12, 3) := dk_156 0 12 (dk_at dksJ15_rangeCheck_2 1 rfl rfl)
theorem dJ15_rangeCheck_50 : decode cJ15_rangeCheck 50 = .ok (.new 68, 3) := dk_187 0 68 (dk_at dksJ15_rangeCheck_2 4 rfl rfl)
theorem dJ15_rangeCheck_53 : decode cJ15_rangeCheck 53 = .ok (.dup, 1) := dk_89 (dk_at dksJ15_rangeCheck_2 7 rfl rfl)
theorem dJ15_rangeCheck_54 : decode cJ15_rangeCheck 54 = .ok (.iload_n 1, 1) := dk_27 (dk_at dksJ15_rangeCheck_2 8 rfl rfl)
theorem dJ15_rangeCheck_55 : decode cJ15_rangeCheck 55 = .ok (.invokespecial 70, 3) := dk_183 0 70 (dk_at dksJ15_rangeCheck_2 9 rfl rfl)
theorem dJ15_rangeCheck_58 : decode cJ15_rangeCheck 58 = .ok (.athrow, 1) := dk_191 (dk_at dksJ15_rangeCheck_2 12 rfl rfl)
theorem dJ15_rangeCheck_59 : decode cJ15_rangeCheck 59 = .ok (.iload_n 2, 1) := dk_28 (dk_at dksJ15_rangeCheck_2 13 rfl rfl)
theorem dJ15_rangeCheck_60 : decode cJ15_rangeCheck 60 = .ok (.iload_n 0, 1) := dk_26 (dk_at dksJ15_rangeCheck_2 14 rfl rfl)
theorem dJ15_rangeCheck_61 : decode cJ15_rangeCheck 61 = .ok (.if_icmp .le 12, 3) := dk_164 0 12 (dk_at dksJ15_rangeCheck_2 15 rfl rfl)
theorem dJ15_rangeCheck_64 : decode cJ15_rangeCheck 64 = .ok (.new 68, 3) := dk_187 0 68 (dk_at dksJ15_rangeCheck_2 18 rfl rfl)
theorem dJ15_rangeCheck_67 : decode cJ15_rangeCheck 67 = .ok (.dup, 1) := dk_89 (dk_at dksJ15_rangeCheck_2 21 rfl rfl)
theorem dJ15_rangeCheck_68 : decode cJ15_rangeCheck 68 = .ok (.iload_n 2, 1) := dk_28 (dk_at dksJ15_rangeCheck_2 22 rfl rfl)
theorem dJ15_rangeCheck_69 : decode cJ15_rangeCheck 69 = .ok (.invokespecial 70, 3) := dk_183 0 70 (dk_at dksJ15_rangeCheck_3 0 rfl rfl)
theorem dJ15_rangeCheck_72 : decode cJ15_rangeCheck 72 = .ok (.athrow, 1) := dk_191 (dk_at dksJ15_rangeCheck_3 3 rfl rfl)
theorem dJ15_rangeCheck_73 : decode cJ15_rangeCheck 73 = .ok (.return_, 1) := dk_177 (dk_at dksJ15_rangeCheck_3 4 rfl rfl)
abbrev cJ15_copyOfRange_2 : ByteArray := prog_56_method_130_code
def yJ15_copyOfRange_2 : MethodName := ⟨RJ15, "copyOfRange", "([Ljava/lang/Object;IILjava/lang/Class;)[Ljava/lang/Object;"⟩
def dkwJ15_copyOfRange_2_3 : List UInt8 := [58, 5, 42, 27, 25, 5, 3, 42, 190, 27, 100, 21, 4, 184, 1, 48, 184, 0, 150, 25, 5, 176]
abbrev dktJ15_copyOfRange_2_3 : List UInt8 := dkwJ15_copyOfRange_2_3 ++ []
def dkwJ15_copyOfRange_2_2 : List UInt8 := [166, 0, 11, 21, 4, 189, 0, 2, 167, 0, 15, 45, 182, 0, 90, 21, 4, 184, 0, 95, 192, 0, 110]
abbrev dktJ15_copyOfRange_2_2 : List UInt8 := dkwJ15_copyOfRange_2_2 ++ dktJ15_copyOfRange_2_3
def dkwJ15_copyOfRange_2_1 : List UInt8 := [182, 0, 54, 19, 1, 81, 182, 0, 50, 28, 182, 0, 54, 182, 0, 61, 183, 0, 65, 191, 45, 18, 110]
abbrev dktJ15_copyOfRange_2_1 : List UInt8 := dkwJ15_copyOfRange_2_1 ++ dktJ15_copyOfRange_2_2
def dkwJ15_copyOfRange_2_0 : List UInt8 := [28, 27, 100, 54, 4, 21, 4, 156, 0, 35, 187, 0, 43, 89, 187, 0, 45, 89, 183, 0, 47, 27]
abbrev dktJ15_copyOfRange_2_0 : List UInt8 := dkwJ15_copyOfRange_2_0 ++ dktJ15_copyOfRange_2_1
theorem dksJ15_copyOfRange_2_0 : cJ15_copyOfRange_2.data.toList.drop 0 = dktJ15_copyOfRange_2_0 := by decide +kernel
theorem dksJ15_copyOfRange_2_1 : cJ15_copyOfRange_2.data.toList.drop 22 = dktJ15_copyOfRange_2_1 := dk_seg dksJ15_copyOfRange_2_0 22 rfl rfl
theorem dksJ15_copyOfRange_2_2 : cJ15_copyOfRange_2.data.toList.drop 45 = dktJ15_copyOfRange_2_2 := dk_seg dksJ15_copyOfRange_2_1 23 rfl rfl
theorem dksJ15_copyOfRange_2_3 : cJ15_copyOfRange_2.data.toList.drop 68 = dktJ15_copyOfRange_2_3 := dk_seg dksJ15_copyOfRange_2_2 23 rfl rfl
theorem dJ15_copyOfRange_2_0 : decode cJ15_copyOfRange_2 0 = .ok (.iload_n 2, 1) := dk_28 (dk_at dksJ15_copyOfRange_2_0 0 rfl rfl)
theorem dJ15_copyOfRange_2_1 : decode cJ15_copyOfRange_2 1 = .ok (.iload_n 1, 1) := dk_27 (dk_at dksJ15_copyOfRange_2_0 1 rfl rfl)
theorem dJ15_copyOfRange_2_2 : decode cJ15_copyOfRange_2 2 = .ok (.isub, 1) := dk_100 (dk_at dksJ15_copyOfRange_2_0 2 rfl rfl)
theorem dJ15_copyOfRange_2_3 : decode cJ15_copyOfRange_2 3 = .ok (.istore 4, 2) := dk_54 4 (dk_at dksJ15_copyOfRange_2_0 3 rfl rfl)
theorem dJ15_copyOfRange_2_5 : decode cJ15_copyOfRange_2 5 = .ok (.iload 4, 2) := dk_21 4 (dk_at dksJ15_copyOfRange_2_0 5 rfl rfl)
theorem dJ15_copyOfRange_2_7 : decode cJ15_copyOfRange_2 7 = .ok (.ifCond .ge 35, 3) := dk_156 0 35 (dk_at dksJ15_copyOfRange_2_0 7 rfl rfl)
theorem dJ15_copyOfRange_2_10 : decode cJ15_copyOfRange_2 10 = .ok (.new 43, 3) := dk_187 0 43 (dk_at dksJ15_copyOfRange_2_0 10 rfl rfl)
theorem dJ15_copyOfRange_2_13 : decode cJ15_copyOfRange_2 13 = .ok (.dup, 1) := dk_89 (dk_at dksJ15_copyOfRange_2_0 13 rfl rfl)
theorem dJ15_copyOfRange_2_14 : decode cJ15_copyOfRange_2 14 = .ok (.new 45, 3) := dk_187 0 45 (dk_at dksJ15_copyOfRange_2_0 14 rfl rfl)
theorem dJ15_copyOfRange_2_17 : decode cJ15_copyOfRange_2 17 = .ok (.dup, 1) := dk_89 (dk_at dksJ15_copyOfRange_2_0 17 rfl rfl)
theorem dJ15_copyOfRange_2_18 : decode cJ15_copyOfRange_2 18 = .ok (.invokespecial 47, 3) := dk_183 0 47 (dk_at dksJ15_copyOfRange_2_0 18 rfl rfl)
theorem dJ15_copyOfRange_2_21 : decode cJ15_copyOfRange_2 21 = .ok (.iload_n 1, 1) := dk_27 (dk_at dksJ15_copyOfRange_2_0 21 rfl rfl)
theorem dJ15_copyOfRange_2_22 : decode cJ15_copyOfRange_2 22 = .ok (.invokevirtual 54, 3) := dk_182 0 54 (dk_at dksJ15_copyOfRange_2_1 0 rfl rfl)
theorem dJ15_copyOfRange_2_25 : decode cJ15_copyOfRange_2 25 = .ok (.ldc_w 337, 3) := dk_19 1 81 (dk_at dksJ15_copyOfRange_2_1 3 rfl rfl)
theorem dJ15_copyOfRange_2_28 : decode cJ15_copyOfRange_2 28 = .ok (.invokevirtual 50, 3) := dk_182 0 50 (dk_at dksJ15_copyOfRange_2_1 6 rfl rfl)
theorem dJ15_copyOfRange_2_31 : decode cJ15_copyOfRange_2 31 = .ok (.iload_n 2, 1) := dk_28 (dk_at dksJ15_copyOfRange_2_1 9 rfl rfl)
theorem dJ15_copyOfRange_2_32 : decode cJ15_copyOfRange_2 32 = .ok (.invokevirtual 54, 3) := dk_182 0 54 (dk_at dksJ15_copyOfRange_2_1 10 rfl rfl)
theorem dJ15_copyOfRange_2_35 : decode cJ15_copyOfRange_2 35 = .ok (.invokevirtual 61, 3) := dk_182 0 61 (dk_at dksJ15_copyOfRange_2_1 13 rfl rfl)
theorem dJ15_copyOfRange_2_38 : decode cJ15_copyOfRange_2 38 = .ok (.invokespecial 65, 3) := dk_183 0 65 (dk_at dksJ15_copyOfRange_2_1 16 rfl rfl)
theorem dJ15_copyOfRange_2_41 : decode cJ15_copyOfRange_2 41 = .ok (.athrow, 1) := dk_191 (dk_at dksJ15_copyOfRange_2_1 19 rfl rfl)
theorem dJ15_copyOfRange_2_42 : decode cJ15_copyOfRange_2 42 = .ok (.aload_n 3, 1) := dk_45 (dk_at dksJ15_copyOfRange_2_1 20 rfl rfl)
theorem dJ15_copyOfRange_2_43 : decode cJ15_copyOfRange_2 43 = .ok (.ldc 110, 2) := dk_18 110 (dk_at dksJ15_copyOfRange_2_1 21 rfl rfl)
theorem dJ15_copyOfRange_2_45 : decode cJ15_copyOfRange_2 45 = .ok (.if_acmp .ne 11, 3) := dk_166 0 11 (dk_at dksJ15_copyOfRange_2_2 0 rfl rfl)
theorem dJ15_copyOfRange_2_48 : decode cJ15_copyOfRange_2 48 = .ok (.iload 4, 2) := dk_21 4 (dk_at dksJ15_copyOfRange_2_2 3 rfl rfl)
theorem dJ15_copyOfRange_2_50 : decode cJ15_copyOfRange_2 50 = .ok (.anewarray 2, 3) := dk_189 0 2 (dk_at dksJ15_copyOfRange_2_2 5 rfl rfl)
theorem dJ15_copyOfRange_2_53 : decode cJ15_copyOfRange_2 53 = .ok (.goto 15, 3) := dk_167 0 15 (dk_at dksJ15_copyOfRange_2_2 8 rfl rfl)
theorem dJ15_copyOfRange_2_56 : decode cJ15_copyOfRange_2 56 = .ok (.aload_n 3, 1) := dk_45 (dk_at dksJ15_copyOfRange_2_2 11 rfl rfl)
theorem dJ15_copyOfRange_2_57 : decode cJ15_copyOfRange_2 57 = .ok (.invokevirtual 90, 3) := dk_182 0 90 (dk_at dksJ15_copyOfRange_2_2 12 rfl rfl)
theorem dJ15_copyOfRange_2_60 : decode cJ15_copyOfRange_2 60 = .ok (.iload 4, 2) := dk_21 4 (dk_at dksJ15_copyOfRange_2_2 15 rfl rfl)
theorem dJ15_copyOfRange_2_62 : decode cJ15_copyOfRange_2 62 = .ok (.invokestatic 95, 3) := dk_184 0 95 (dk_at dksJ15_copyOfRange_2_2 17 rfl rfl)
theorem dJ15_copyOfRange_2_65 : decode cJ15_copyOfRange_2 65 = .ok (.checkcast 110, 3) := dk_192 0 110 (dk_at dksJ15_copyOfRange_2_2 20 rfl rfl)
theorem dJ15_copyOfRange_2_68 : decode cJ15_copyOfRange_2 68 = .ok (.astore 5, 2) := dk_58 5 (dk_at dksJ15_copyOfRange_2_3 0 rfl rfl)
theorem dJ15_copyOfRange_2_70 : decode cJ15_copyOfRange_2 70 = .ok (.aload_n 0, 1) := dk_42 (dk_at dksJ15_copyOfRange_2_3 2 rfl rfl)
theorem dJ15_copyOfRange_2_71 : decode cJ15_copyOfRange_2 71 = .ok (.iload_n 1, 1) := dk_27 (dk_at dksJ15_copyOfRange_2_3 3 rfl rfl)
theorem dJ15_copyOfRange_2_72 : decode cJ15_copyOfRange_2 72 = .ok (.aload 5, 2) := dk_25 5 (dk_at dksJ15_copyOfRange_2_3 4 rfl rfl)
theorem dJ15_copyOfRange_2_74 : decode cJ15_copyOfRange_2 74 = .ok (.iconst 0, 1) := dk_3 (dk_at dksJ15_copyOfRange_2_3 6 rfl rfl)
theorem dJ15_copyOfRange_2_75 : decode cJ15_copyOfRange_2 75 = .ok (.aload_n 0, 1) := dk_42 (dk_at dksJ15_copyOfRange_2_3 7 rfl rfl)
theorem dJ15_copyOfRange_2_76 : decode cJ15_copyOfRange_2 76 = .ok (.arraylength, 1) := dk_190 (dk_at dksJ15_copyOfRange_2_3 8 rfl rfl)
theorem dJ15_copyOfRange_2_77 : decode cJ15_copyOfRange_2 77 = .ok (.iload_n 1, 1) := dk_27 (dk_at dksJ15_copyOfRange_2_3 9 rfl rfl)
theorem dJ15_copyOfRange_2_78 : decode cJ15_copyOfRange_2 78 = .ok (.isub, 1) := dk_100 (dk_at dksJ15_copyOfRange_2_3 10 rfl rfl)
theorem dJ15_copyOfRange_2_79 : decode cJ15_copyOfRange_2 79 = .ok (.iload 4, 2) := dk_21 4 (dk_at dksJ15_copyOfRange_2_3 11 rfl rfl)
theorem dJ15_copyOfRange_2_81 : decode cJ15_copyOfRange_2 81 = .ok (.invokestatic 304, 3) := dk_184 1 48 (dk_at dksJ15_copyOfRange_2_3 13 rfl rfl)
theorem dJ15_copyOfRange_2_84 : decode cJ15_copyOfRange_2 84 = .ok (.invokestatic 150, 3) := dk_184 0 150 (dk_at dksJ15_copyOfRange_2_3 16 rfl rfl)
theorem dJ15_copyOfRange_2_87 : decode cJ15_copyOfRange_2 87 = .ok (.aload 5, 2) := dk_25 5 (dk_at dksJ15_copyOfRange_2_3 19 rfl rfl)
theorem dJ15_copyOfRange_2_89 : decode cJ15_copyOfRange_2 89 = .ok (.areturn, 1) := dk_176 (dk_at dksJ15_copyOfRange_2_3 21 rfl rfl)
theorem q113 : (Jvm.Cond.initialized "java/util/Arrays") ∈ lw_all := lw_g (lw_at lw_m1 20 rfl) rfl
theorem q704 : (Jvm.Cond.static ({ cls := "java/util/Arrays", name := "copyOf", desc := "([Ljava/lang/Object;I)[Ljava/lang/Object;" } : Jvm.MethodName)) ∈ lw_all := lw_g (lw_at lw_m3 131 rfl) rfl
theorem q705 : (Jvm.Cond.code ({ cls := "java/util/Arrays", name := "copyOf", desc := "([Ljava/lang/Object;I)[Ljava/lang/Object;" } : Jvm.MethodName) prog_56_method_119_code (2 : Nat) (Option.some (Jvm.ClassFile.FieldType.array (Jvm.ClassFile.FieldType.object "java/lang/Object")))) ∈ lw_all := lw_g (lw_at lw_m3 132 rfl) rfl
theorem q706 : (Jvm.Cond.methodLink "java/util/Arrays" (86 : Nat) ({ cls := "java/lang/Object", name := "getClass", desc := "()Ljava/lang/Class;" } : Jvm.MethodName)) ∈ lw_all := lw_g (lw_at lw_m3 133 rfl) rfl
theorem q743 : (Jvm.Cond.methodLink "java/util/Arrays" (300 : Nat) ({ cls := "java/util/Arrays", name := "copyOf", desc := "([Ljava/lang/Object;ILjava/lang/Class;)[Ljava/lang/Object;" } : Jvm.MethodName)) ∈ lw_all := lw_g (lw_at lw_m3 170 rfl) rfl
theorem q744 : (Jvm.Cond.static ({ cls := "java/util/Arrays", name := "copyOf", desc := "([Ljava/lang/Object;ILjava/lang/Class;)[Ljava/lang/Object;" } : Jvm.MethodName)) ∈ lw_all := lw_g (lw_at lw_m3 171 rfl) rfl
theorem q745 : (Jvm.Cond.code ({ cls := "java/util/Arrays", name := "copyOf", desc := "([Ljava/lang/Object;ILjava/lang/Class;)[Ljava/lang/Object;" } : Jvm.MethodName) prog_56_method_120_code (4 : Nat) (Option.some (Jvm.ClassFile.FieldType.array (Jvm.ClassFile.FieldType.object "java/lang/Object")))) ∈ lw_all := lw_g (lw_at lw_m3 172 rfl) rfl
theorem q746 : (Jvm.Cond.classLink "java/util/Arrays" (110 : Nat) "[Ljava/lang/Object;") ∈ lw_all := lw_g (lw_at lw_m3 173 rfl) rfl
theorem q747 : (Jvm.Cond.classLink "java/util/Arrays" (2 : Nat) "java/lang/Object") ∈ lw_all := lw_g (lw_at lw_m3 174 rfl) rfl
theorem q748 : (Jvm.Cond.methodLink "java/util/Arrays" (304 : Nat) ({ cls := "java/lang/Math", name := "min", desc := "(II)I" } : Jvm.MethodName)) ∈ lw_all := lw_g (lw_at lw_m3 175 rfl) rfl
theorem q751 : (Jvm.Cond.methodLink "java/util/Arrays" (150 : Nat) ({ cls := "java/lang/System", name := "arraycopy", desc := "(Ljava/lang/Object;ILjava/lang/Object;II)V" } : Jvm.MethodName)) ∈ lw_all := lw_g (lw_at lw_m3 178 rfl) rfl
theorem q1375 : (Jvm.Cond.static ({ cls := "java/util/Arrays", name := "copyOf", desc := "([BI)[B" } : Jvm.MethodName)) ∈ lw_all := lw_g (lw_at lw_m6 82 rfl) rfl
theorem q1376 : (Jvm.Cond.code ({ cls := "java/util/Arrays", name := "copyOf", desc := "([BI)[B" } : Jvm.MethodName) prog_56_method_121_code (3 : Nat) (Option.some (Jvm.ClassFile.FieldType.array Jvm.ClassFile.FieldType.byte))) ∈ lw_all := lw_g (lw_at lw_m6 83 rfl) rfl
theorem q1377 : (Jvm.Cond.methodLink "java/util/Arrays" (310 : Nat) ({ cls := "[B", name := "clone", desc := "()Ljava/lang/Object;" } : Jvm.MethodName)) ∈ lw_all := lw_g (lw_at lw_m6 84 rfl) rfl
theorem q1383 : (Jvm.Cond.classLink "java/util/Arrays" (311 : Nat) "[B") ∈ lw_all := lw_g (lw_at lw_m6 90 rfl) rfl
theorem q1487 : (Jvm.Cond.static ({ cls := "java/util/Arrays", name := "copyOfRange", desc := "([BII)[B" } : Jvm.MethodName)) ∈ lw_all := lw_g (lw_at lw_m6 194 rfl) rfl
theorem q1488 : (Jvm.Cond.code ({ cls := "java/util/Arrays", name := "copyOfRange", desc := "([BII)[B" } : Jvm.MethodName) prog_56_method_132_code (3 : Nat) (Option.some (Jvm.ClassFile.FieldType.array Jvm.ClassFile.FieldType.byte))) ∈ lw_all := lw_g (lw_at lw_m6 195 rfl) rfl
theorem q1489 : (Jvm.Cond.methodLink "java/util/Arrays" (339 : Nat) ({ cls := "java/util/Arrays", name := "copyOfRangeByte", desc := "([BII)[B" } : Jvm.MethodName)) ∈ lw_all := lw_g (lw_at lw_m6 196 rfl) rfl
theorem q1490 : (Jvm.Cond.static ({ cls := "java/util/Arrays", name := "copyOfRangeByte", desc := "([BII)[B" } : Jvm.MethodName)) ∈ lw_all := lw_g (lw_at lw_m6 197 rfl) rfl
theorem q1491 : (Jvm.Cond.code ({ cls := "java/util/Arrays", name := "copyOfRangeByte", desc := "([BII)[B" } : Jvm.MethodName) prog_56_method_133_code (5 : Nat) (Option.some (Jvm.ClassFile.FieldType.array Jvm.ClassFile.FieldType.byte))) ∈ lw_all := lw_g (lw_at lw_m6 198 rfl) rfl
theorem q1492 : (Jvm.Cond.methodLink "java/util/Arrays" (343 : Nat) ({ cls := "java/util/Arrays", name := "checkLength", desc := "(II)V" } : Jvm.MethodName)) ∈ lw_all := lw_g (lw_at lw_m6 199 rfl) rfl
theorem q1493 : (Jvm.Cond.static ({ cls := "java/util/Arrays", name := "checkLength", desc := "(II)V" } : Jvm.MethodName)) ∈ lw_all := lw_g (lw_at lw_m6 200 rfl) rfl
theorem q1494 : (Jvm.Cond.code ({ cls := "java/util/Arrays", name := "checkLength", desc := "(II)V" } : Jvm.MethodName) prog_56_method_131_code (2 : Nat) (Option.none : Option Jvm.ClassFile.FieldType)) ∈ lw_all := lw_g (lw_at lw_m6 201 rfl) rfl
theorem q1495 : (Jvm.Cond.classLink "java/util/Arrays" (43 : Nat) "java/lang/IllegalArgumentException") ∈ lw_all := lw_g (lw_at lw_m6 202 rfl) rfl
theorem q1496 : (Jvm.Cond.classLink "java/util/Arrays" (45 : Nat) "java/lang/StringBuilder") ∈ lw_all := lw_g (lw_at lw_m6 203 rfl) rfl
theorem q1497 : (Jvm.Cond.methodLink "java/util/Arrays" (47 : Nat) ({ cls := "java/lang/StringBuilder", name := "<init>", desc := "()V" } : Jvm.MethodName)) ∈ lw_all := lw_g (lw_at lw_m6 204 rfl) rfl
theorem q1498 : (Jvm.Cond.methodLink "java/util/Arrays" (54 : Nat) ({ cls := "java/lang/StringBuilder", name := "append", desc := "(I)Ljava/lang/StringBuilder;" } : Jvm.MethodName)) ∈ lw_all := lw_g (lw_at lw_m6 205 rfl) rfl
theorem q1499 : (Jvm.Cond.stringRef "java/util/Arrays" (337 : Nat) " > ") ∈ lw_tbl := lw_at lw_m6 206 rfl
theorem q1500 : (Jvm.Cond.methodLink "java/util/Arrays" (50 : Nat) ({ cls := "java/lang/StringBuilder", name := "append", desc := "(Ljava/lang/String;)Ljava/lang/StringBuilder;" } : Jvm.MethodName)) ∈ lw_all := lw_g (lw_at lw_m6 207 rfl) rfl
theorem q1501 : (Jvm.Cond.methodLink "java/util/Arrays" (61 : Nat) ({ cls := "java/lang/StringBuilder", name := "toString", desc := "()Ljava/lang/String;" } : Jvm.MethodName)) ∈ lw_all := lw_g (lw_at lw_m6 208 rfl) rfl
theorem q1502 : (Jvm.Cond.methodLink "java/util/Arrays" (65 : Nat) ({ cls := "java/lang/IllegalArgumentException", name := "<init>", desc := "(Ljava/lang/String;)V" } : Jvm.MethodName)) ∈ lw_all := lw_g (lw_at lw_m6 209 rfl) rfl
theorem q1550 : (Jvm.Cond.static ({ cls := "java/util/Arrays", name := "fill", desc := "([BIIB)V" } : Jvm.MethodName)) ∈ lw_all := lw_g (lw_at lw_m7 17 rfl) rfl
theorem q1551 : (Jvm.Cond.code ({ cls := "java/util/Arrays", name := "fill", desc := "([BIIB)V" } : Jvm.MethodName) prog_56_method_110_code (5 : Nat) (Option.none : Option Jvm.ClassFile.FieldType)) ∈ lw_all := lw_g (lw_at lw_m7 18 rfl) rfl
theorem q1552 : (Jvm.Cond.methodLink "java/util/Arrays" (13 : Nat) ({ cls := "java/util/Arrays", name := "rangeCheck", desc := "(III)V" } : Jvm.MethodName)) ∈ lw_all := lw_g (lw_at lw_m7 19 rfl) rfl
theorem q1553 : (Jvm.Cond.static ({ cls := "java/util/Arrays", name := "rangeCheck", desc := "(III)V" } : Jvm.MethodName)) ∈ lw_all := lw_g (lw_at lw_m7 20 rfl) rfl
theorem q1554 : (Jvm.Cond.code ({ cls := "java/util/Arrays", name := "rangeCheck", desc := "(III)V" } : Jvm.MethodName) prog_56_method_30_code (3 : Nat) (Option.none : Option Jvm.ClassFile.FieldType)) ∈ lw_all := lw_g (lw_at lw_m7 21 rfl) rfl
theorem q1555 : (Jvm.Cond.stringRef "java/util/Arrays" (48 : Nat) "fromIndex(") ∈ lw_tbl := lw_at lw_m7 22 rfl
theorem q1556 : (Jvm.Cond.stringRef "java/util/Arrays" (57 : Nat) ") > toIndex(") ∈ lw_tbl := lw_at lw_m7 23 rfl
theorem q1557 : (Jvm.Cond.stringRef "java/util/Arrays" (59 : Nat) ")") ∈ lw_tbl := lw_at lw_m7 24 rfl
theorem q1558 : (Jvm.Cond.classLink "java/util/Arrays" (68 : Nat) "java/lang/ArrayIndexOutOfBoundsException") ∈ lw_all := lw_g (lw_at lw_m7 25 rfl) rfl
theorem q1569 : (Jvm.Cond.methodLink "java/util/Arrays" (70 : Nat) ({ cls := "java/lang/ArrayIndexOutOfBoundsException", name := "<init>", desc := "(I)V" } : Jvm.MethodName)) ∈ lw_all := lw_g (lw_at lw_m7 36 rfl) rfl
theorem q1726 : (Jvm.Cond.static ({ cls := "java/util/Arrays", name := "copyOfRange", desc := "([Ljava/lang/Object;IILjava/lang/Class;)[Ljava/lang/Object;" } : Jvm.MethodName)) ∈ lw_all := lw_g (lw_at lw_m7 193 rfl) rfl
theorem q1727 : (Jvm.Cond.code ({ cls := "java/util/Arrays", name := "copyOfRange", desc := "([Ljava/lang/Object;IILjava/lang/Class;)[Ljava/lang/Object;" } : Jvm.MethodName) prog_56_method_130_code (6 : Nat) (Option.some (Jvm.ClassFile.FieldType.array (Jvm.ClassFile.FieldType.object "java/lang/Object")))) ∈ lw_all := lw_g (lw_at lw_m7 194 rfl) rfl
/-! java/util/ArrayList$Itr -/
set_option maxRecDepth 100000
def RJ16 : String := "java/util/ArrayList$Itr"
def TJ16 : u_T := fun k => match k with
  | 0 => ("java/util/ArrayList$Itr", "cursor", "I", false)
  | 1 => ("java/util/ArrayList$Itr", "lastRet", "I", false)
  | 2 => ("java/util/ArrayList$Itr", "expectedModCount", "I", false)
  | _ => ("java/util/ArrayList$Itr", "this$0", "Ljava/util/ArrayList;", true)
def tyJ16 : Nat → FieldType := fun k => match k with
  | 0 => .int
  | 1 => .int
  | 2 => .int
  | _ => .object "java/util/ArrayList"
abbrev wsJ160 : List Cond := u_ws RJ16 TJ16 4
theorem nmJ16 : ∀ a, a < 4 → ∀ b, b < 4 → a ≠ b → (TJ16 a).2.1 ≠ (TJ16 b).2.1 := by decide +kernel
theorem tyJ16_ok : ∀ k, k < 4 → parseFieldDescriptor (TJ16 k).2.2.1 = some (tyJ16 k) := by decide +kernel
abbrev cJ16_init : ByteArray := prog_55_method_1_code
def yJ16_init : MethodName := ⟨RJ16, "<init>", "(Ljava/util/ArrayList;)V"⟩
def dkwJ16_init_1 : List UInt8 := [181, 0, 22, 177]
abbrev dktJ16_init_1 : List UInt8 := dkwJ16_init_1 ++ []
def dkwJ16_init_0 : List UInt8 := [42, 43, 181, 0, 1, 42, 183, 0, 7, 42, 2, 181, 0, 13, 42, 42, 180, 0, 1, 180, 0, 17]
abbrev dktJ16_init_0 : List UInt8 := dkwJ16_init_0 ++ dktJ16_init_1
theorem dksJ16_init_0 : cJ16_init.data.toList.drop 0 = dktJ16_init_0 := by decide +kernel
theorem dksJ16_init_1 : cJ16_init.data.toList.drop 22 = dktJ16_init_1 := dk_seg dksJ16_init_0 22 rfl rfl
theorem dJ16_init_0 : decode cJ16_init 0 = .ok (.aload_n 0, 1) := dk_42 (dk_at dksJ16_init_0 0 rfl rfl)
theorem dJ16_init_1 : decode cJ16_init 1 = .ok (.aload_n 1, 1) := dk_43 (dk_at dksJ16_init_0 1 rfl rfl)
theorem dJ16_init_2 : decode cJ16_init 2 = .ok (.putfield 1, 3) := dk_181 0 1 (dk_at dksJ16_init_0 2 rfl rfl)
theorem dJ16_init_5 : decode cJ16_init 5 = .ok (.aload_n 0, 1) := dk_42 (dk_at dksJ16_init_0 5 rfl rfl)
theorem dJ16_init_6 : decode cJ16_init 6 = .ok (.invokespecial 7, 3) := dk_183 0 7 (dk_at dksJ16_init_0 6 rfl rfl)
theorem dJ16_init_9 : decode cJ16_init 9 = .ok (.aload_n 0, 1) := dk_42 (dk_at dksJ16_init_0 9 rfl rfl)
theorem dJ16_init_10 : decode cJ16_init 10 = .ok (.iconst (-1), 1) := dk_2 (dk_at dksJ16_init_0 10 rfl rfl)
theorem dJ16_init_11 : decode cJ16_init 11 = .ok (.putfield 13, 3) := dk_181 0 13 (dk_at dksJ16_init_0 11 rfl rfl)
theorem dJ16_init_14 : decode cJ16_init 14 = .ok (.aload_n 0, 1) := dk_42 (dk_at dksJ16_init_0 14 rfl rfl)
theorem dJ16_init_15 : decode cJ16_init 15 = .ok (.aload_n 0, 1) := dk_42 (dk_at dksJ16_init_0 15 rfl rfl)
theorem dJ16_init_16 : decode cJ16_init 16 = .ok (.getfield 1, 3) := dk_180 0 1 (dk_at dksJ16_init_0 16 rfl rfl)
theorem dJ16_init_19 : decode cJ16_init 19 = .ok (.getfield 17, 3) := dk_180 0 17 (dk_at dksJ16_init_0 19 rfl rfl)
theorem dJ16_init_22 : decode cJ16_init 22 = .ok (.putfield 22, 3) := dk_181 0 22 (dk_at dksJ16_init_1 0 rfl rfl)
theorem dJ16_init_25 : decode cJ16_init 25 = .ok (.return_, 1) := dk_177 (dk_at dksJ16_init_1 3 rfl rfl)
abbrev cJ16_hasNext : ByteArray := prog_55_method_2_code
def yJ16_hasNext : MethodName := ⟨RJ16, "hasNext", "()Z"⟩
def dkwJ16_hasNext_0 : List UInt8 := [42, 180, 0, 25, 42, 180, 0, 1, 180, 0, 28, 159, 0, 7, 4, 167, 0, 4, 3, 172]
abbrev dktJ16_hasNext_0 : List UInt8 := dkwJ16_hasNext_0 ++ []
theorem dksJ16_hasNext_0 : cJ16_hasNext.data.toList.drop 0 = dktJ16_hasNext_0 := by decide +kernel
theorem dJ16_hasNext_0 : decode cJ16_hasNext 0 = .ok (.aload_n 0, 1) := dk_42 (dk_at dksJ16_hasNext_0 0 rfl rfl)
theorem dJ16_hasNext_1 : decode cJ16_hasNext 1 = .ok (.getfield 25, 3) := dk_180 0 25 (dk_at dksJ16_hasNext_0 1 rfl rfl)
theorem dJ16_hasNext_4 : decode cJ16_hasNext 4 = .ok (.aload_n 0, 1) := dk_42 (dk_at dksJ16_hasNext_0 4 rfl rfl)
theorem dJ16_hasNext_5 : decode cJ16_hasNext 5 = .ok (.getfield 1, 3) := dk_180 0 1 (dk_at dksJ16_hasNext_0 5 rfl rfl)
theorem dJ16_hasNext_8 : decode cJ16_hasNext 8 = .ok (.getfield 28, 3) := dk_180 0 28 (dk_at dksJ16_hasNext_0 8 rfl rfl)
theorem dJ16_hasNext_11 : decode cJ16_hasNext 11 = .ok (.if_icmp .eq 7, 3) := dk_159 0 7 (dk_at dksJ16_hasNext_0 11 rfl rfl)
theorem dJ16_hasNext_14 : decode cJ16_hasNext 14 = .ok (.iconst 1, 1) := dk_4 (dk_at dksJ16_hasNext_0 14 rfl rfl)
theorem dJ16_hasNext_15 : decode cJ16_hasNext 15 = .ok (.goto 4, 3) := dk_167 0 4 (dk_at dksJ16_hasNext_0 15 rfl rfl)
theorem dJ16_hasNext_18 : decode cJ16_hasNext 18 = .ok (.iconst 0, 1) := dk_3 (dk_at dksJ16_hasNext_0 18 rfl rfl)
theorem dJ16_hasNext_19 : decode cJ16_hasNext 19 = .ok (.ireturn, 1) := dk_172 (dk_at dksJ16_hasNext_0 19 rfl rfl)
abbrev cJ16_next : ByteArray := prog_55_method_3_code
def yJ16_next : MethodName := ⟨RJ16, "next", "()Ljava/lang/Object;"⟩
def dkwJ16_next_2 : List UInt8 := [183, 0, 43, 191, 42, 27, 4, 96, 181, 0, 25, 44, 42, 27, 90, 181, 0, 13, 50, 176]
abbrev dktJ16_next_2 : List UInt8 := dkwJ16_next_2 ++ []
def dkwJ16_next_1 : List UInt8 := [183, 0, 36, 191, 42, 180, 0, 1, 180, 0, 37, 77, 27, 44, 190, 161, 0, 11, 187, 0, 41, 89]
abbrev dktJ16_next_1 : List UInt8 := dkwJ16_next_1 ++ dktJ16_next_2
def dkwJ16_next_0 : List UInt8 := [42, 182, 0, 31, 42, 180, 0, 25, 60, 27, 42, 180, 0, 1, 180, 0, 28, 161, 0, 11, 187, 0, 34, 89]
abbrev dktJ16_next_0 : List UInt8 := dkwJ16_next_0 ++ dktJ16_next_1
theorem dksJ16_next_0 : cJ16_next.data.toList.drop 0 = dktJ16_next_0 := by decide +kernel
theorem dksJ16_next_1 : cJ16_next.data.toList.drop 24 = dktJ16_next_1 := dk_seg dksJ16_next_0 24 rfl rfl
theorem dksJ16_next_2 : cJ16_next.data.toList.drop 46 = dktJ16_next_2 := dk_seg dksJ16_next_1 22 rfl rfl
theorem dJ16_next_0 : decode cJ16_next 0 = .ok (.aload_n 0, 1) := dk_42 (dk_at dksJ16_next_0 0 rfl rfl)
theorem dJ16_next_1 : decode cJ16_next 1 = .ok (.invokevirtual 31, 3) := dk_182 0 31 (dk_at dksJ16_next_0 1 rfl rfl)
theorem dJ16_next_4 : decode cJ16_next 4 = .ok (.aload_n 0, 1) := dk_42 (dk_at dksJ16_next_0 4 rfl rfl)
theorem dJ16_next_5 : decode cJ16_next 5 = .ok (.getfield 25, 3) := dk_180 0 25 (dk_at dksJ16_next_0 5 rfl rfl)
theorem dJ16_next_8 : decode cJ16_next 8 = .ok (.istore_n 1, 1) := dk_60 (dk_at dksJ16_next_0 8 rfl rfl)
theorem dJ16_next_9 : decode cJ16_next 9 = .ok (.iload_n 1, 1) := dk_27 (dk_at dksJ16_next_0 9 rfl rfl)
theorem dJ16_next_10 : decode cJ16_next 10 = .ok (.aload_n 0, 1) := dk_42 (dk_at dksJ16_next_0 10 rfl rfl)
theorem dJ16_next_11 : decode cJ16_next 11 = .ok (.getfield 1, 3) := dk_180 0 1 (dk_at dksJ16_next_0 11 rfl rfl)
theorem dJ16_next_14 : decode cJ16_next 14 = .ok (.getfield 28, 3) := dk_180 0 28 (dk_at dksJ16_next_0 14 rfl rfl)
theorem dJ16_next_17 : decode cJ16_next 17 = .ok (.if_icmp .lt 11, 3) := dk_161 0 11 (dk_at dksJ16_next_0 17 rfl rfl)
theorem dJ16_next_20 : decode cJ16_next 20 = .ok (.new 34, 3) := dk_187 0 34 (dk_at dksJ16_next_0 20 rfl rfl)
theorem dJ16_next_23 : decode cJ16_next 23 = .ok (.dup, 1) := dk_89 (dk_at dksJ16_next_0 23 rfl rfl)
theorem dJ16_next_24 : decode cJ16_next 24 = .ok (.invokespecial 36, 3) := dk_183 0 36 (dk_at dksJ16_next_1 0 rfl rfl)
theorem dJ16_next_27 : decode cJ16_next 27 = .ok (.athrow, 1) := dk_191 (dk_at dksJ16_next_1 3 rfl rfl)
theorem dJ16_next_28 : decode cJ16_next 28 = .ok (.aload_n 0, 1) := dk_42 (dk_at dksJ16_next_1 4 rfl rfl)
theorem dJ16_next_29 : decode cJ16_next 29 = .ok (.getfield 1, 3) := dk_180 0 1 (dk_at dksJ16_next_1 5 rfl rfl)
theorem dJ16_next_32 : decode cJ16_next 32 = .ok (.getfield 37, 3) := dk_180 0 37 (dk_at dksJ16_next_1 8 rfl rfl)
theorem dJ16_next_35 : decode cJ16_next 35 = .ok (.astore_n 2, 1) := dk_77 (dk_at dksJ16_next_1 11 rfl rfl)
theorem dJ16_next_36 : decode cJ16_next 36 = .ok (.iload_n 1, 1) := dk_27 (dk_at dksJ16_next_1 12 rfl rfl)
theorem dJ16_next_37 : decode cJ16_next 37 = .ok (.aload_n 2, 1) := dk_44 (dk_at dksJ16_next_1 13 rfl rfl)
theorem dJ16_next_38 : decode cJ16_next 38 = .ok (.arraylength, 1) := dk_190 (dk_at dksJ16_next_1 14 rfl rfl)
theorem dJ16_next_39 : decode cJ16_next 39 = .ok (.if_icmp .lt 11, 3) := dk_161 0 11 (dk_at dksJ16_next_1 15 rfl rfl)
theorem dJ16_next_42 : decode cJ16_next 42 = .ok (.new 41, 3) := dk_187 0 41 (dk_at dksJ16_next_1 18 rfl rfl)
theorem dJ16_next_45 : decode cJ16_next 45 = .ok (.dup, 1) := dk_89 (dk_at dksJ16_next_1 21 rfl rfl)
theorem dJ16_next_46 : decode cJ16_next 46 = .ok (.invokespecial 43, 3) := dk_183 0 43 (dk_at dksJ16_next_2 0 rfl rfl)
theorem dJ16_next_49 : decode cJ16_next 49 = .ok (.athrow, 1) := dk_191 (dk_at dksJ16_next_2 3 rfl rfl)
theorem dJ16_next_50 : decode cJ16_next 50 = .ok (.aload_n 0, 1) := dk_42 (dk_at dksJ16_next_2 4 rfl rfl)
theorem dJ16_next_51 : decode cJ16_next 51 = .ok (.iload_n 1, 1) := dk_27 (dk_at dksJ16_next_2 5 rfl rfl)
theorem dJ16_next_52 : decode cJ16_next 52 = .ok (.iconst 1, 1) := dk_4 (dk_at dksJ16_next_2 6 rfl rfl)
theorem dJ16_next_53 : decode cJ16_next 53 = .ok (.iadd, 1) := dk_96 (dk_at dksJ16_next_2 7 rfl rfl)
theorem dJ16_next_54 : decode cJ16_next 54 = .ok (.putfield 25, 3) := dk_181 0 25 (dk_at dksJ16_next_2 8 rfl rfl)
theorem dJ16_next_57 : decode cJ16_next 57 = .ok (.aload_n 2, 1) := dk_44 (dk_at dksJ16_next_2 11 rfl rfl)
theorem dJ16_next_58 : decode cJ16_next 58 = .ok (.aload_n 0, 1) := dk_42 (dk_at dksJ16_next_2 12 rfl rfl)
theorem dJ16_next_59 : decode cJ16_next 59 = .ok (.iload_n 1, 1) := dk_27 (dk_at dksJ16_next_2 13 rfl rfl)
theorem dJ16_next_60 : decode cJ16_next 60 = .ok (.dup_x1, 1) := dk_90 (dk_at dksJ16_next_2 14 rfl rfl)
theorem dJ16_next_61 : decode cJ16_next 61 = .ok (.putfield 13, 3) := dk_181 0 13 (dk_at dksJ16_next_2 15 rfl rfl)
theorem dJ16_next_64 : decode cJ16_next 64 = .ok (.aaload, 1) := dk_50 (dk_at dksJ16_next_2 18 rfl rfl)
theorem dJ16_next_65 : decode cJ16_next 65 = .ok (.areturn, 1) := dk_176 (dk_at dksJ16_next_2 19 rfl rfl)
abbrev cJ16_checkForComodification : ByteArray := prog_55_method_6_code
def yJ16_checkForComodification : MethodName := ⟨RJ16, "checkForComodification", "()V"⟩
def dkwJ16_checkForComodification_0 : List UInt8 := [42, 180, 0, 1, 180, 0, 17, 42, 180, 0, 22, 159, 0, 11, 187, 0, 41, 89, 183, 0, 43, 191, 177]
abbrev dktJ16_checkForComodification_0 : List UInt8 := dkwJ16_checkForComodification_0 ++ []
theorem dksJ16_checkForComodification_0 : cJ16_checkForComodification.data.toList.drop 0 = dktJ16_checkForComodification_0 := by decide +kernel
theorem dJ16_checkForComodification_0 : decode cJ16_checkForComodification 0 = .ok (.aload_n 0, 1) := dk_42 (dk_at dksJ16_checkForComodification_0 0 rfl rfl)
theorem dJ16_checkForComodification_1 : decode cJ16_checkForComodification 1 = .ok (.getfield 1, 3) := dk_180 0 1 (dk_at dksJ16_checkForComodification_0 1 rfl rfl)
theorem dJ16_checkForComodification_4 : decode cJ16_checkForComodification 4 = .ok (.getfield 17, 3) := dk_180 0 17 (dk_at dksJ16_checkForComodification_0 4 rfl rfl)
theorem dJ16_checkForComodification_7 : decode cJ16_checkForComodification 7 = .ok (.aload_n 0, 1) := dk_42 (dk_at dksJ16_checkForComodification_0 7 rfl rfl)
theorem dJ16_checkForComodification_8 : decode cJ16_checkForComodification 8 = .ok (.getfield 22, 3) := dk_180 0 22 (dk_at dksJ16_checkForComodification_0 8 rfl rfl)
theorem dJ16_checkForComodification_11 : decode cJ16_checkForComodification 11 = .ok (.if_icmp .eq 11, 3) := dk_159 0 11 (dk_at dksJ16_checkForComodification_0 11 rfl rfl)
theorem dJ16_checkForComodification_14 : decode cJ16_checkForComodification 14 = .ok (.new 41, 3) := dk_187 0 41 (dk_at dksJ16_checkForComodification_0 14 rfl rfl)
theorem dJ16_checkForComodification_17 : decode cJ16_checkForComodification 17 = .ok (.dup, 1) := dk_89 (dk_at dksJ16_checkForComodification_0 17 rfl rfl)
theorem dJ16_checkForComodification_18 : decode cJ16_checkForComodification 18 = .ok (.invokespecial 43, 3) := dk_183 0 43 (dk_at dksJ16_checkForComodification_0 18 rfl rfl)
theorem dJ16_checkForComodification_21 : decode cJ16_checkForComodification 21 = .ok (.athrow, 1) := dk_191 (dk_at dksJ16_checkForComodification_0 21 rfl rfl)
theorem dJ16_checkForComodification_22 : decode cJ16_checkForComodification 22 = .ok (.return_, 1) := dk_177 (dk_at dksJ16_checkForComodification_0 22 rfl rfl)
theorem q115 : (Jvm.Cond.initialized "java/util/ArrayList$Itr") ∈ lw_all := lw_g (lw_at lw_m1 22 rfl) rfl
theorem q180 : (Jvm.Cond.fieldLink "java/util/ArrayList$Itr" (37 : Nat) "java/util/ArrayList" "elementData" "[Ljava/lang/Object;") ∈ lw_all := lw_g (lw_at lw_m1 87 rfl) rfl
theorem q181 : (Jvm.Cond.fieldLinkNest "java/util/ArrayList$Itr" (28 : Nat) "java/util/ArrayList" "size" "I" "java/util/ArrayList") ∈ lw_tbl := lw_at lw_m1 88 rfl
theorem q184 : (Jvm.Cond.fieldLink "java/util/ArrayList$Itr" (17 : Nat) "java/util/ArrayList" "modCount" "I") ∈ lw_all := lw_g (lw_at lw_m1 91 rfl) rfl
theorem q370 : (Jvm.Cond.instantiable "java/util/ArrayList$Itr" (4 : Nat)) ∈ lw_all := lw_g (lw_at lw_m2 37 rfl) rfl
theorem q372 : (Jvm.Cond.instanceMethod ({ cls := "java/util/ArrayList$Itr", name := "<init>", desc := "(Ljava/util/ArrayList;)V" } : Jvm.MethodName)) ∈ lw_all := lw_g (lw_at lw_m2 39 rfl) rfl
theorem q373 : (Jvm.Cond.code ({ cls := "java/util/ArrayList$Itr", name := "<init>", desc := "(Ljava/util/ArrayList;)V" } : Jvm.MethodName) prog_55_method_1_code (2 : Nat) (Option.none : Option Jvm.ClassFile.FieldType)) ∈ lw_all := lw_g (lw_at lw_m2 40 rfl) rfl
theorem q374 : (Jvm.Cond.methodLink "java/util/ArrayList$Itr" (7 : Nat) ({ cls := "java/lang/Object", name := "<init>", desc := "()V" } : Jvm.MethodName)) ∈ lw_all := lw_g (lw_at lw_m2 41 rfl) rfl
theorem q375 : (Jvm.Cond.fieldLink "java/util/ArrayList$Itr" (25 : Nat) "java/util/ArrayList$Itr" "cursor" "I") ∈ lw_all := lw_g (lw_at lw_m2 42 rfl) rfl
theorem q376 : (Jvm.Cond.fieldLink "java/util/ArrayList$Itr" (13 : Nat) "java/util/ArrayList$Itr" "lastRet" "I") ∈ lw_all := lw_g (lw_at lw_m2 43 rfl) rfl
theorem q377 : (Jvm.Cond.fieldLink "java/util/ArrayList$Itr" (22 : Nat) "java/util/ArrayList$Itr" "expectedModCount" "I") ∈ lw_all := lw_g (lw_at lw_m2 44 rfl) rfl
theorem q378 : (Jvm.Cond.fieldLink "java/util/ArrayList$Itr" (1 : Nat) "java/util/ArrayList$Itr" "this$0" "Ljava/util/ArrayList;") ∈ lw_all := lw_g (lw_at lw_m2 45 rfl) rfl
theorem q379 : (Jvm.Cond.lays "java/util/ArrayList$Itr" "java/util/ArrayList$Itr" "cursor" "I") ∈ lw_all := lw_g (lw_at lw_m2 46 rfl) rfl
theorem q380 : (Jvm.Cond.soleField "java/util/ArrayList$Itr" "cursor") ∈ lw_all := lw_g (lw_at lw_m2 47 rfl) rfl
theorem q381 : (Jvm.Cond.lays "java/util/ArrayList$Itr" "java/util/ArrayList$Itr" "lastRet" "I") ∈ lw_all := lw_g (lw_at lw_m2 48 rfl) rfl
theorem q382 : (Jvm.Cond.soleField "java/util/ArrayList$Itr" "lastRet") ∈ lw_all := lw_g (lw_at lw_m2 49 rfl) rfl
theorem q383 : (Jvm.Cond.lays "java/util/ArrayList$Itr" "java/util/ArrayList$Itr" "expectedModCount" "I") ∈ lw_all := lw_g (lw_at lw_m2 50 rfl) rfl
theorem q384 : (Jvm.Cond.soleField "java/util/ArrayList$Itr" "expectedModCount") ∈ lw_all := lw_g (lw_at lw_m2 51 rfl) rfl
theorem q385 : (Jvm.Cond.laysFinal "java/util/ArrayList$Itr" "java/util/ArrayList$Itr" "this$0" "Ljava/util/ArrayList;") ∈ lw_all := lw_g (lw_at lw_m2 52 rfl) rfl
theorem q386 : (Jvm.Cond.soleField "java/util/ArrayList$Itr" "this$0") ∈ lw_all := lw_g (lw_at lw_m2 53 rfl) rfl
theorem q387 : (Jvm.Cond.superclass "java/util/ArrayList$Itr" "java/lang/Object") ∈ lw_all := lw_g (lw_at lw_m2 54 rfl) rfl
theorem q398 : (Jvm.Cond.castable "java/util/ArrayList$Itr" "java/util/Iterator") ∈ lw_tbl := lw_at lw_m2 65 rfl
theorem q399 : (Jvm.Cond.selects "java/util/ArrayList$Itr" ({ cls := "java/util/Iterator", name := "hasNext", desc := "()Z" } : Jvm.MethodName) ({ cls := "java/util/ArrayList$Itr", name := "hasNext", desc := "()Z" } : Jvm.MethodName)) ∈ lw_all := lw_g (lw_at lw_m2 66 rfl) rfl
theorem q400 : (Jvm.Cond.unhidden "java/util/ArrayList$Itr" "hasNext" "()Z") ∈ lw_tbl := lw_at lw_m2 67 rfl
theorem q401 : (Jvm.Cond.instanceMethod ({ cls := "java/util/ArrayList$Itr", name := "hasNext", desc := "()Z" } : Jvm.MethodName)) ∈ lw_all := lw_g (lw_at lw_m2 68 rfl) rfl
theorem q402 : (Jvm.Cond.publicMethod ({ cls := "java/util/ArrayList$Itr", name := "hasNext", desc := "()Z" } : Jvm.MethodName)) ∈ lw_tbl := lw_at lw_m2 69 rfl
theorem q403 : (Jvm.Cond.code ({ cls := "java/util/ArrayList$Itr", name := "hasNext", desc := "()Z" } : Jvm.MethodName) prog_55_method_2_code (1 : Nat) (Option.some Jvm.ClassFile.FieldType.boolean)) ∈ lw_all := lw_g (lw_at lw_m2 70 rfl) rfl
theorem q505 : (Jvm.Cond.selects "java/util/ArrayList$Itr" ({ cls := "java/util/Iterator", name := "next", desc := "()Ljava/lang/Object;" } : Jvm.MethodName) ({ cls := "java/util/ArrayList$Itr", name := "next", desc := "()Ljava/lang/Object;" } : Jvm.MethodName)) ∈ lw_all := lw_g (lw_at lw_m2 172 rfl) rfl
theorem q506 : (Jvm.Cond.unhidden "java/util/ArrayList$Itr" "next" "()Ljava/lang/Object;") ∈ lw_tbl := lw_at lw_m2 173 rfl
theorem q507 : (Jvm.Cond.instanceMethod ({ cls := "java/util/ArrayList$Itr", name := "next", desc := "()Ljava/lang/Object;" } : Jvm.MethodName)) ∈ lw_all := lw_g (lw_at lw_m2 174 rfl) rfl
theorem q508 : (Jvm.Cond.publicMethod ({ cls := "java/util/ArrayList$Itr", name := "next", desc := "()Ljava/lang/Object;" } : Jvm.MethodName)) ∈ lw_tbl := lw_at lw_m2 175 rfl
theorem q509 : (Jvm.Cond.code ({ cls := "java/util/ArrayList$Itr", name := "next", desc := "()Ljava/lang/Object;" } : Jvm.MethodName) prog_55_method_3_code (3 : Nat) (Option.some (Jvm.ClassFile.FieldType.object "java/lang/Object"))) ∈ lw_all := lw_g (lw_at lw_m2 176 rfl) rfl
theorem q510 : (Jvm.Cond.methodLink "java/util/ArrayList$Itr" (31 : Nat) ({ cls := "java/util/ArrayList$Itr", name := "checkForComodification", desc := "()V" } : Jvm.MethodName)) ∈ lw_all := lw_g (lw_at lw_m2 177 rfl) rfl
theorem q511 : (Jvm.Cond.instanceMethod ({ cls := "java/util/ArrayList$Itr", name := "checkForComodification", desc := "()V" } : Jvm.MethodName)) ∈ lw_all := lw_g (lw_at lw_m2 178 rfl) rfl
theorem q512 : (Jvm.Cond.selects "java/util/ArrayList$Itr" ({ cls := "java/util/ArrayList$Itr", name := "checkForComodification", desc := "()V" } : Jvm.MethodName) ({ cls := "java/util/ArrayList$Itr", name := "checkForComodification", desc := "()V" } : Jvm.MethodName)) ∈ lw_all := lw_g (lw_at lw_m2 179 rfl) rfl
theorem q513 : (Jvm.Cond.code ({ cls := "java/util/ArrayList$Itr", name := "checkForComodification", desc := "()V" } : Jvm.MethodName) prog_55_method_6_code (1 : Nat) (Option.none : Option Jvm.ClassFile.FieldType)) ∈ lw_all := lw_g (lw_at lw_m2 180 rfl) rfl
theorem q514 : (Jvm.Cond.classLink "java/util/ArrayList$Itr" (34 : Nat) "java/util/NoSuchElementException") ∈ lw_all := lw_g (lw_at lw_m2 181 rfl) rfl
theorem q515 : (Jvm.Cond.methodLink "java/util/ArrayList$Itr" (36 : Nat) ({ cls := "java/util/NoSuchElementException", name := "<init>", desc := "()V" } : Jvm.MethodName)) ∈ lw_all := lw_g (lw_at lw_m2 182 rfl) rfl
theorem q733 : (Jvm.Cond.selects "java/util/ArrayList$Itr" ({ cls := "java/lang/Object", name := "getClass", desc := "()Ljava/lang/Class;" } : Jvm.MethodName) ({ cls := "java/lang/Object", name := "getClass", desc := "()Ljava/lang/Class;" } : Jvm.MethodName)) ∈ lw_all := lw_g (lw_at lw_m3 160 rfl) rfl
theorem q3230 : (Jvm.Cond.castable "java/util/ArrayList$Itr" "java/lang/Object") ∈ lw_tbl := lw_at lw_m14 17 rfl
theorem in_J16 : ∀ w ∈ wsJ160, w ∈ lw_all := lw_in wsJ160 [379, 381, 383, 385] (by decide +kernel) (by decide +kernel)
/-! java/util/NoSuchElementException -/
set_option maxRecDepth 100000
def RJ17 : String := "java/util/NoSuchElementException"
def TJ17 : u_T := fun k => match k with
  | 0 => ("java/lang/Throwable", "cause", "Ljava/lang/Throwable;", false)
  | 1 => ("java/lang/Throwable", "stackTrace", "[Ljava/lang/StackTraceElement;", false)
  | 2 => ("java/lang/Throwable", "suppressedExceptions", "Ljava/util/List;", false)
  | 3 => ("java/lang/Throwable", "detailMessage", "Ljava/lang/String;", false)
  | 4 => ("java/lang/Throwable", "backtrace", "Ljava/lang/Object;", false)
  | _ => ("java/lang/Throwable", "depth", "I", false)
def tyJ17 : Nat → FieldType := fun k => match k with
  | 0 => .object "java/lang/Throwable"
  | 1 => .array (.object "java/lang/StackTraceElement")
  | 2 => .object "java/util/List"
  | 3 => .object "java/lang/String"
  | 4 => .object "java/lang/Object"
  | _ => .int
abbrev wsJ170 : List Cond := u_ws RJ17 TJ17 6
theorem nmJ17 : ∀ a, a < 6 → ∀ b, b < 6 → a ≠ b → (TJ17 a).2.1 ≠ (TJ17 b).2.1 := by decide +kernel
theorem tyJ17_ok : ∀ k, k < 6 → parseFieldDescriptor (TJ17 k).2.2.1 = some (tyJ17 k) := by decide +kernel
abbrev cJ17_init : ByteArray := prog_65_method_1_code
def yJ17_init : MethodName := ⟨RJ17, "<init>", "()V"⟩
theorem dJ17_init_0 : decode cJ17_init 0 = .ok (.aload_n 0, 1) := by decide +kernel
theorem dJ17_init_1 : decode cJ17_init 1 = .ok (.invokespecial 1, 3) := by decide +kernel
theorem dJ17_init_4 : decode cJ17_init 4 = .ok (.return_, 1) := by decide +kernel
theorem q116 : (Jvm.Cond.initialized "java/util/NoSuchElementException") ∈ lw_all := lw_g (lw_at lw_m1 23 rfl) rfl
theorem q430 : (Jvm.Cond.instantiable "java/util/NoSuchElementException" (6 : Nat)) ∈ lw_all := lw_g (lw_at lw_m2 97 rfl) rfl
theorem q431 : (Jvm.Cond.castable "java/util/NoSuchElementException" "java/util/NoSuchElementException") ∈ lw_tbl := lw_at lw_m2 98 rfl
theorem q438 : (Jvm.Cond.selects "java/util/NoSuchElementException" ({ cls := "java/lang/Throwable", name := "fillInStackTrace", desc := "(I)Ljava/lang/Throwable;" } : Jvm.MethodName) ({ cls := "java/lang/Throwable", name := "fillInStackTrace", desc := "(I)Ljava/lang/Throwable;" } : Jvm.MethodName)) ∈ lw_all := lw_g (lw_at lw_m2 105 rfl) rfl
theorem q439 : (Jvm.Cond.selects "java/util/NoSuchElementException" ({ cls := "java/lang/Throwable", name := "fillInStackTrace", desc := "()Ljava/lang/Throwable;" } : Jvm.MethodName) ({ cls := "java/lang/Throwable", name := "fillInStackTrace", desc := "()Ljava/lang/Throwable;" } : Jvm.MethodName)) ∈ lw_all := lw_g (lw_at lw_m2 106 rfl) rfl
theorem q440 : (Jvm.Cond.lays "java/util/NoSuchElementException" "java/lang/Throwable" "cause" "Ljava/lang/Throwable;") ∈ lw_all := lw_g (lw_at lw_m2 107 rfl) rfl
theorem q442 : (Jvm.Cond.lays "java/util/NoSuchElementException" "java/lang/Throwable" "stackTrace" "[Ljava/lang/StackTraceElement;") ∈ lw_all := lw_g (lw_at lw_m2 109 rfl) rfl
theorem q444 : (Jvm.Cond.lays "java/util/NoSuchElementException" "java/lang/Throwable" "suppressedExceptions" "Ljava/util/List;") ∈ lw_all := lw_g (lw_at lw_m2 111 rfl) rfl
theorem q446 : (Jvm.Cond.lays "java/util/NoSuchElementException" "java/lang/Throwable" "detailMessage" "Ljava/lang/String;") ∈ lw_all := lw_g (lw_at lw_m2 113 rfl) rfl
theorem q448 : (Jvm.Cond.lays "java/util/NoSuchElementException" "java/lang/Throwable" "backtrace" "Ljava/lang/Object;") ∈ lw_all := lw_g (lw_at lw_m2 115 rfl) rfl
theorem q477 : (Jvm.Cond.instanceMethod ({ cls := "java/util/NoSuchElementException", name := "<init>", desc := "()V" } : Jvm.MethodName)) ∈ lw_all := lw_g (lw_at lw_m2 144 rfl) rfl
theorem q478 : (Jvm.Cond.code ({ cls := "java/util/NoSuchElementException", name := "<init>", desc := "()V" } : Jvm.MethodName) prog_65_method_1_code (1 : Nat) (Option.none : Option Jvm.ClassFile.FieldType)) ∈ lw_all := lw_g (lw_at lw_m2 145 rfl) rfl
theorem q479 : (Jvm.Cond.methodLink "java/util/NoSuchElementException" (1 : Nat) ({ cls := "java/lang/RuntimeException", name := "<init>", desc := "()V" } : Jvm.MethodName)) ∈ lw_all := lw_g (lw_at lw_m2 146 rfl) rfl
theorem q495 : (Jvm.Cond.lays "java/util/NoSuchElementException" "java/lang/Throwable" "depth" "I") ∈ lw_all := lw_g (lw_at lw_m2 162 rfl) rfl
theorem q498 : (Jvm.Cond.superclass "java/util/NoSuchElementException" "java/lang/RuntimeException") ∈ lw_all := lw_g (lw_at lw_m2 165 rfl) rfl
theorem q734 : (Jvm.Cond.selects "java/util/NoSuchElementException" ({ cls := "java/lang/Object", name := "getClass", desc := "()Ljava/lang/Class;" } : Jvm.MethodName) ({ cls := "java/lang/Object", name := "getClass", desc := "()Ljava/lang/Class;" } : Jvm.MethodName)) ∈ lw_all := lw_g (lw_at lw_m3 161 rfl) rfl
theorem q3231 : (Jvm.Cond.castable "java/util/NoSuchElementException" "java/lang/Object") ∈ lw_tbl := lw_at lw_m14 18 rfl
theorem in_J17 : ∀ w ∈ wsJ170, w ∈ lw_all := lw_in wsJ170 [440, 442, 444, 446, 448, 495] (by decide +kernel) (by decide +kernel)
/-! java/util/AbstractMap -/
set_option maxRecDepth 100000
def RJ18 : String := "java/util/AbstractMap"
abbrev cJ18_init : ByteArray := prog_49_method_1_code
def yJ18_init : MethodName := ⟨RJ18, "<init>", "()V"⟩
theorem dJ18_init_0 : decode cJ18_init 0 = .ok (.aload_n 0, 1) := by decide +kernel
theorem dJ18_init_1 : decode cJ18_init 1 = .ok (.invokespecial 1, 3) := by decide +kernel
theorem dJ18_init_4 : decode cJ18_init 4 = .ok (.return_, 1) := by decide +kernel
theorem q117 : (Jvm.Cond.initialized "java/util/AbstractMap") ∈ lw_all := lw_g (lw_at lw_m1 24 rfl) rfl
theorem q1067 : (Jvm.Cond.instanceMethod ({ cls := "java/util/AbstractMap", name := "<init>", desc := "()V" } : Jvm.MethodName)) ∈ lw_all := lw_g (lw_at lw_m5 14 rfl) rfl
theorem q1068 : (Jvm.Cond.code ({ cls := "java/util/AbstractMap", name := "<init>", desc := "()V" } : Jvm.MethodName) prog_49_method_1_code (1 : Nat) (Option.none : Option Jvm.ClassFile.FieldType)) ∈ lw_all := lw_g (lw_at lw_m5 15 rfl) rfl
theorem q1069 : (Jvm.Cond.methodLink "java/util/AbstractMap" (1 : Nat) ({ cls := "java/lang/Object", name := "<init>", desc := "()V" } : Jvm.MethodName)) ∈ lw_all := lw_g (lw_at lw_m5 16 rfl) rfl
theorem q1091 : (Jvm.Cond.soleField "java/util/AbstractMap" "keySet") ∈ lw_all := lw_g (lw_at lw_m5 38 rfl) rfl
theorem q1093 : (Jvm.Cond.soleField "java/util/AbstractMap" "values") ∈ lw_all := lw_g (lw_at lw_m5 40 rfl) rfl
/-! java/util/TreeMap -/
set_option maxRecDepth 100000
def RJ19 : String := "java/util/TreeMap"
def TJ19 : u_T := fun k => match k with
  | 0 => ("java/util/AbstractMap", "keySet", "Ljava/util/Set;", false)
  | 1 => ("java/util/AbstractMap", "values", "Ljava/util/Collection;", false)
  | 2 => ("java/util/TreeMap", "comparator", "Ljava/util/Comparator;", true)
  | 3 => ("java/util/TreeMap", "root", "Ljava/util/TreeMap$Entry;", false)
  | 4 => ("java/util/TreeMap", "size", "I", false)
  | 5 => ("java/util/TreeMap", "modCount", "I", false)
  | 6 => ("java/util/TreeMap", "entrySet", "Ljava/util/TreeMap$EntrySet;", false)
  | 7 => ("java/util/TreeMap", "navigableKeySet", "Ljava/util/TreeMap$KeySet;", false)
  | _ => ("java/util/TreeMap", "descendingMap", "Ljava/util/NavigableMap;", false)
def tyJ19 : Nat → FieldType := fun k => match k with
  | 0 => .object "java/util/Set"
  | 1 => .object "java/util/Collection"
  | 2 => .object "java/util/Comparator"
  | 3 => .object "java/util/TreeMap$Entry"
  | 4 => .int
  | 5 => .int
  | 6 => .object "java/util/TreeMap$EntrySet"
  | 7 => .object "java/util/TreeMap$KeySet"
  | _ => .object "java/util/NavigableMap"
abbrev wsJ190 : List Cond := u_ws RJ19 TJ19 9
theorem nmJ19 : ∀ a, a < 9 → ∀ b, b < 9 → a ≠ b → (TJ19 a).2.1 ≠ (TJ19 b).2.1 := by decide +kernel
theorem tyJ19_ok : ∀ k, k < 9 → parseFieldDescriptor (TJ19 k).2.2.1 = some (tyJ19 k) := by decide +kernel
abbrev cJ19_successor : ByteArray := prog_75_method_74_code
def yJ19_successor : MethodName := ⟨RJ19, "successor", "(Ljava/util/TreeMap$Entry;)Ljava/util/TreeMap$Entry;"⟩
def dkwJ19_successor_2 : List UInt8 := [44, 43, 180, 0, 114, 166, 0, 13, 43, 77, 43, 180, 0, 124, 76, 167, 255, 237, 43, 176]
abbrev dktJ19_successor_2 : List UInt8 := dkwJ19_successor_2 ++ []
def dkwJ19_successor_1 : List UInt8 := [198, 0, 11, 43, 180, 0, 111, 76, 167, 255, 244, 43, 176, 42, 180, 0, 124, 76, 42, 77, 43, 198, 0, 21]
abbrev dktJ19_successor_1 : List UInt8 := dkwJ19_successor_1 ++ dktJ19_successor_2
def dkwJ19_successor_0 : List UInt8 := [42, 199, 0, 5, 1, 176, 42, 180, 0, 114, 198, 0, 25, 42, 180, 0, 114, 76, 43, 180, 0, 111]
abbrev dktJ19_successor_0 : List UInt8 := dkwJ19_successor_0 ++ dktJ19_successor_1
theorem dksJ19_successor_0 : cJ19_successor.data.toList.drop 0 = dktJ19_successor_0 := by decide +kernel
theorem dksJ19_successor_1 : cJ19_successor.data.toList.drop 22 = dktJ19_successor_1 := dk_seg dksJ19_successor_0 22 rfl rfl
theorem dksJ19_successor_2 : cJ19_successor.data.toList.drop 46 = dktJ19_successor_2 := dk_seg dksJ19_successor_1 24 rfl rfl
theorem dJ19_successor_0 : decode cJ19_successor 0 = .ok (.aload_n 0, 1) := dk_42 (dk_at dksJ19_successor_0 0 rfl rfl)
theorem dJ19_successor_1 : decode cJ19_successor 1 = .ok (.ifnonnull 5, 3) := dk_199 0 5 (dk_at dksJ19_successor_0 1 rfl rfl)
theorem dJ19_successor_4 : decode cJ19_successor 4 = .ok (.aconst_null, 1) := dk_1 (dk_at dksJ19_successor_0 4 rfl rfl)
theorem dJ19_successor_5 : decode cJ19_successor 5 = .ok (.areturn, 1) := dk_176 (dk_at dksJ19_successor_0 5 rfl rfl)
theorem dJ19_successor_6 : decode cJ19_successor 6 = .ok (.aload_n 0, 1) := dk_42 (dk_at dksJ19_successor_0 6 rfl rfl)
theorem dJ19_successor_7 : decode cJ19_successor 7 = .ok (.getfield 114, 3) := dk_180 0 114 (dk_at dksJ19_successor_0 7 rfl rfl)
theorem dJ19_successor_10 : decode cJ19_successor 10 = .ok (.ifnull 25, 3) := dk_198 0 25 (dk_at dksJ19_successor_0 10 rfl rfl)
theorem dJ19_successor_13 : decode cJ19_successor 13 = .ok (.aload_n 0, 1) := dk_42 (dk_at dksJ19_successor_0 13 rfl rfl)
theorem dJ19_successor_14 : decode cJ19_successor 14 = .ok (.getfield 114, 3) := dk_180 0 114 (dk_at dksJ19_successor_0 14 rfl rfl)
theorem dJ19_successor_17 : decode cJ19_successor 17 = .ok (.astore_n 1, 1) := dk_76 (dk_at dksJ19_successor_0 17 rfl rfl)
theorem dJ19_successor_18 : decode cJ19_successor 18 = .ok (.aload_n 1, 1) := dk_43 (dk_at dksJ19_successor_0 18 rfl rfl)
theorem dJ19_successor_19 : decode cJ19_successor 19 = .ok (.getfield 111, 3) := dk_180 0 111 (dk_at dksJ19_successor_0 19 rfl rfl)
theorem dJ19_successor_22 : decode cJ19_successor 22 = .ok (.ifnull 11, 3) := dk_198 0 11 (dk_at dksJ19_successor_1 0 rfl rfl)
theorem dJ19_successor_25 : decode cJ19_successor 25 = .ok (.aload_n 1, 1) := dk_43 (dk_at dksJ19_successor_1 3 rfl rfl)
theorem dJ19_successor_26 : decode cJ19_successor 26 = .ok (.getfield 111, 3) := dk_180 0 111 (dk_at dksJ19_successor_1 4 rfl rfl)
theorem dJ19_successor_29 : decode cJ19_successor 29 = .ok (.astore_n 1, 1) := dk_76 (dk_at dksJ19_successor_1 7 rfl rfl)
theorem dJ19_successor_30 : decode cJ19_successor 30 = .ok (.goto (-12), 3) := dk_167 255 244 (dk_at dksJ19_successor_1 8 rfl rfl)
theorem dJ19_successor_33 : decode cJ19_successor 33 = .ok (.aload_n 1, 1) := dk_43 (dk_at dksJ19_successor_1 11 rfl rfl)
theorem dJ19_successor_34 : decode cJ19_successor 34 = .ok (.areturn, 1) := dk_176 (dk_at dksJ19_successor_1 12 rfl rfl)
theorem dJ19_successor_35 : decode cJ19_successor 35 = .ok (.aload_n 0, 1) := dk_42 (dk_at dksJ19_successor_1 13 rfl rfl)
theorem dJ19_successor_36 : decode cJ19_successor 36 = .ok (.getfield 124, 3) := dk_180 0 124 (dk_at dksJ19_successor_1 14 rfl rfl)
theorem dJ19_successor_39 : decode cJ19_successor 39 = .ok (.astore_n 1, 1) := dk_76 (dk_at dksJ19_successor_1 17 rfl rfl)
theorem dJ19_successor_40 : decode cJ19_successor 40 = .ok (.aload_n 0, 1) := dk_42 (dk_at dksJ19_successor_1 18 rfl rfl)
theorem dJ19_successor_41 : decode cJ19_successor 41 = .ok (.astore_n 2, 1) := dk_77 (dk_at dksJ19_successor_1 19 rfl rfl)
theorem dJ19_successor_42 : decode cJ19_successor 42 = .ok (.aload_n 1, 1) := dk_43 (dk_at dksJ19_successor_1 20 rfl rfl)
theorem dJ19_successor_43 : decode cJ19_successor 43 = .ok (.ifnull 21, 3) := dk_198 0 21 (dk_at dksJ19_successor_1 21 rfl rfl)
theorem dJ19_successor_46 : decode cJ19_successor 46 = .ok (.aload_n 2, 1) := dk_44 (dk_at dksJ19_successor_2 0 rfl rfl)
theorem dJ19_successor_47 : decode cJ19_successor 47 = .ok (.aload_n 1, 1) := dk_43 (dk_at dksJ19_successor_2 1 rfl rfl)
theorem dJ19_successor_48 : decode cJ19_successor 48 = .ok (.getfield 114, 3) := dk_180 0 114 (dk_at dksJ19_successor_2 2 rfl rfl)
theorem dJ19_successor_51 : decode cJ19_successor 51 = .ok (.if_acmp .ne 13, 3) := dk_166 0 13 (dk_at dksJ19_successor_2 5 rfl rfl)
theorem dJ19_successor_54 : decode cJ19_successor 54 = .ok (.aload_n 1, 1) := dk_43 (dk_at dksJ19_successor_2 8 rfl rfl)
theorem dJ19_successor_55 : decode cJ19_successor 55 = .ok (.astore_n 2, 1) := dk_77 (dk_at dksJ19_successor_2 9 rfl rfl)
theorem dJ19_successor_56 : decode cJ19_successor 56 = .ok (.aload_n 1, 1) := dk_43 (dk_at dksJ19_successor_2 10 rfl rfl)
theorem dJ19_successor_57 : decode cJ19_successor 57 = .ok (.getfield 124, 3) := dk_180 0 124 (dk_at dksJ19_successor_2 11 rfl rfl)
theorem dJ19_successor_60 : decode cJ19_successor 60 = .ok (.astore_n 1, 1) := dk_76 (dk_at dksJ19_successor_2 14 rfl rfl)
theorem dJ19_successor_61 : decode cJ19_successor 61 = .ok (.goto (-19), 3) := dk_167 255 237 (dk_at dksJ19_successor_2 15 rfl rfl)
theorem dJ19_successor_64 : decode cJ19_successor 64 = .ok (.aload_n 1, 1) := dk_43 (dk_at dksJ19_successor_2 18 rfl rfl)
theorem dJ19_successor_65 : decode cJ19_successor 65 = .ok (.areturn, 1) := dk_176 (dk_at dksJ19_successor_2 19 rfl rfl)
abbrev cJ19_size : ByteArray := prog_75_method_5_code
def yJ19_size : MethodName := ⟨RJ19, "size", "()I"⟩
theorem dJ19_size_0 : decode cJ19_size 0 = .ok (.aload_n 0, 1) := by decide +kernel
theorem dJ19_size_1 : decode cJ19_size 1 = .ok (.getfield 7, 3) := by decide +kernel
theorem dJ19_size_4 : decode cJ19_size 4 = .ok (.ireturn, 1) := by decide +kernel
abbrev cJ19_init : ByteArray := prog_75_method_1_code
def yJ19_init : MethodName := ⟨RJ19, "<init>", "()V"⟩
def dkwJ19_init_0 : List UInt8 := [42, 183, 0, 1, 42, 3, 181, 0, 7, 42, 3, 181, 0, 13, 42, 1, 181, 0, 16, 177]
abbrev dktJ19_init_0 : List UInt8 := dkwJ19_init_0 ++ []
theorem dksJ19_init_0 : cJ19_init.data.toList.drop 0 = dktJ19_init_0 := by decide +kernel
theorem dJ19_init_0 : decode cJ19_init 0 = .ok (.aload_n 0, 1) := dk_42 (dk_at dksJ19_init_0 0 rfl rfl)
theorem dJ19_init_1 : decode cJ19_init 1 = .ok (.invokespecial 1, 3) := dk_183 0 1 (dk_at dksJ19_init_0 1 rfl rfl)
theorem dJ19_init_4 : decode cJ19_init 4 = .ok (.aload_n 0, 1) := dk_42 (dk_at dksJ19_init_0 4 rfl rfl)
theorem dJ19_init_5 : decode cJ19_init 5 = .ok (.iconst 0, 1) := dk_3 (dk_at dksJ19_init_0 5 rfl rfl)
theorem dJ19_init_6 : decode cJ19_init 6 = .ok (.putfield 7, 3) := dk_181 0 7 (dk_at dksJ19_init_0 6 rfl rfl)
theorem dJ19_init_9 : decode cJ19_init 9 = .ok (.aload_n 0, 1) := dk_42 (dk_at dksJ19_init_0 9 rfl rfl)
theorem dJ19_init_10 : decode cJ19_init 10 = .ok (.iconst 0, 1) := dk_3 (dk_at dksJ19_init_0 10 rfl rfl)
theorem dJ19_init_11 : decode cJ19_init 11 = .ok (.putfield 13, 3) := dk_181 0 13 (dk_at dksJ19_init_0 11 rfl rfl)
theorem dJ19_init_14 : decode cJ19_init 14 = .ok (.aload_n 0, 1) := dk_42 (dk_at dksJ19_init_0 14 rfl rfl)
theorem dJ19_init_15 : decode cJ19_init 15 = .ok (.aconst_null, 1) := dk_1 (dk_at dksJ19_init_0 15 rfl rfl)
theorem dJ19_init_16 : decode cJ19_init 16 = .ok (.putfield 16, 3) := dk_181 0 16 (dk_at dksJ19_init_0 16 rfl rfl)
theorem dJ19_init_19 : decode cJ19_init 19 = .ok (.return_, 1) := dk_177 (dk_at dksJ19_init_0 19 rfl rfl)
abbrev cJ19_containsKey : ByteArray := prog_75_method_6_code
def yJ19_containsKey : MethodName := ⟨RJ19, "containsKey", "(Ljava/lang/Object;)Z"⟩
def dkwJ19_containsKey_0 : List UInt8 := [42, 43, 182, 0, 50, 198, 0, 7, 4, 167, 0, 4, 3, 172]
abbrev dktJ19_containsKey_0 : List UInt8 := dkwJ19_containsKey_0 ++ []
theorem dksJ19_containsKey_0 : cJ19_containsKey.data.toList.drop 0 = dktJ19_containsKey_0 := by decide +kernel
theorem dJ19_containsKey_0 : decode cJ19_containsKey 0 = .ok (.aload_n 0, 1) := dk_42 (dk_at dksJ19_containsKey_0 0 rfl rfl)
theorem dJ19_containsKey_1 : decode cJ19_containsKey 1 = .ok (.aload_n 1, 1) := dk_43 (dk_at dksJ19_containsKey_0 1 rfl rfl)
theorem dJ19_containsKey_2 : decode cJ19_containsKey 2 = .ok (.invokevirtual 50, 3) := dk_182 0 50 (dk_at dksJ19_containsKey_0 2 rfl rfl)
theorem dJ19_containsKey_5 : decode cJ19_containsKey 5 = .ok (.ifnull 7, 3) := dk_198 0 7 (dk_at dksJ19_containsKey_0 5 rfl rfl)
theorem dJ19_containsKey_8 : decode cJ19_containsKey 8 = .ok (.iconst 1, 1) := dk_4 (dk_at dksJ19_containsKey_0 8 rfl rfl)
theorem dJ19_containsKey_9 : decode cJ19_containsKey 9 = .ok (.goto 4, 3) := dk_167 0 4 (dk_at dksJ19_containsKey_0 9 rfl rfl)
theorem dJ19_containsKey_12 : decode cJ19_containsKey 12 = .ok (.iconst 0, 1) := dk_3 (dk_at dksJ19_containsKey_0 12 rfl rfl)
theorem dJ19_containsKey_13 : decode cJ19_containsKey 13 = .ok (.ireturn, 1) := dk_172 (dk_at dksJ19_containsKey_0 13 rfl rfl)
abbrev cJ19_getEntry : ByteArray := prog_75_method_15_code
def yJ19_getEntry : MethodName := ⟨RJ19, "getEntry", "(Ljava/lang/Object;)Ljava/util/TreeMap$Entry;"⟩
def dkwJ19_getEntry_3 : List UInt8 := [45, 176, 167, 255, 212, 1, 176]
abbrev dktJ19_getEntry_3 : List UInt8 := dkwJ19_getEntry_3 ++ []
def dkwJ19_getEntry_2 : List UInt8 := [156, 0, 11, 45, 180, 0, 111, 78, 167, 0, 18, 21, 4, 158, 0, 11, 45, 180, 0, 114, 78, 167, 0, 5]
abbrev dktJ19_getEntry_2 : List UInt8 := dkwJ19_getEntry_2 ++ dktJ19_getEntry_3
def dkwJ19_getEntry_1 : List UInt8 := [180, 0, 101, 78, 45, 198, 0, 46, 44, 45, 180, 0, 105, 185, 0, 107, 2, 0, 54, 4, 21, 4]
abbrev dktJ19_getEntry_1 : List UInt8 := dkwJ19_getEntry_1 ++ dktJ19_getEntry_2
def dkwJ19_getEntry_0 : List UInt8 := [42, 180, 0, 16, 198, 0, 9, 42, 43, 182, 0, 92, 176, 43, 184, 0, 95, 87, 43, 192, 0, 99, 77, 42]
abbrev dktJ19_getEntry_0 : List UInt8 := dkwJ19_getEntry_0 ++ dktJ19_getEntry_1
theorem dksJ19_getEntry_0 : cJ19_getEntry.data.toList.drop 0 = dktJ19_getEntry_0 := by decide +kernel
theorem dksJ19_getEntry_1 : cJ19_getEntry.data.toList.drop 24 = dktJ19_getEntry_1 := dk_seg dksJ19_getEntry_0 24 rfl rfl
theorem dksJ19_getEntry_2 : cJ19_getEntry.data.toList.drop 46 = dktJ19_getEntry_2 := dk_seg dksJ19_getEntry_1 22 rfl rfl
theorem dksJ19_getEntry_3 : cJ19_getEntry.data.toList.drop 70 = dktJ19_getEntry_3 := dk_seg dksJ19_getEntry_2 24 rfl rfl
theorem dJ19_getEntry_0 : decode cJ19_getEntry 0 = .ok (.aload_n 0, 1) := dk_42 (dk_at dksJ19_getEntry_0 0 rfl rfl)
theorem dJ19_getEntry_1 : decode cJ19_getEntry 1 = .ok (.getfield 16, 3) := dk_180 0 16 (dk_at dksJ19_getEntry_0 1 rfl rfl)
theorem dJ19_getEntry_4 : decode cJ19_getEntry 4 = .ok (.ifnull 9, 3) := dk_198 0 9 (dk_at dksJ19_getEntry_0 4 rfl rfl)
theorem dJ19_getEntry_7 : decode cJ19_getEntry 7 = .ok (.aload_n 0, 1) := dk_42 (dk_at dksJ19_getEntry_0 7 rfl rfl)
theorem dJ19_getEntry_8 : decode cJ19_getEntry 8 = .ok (.aload_n 1, 1) := dk_43 (dk_at dksJ19_getEntry_0 8 rfl rfl)
theorem dJ19_getEntry_9 : decode cJ19_getEntry 9 = .ok (.invokevirtual 92, 3) := dk_182 0 92 (dk_at dksJ19_getEntry_0 9 rfl rfl)
theorem dJ19_getEntry_12 : decode cJ19_getEntry 12 = .ok (.areturn, 1) := dk_176 (dk_at dksJ19_getEntry_0 12 rfl rfl)
theorem dJ19_getEntry_13 : decode cJ19_getEntry 13 = .ok (.aload_n 1, 1) := dk_43 (dk_at dksJ19_getEntry_0 13 rfl rfl)
theorem dJ19_getEntry_14 : decode cJ19_getEntry 14 = .ok (.invokestatic 95, 3) := dk_184 0 95 (dk_at dksJ19_getEntry_0 14 rfl rfl)
theorem dJ19_getEntry_17 : decode cJ19_getEntry 17 = .ok (.pop, 1) := dk_87 (dk_at dksJ19_getEntry_0 17 rfl rfl)
theorem dJ19_getEntry_18 : decode cJ19_getEntry 18 = .ok (.aload_n 1, 1) := dk_43 (dk_at dksJ19_getEntry_0 18 rfl rfl)
theorem dJ19_getEntry_19 : decode cJ19_getEntry 19 = .ok (.checkcast 99, 3) := dk_192 0 99 (dk_at dksJ19_getEntry_0 19 rfl rfl)
theorem dJ19_getEntry_22 : decode cJ19_getEntry 22 = .ok (.astore_n 2, 1) := dk_77 (dk_at dksJ19_getEntry_0 22 rfl rfl)
theorem dJ19_getEntry_23 : decode cJ19_getEntry 23 = .ok (.aload_n 0, 1) := dk_42 (dk_at dksJ19_getEntry_0 23 rfl rfl)
theorem dJ19_getEntry_24 : decode cJ19_getEntry 24 = .ok (.getfield 101, 3) := dk_180 0 101 (dk_at dksJ19_getEntry_1 0 rfl rfl)
theorem dJ19_getEntry_27 : decode cJ19_getEntry 27 = .ok (.astore_n 3, 1) := dk_78 (dk_at dksJ19_getEntry_1 3 rfl rfl)
theorem dJ19_getEntry_28 : decode cJ19_getEntry 28 = .ok (.aload_n 3, 1) := dk_45 (dk_at dksJ19_getEntry_1 4 rfl rfl)
theorem dJ19_getEntry_29 : decode cJ19_getEntry 29 = .ok (.ifnull 46, 3) := dk_198 0 46 (dk_at dksJ19_getEntry_1 5 rfl rfl)
theorem dJ19_getEntry_32 : decode cJ19_getEntry 32 = .ok (.aload_n 2, 1) := dk_44 (dk_at dksJ19_getEntry_1 8 rfl rfl)
theorem dJ19_getEntry_33 : decode cJ19_getEntry 33 = .ok (.aload_n 3, 1) := dk_45 (dk_at dksJ19_getEntry_1 9 rfl rfl)
theorem dJ19_getEntry_34 : decode cJ19_getEntry 34 = .ok (.getfield 105, 3) := dk_180 0 105 (dk_at dksJ19_getEntry_1 10 rfl rfl)
theorem dJ19_getEntry_37 : decode cJ19_getEntry 37 = .ok (.invokeinterface 107 2, 5) := by decide +kernel
theorem dJ19_getEntry_42 : decode cJ19_getEntry 42 = .ok (.istore 4, 2) := dk_54 4 (dk_at dksJ19_getEntry_1 18 rfl rfl)
theorem dJ19_getEntry_44 : decode cJ19_getEntry 44 = .ok (.iload 4, 2) := dk_21 4 (dk_at dksJ19_getEntry_1 20 rfl rfl)
theorem dJ19_getEntry_46 : decode cJ19_getEntry 46 = .ok (.ifCond .ge 11, 3) := dk_156 0 11 (dk_at dksJ19_getEntry_2 0 rfl rfl)
theorem dJ19_getEntry_49 : decode cJ19_getEntry 49 = .ok (.aload_n 3, 1) := dk_45 (dk_at dksJ19_getEntry_2 3 rfl rfl)
theorem dJ19_getEntry_50 : decode cJ19_getEntry 50 = .ok (.getfield 111, 3) := dk_180 0 111 (dk_at dksJ19_getEntry_2 4 rfl rfl)
theorem dJ19_getEntry_53 : decode cJ19_getEntry 53 = .ok (.astore_n 3, 1) := dk_78 (dk_at dksJ19_getEntry_2 7 rfl rfl)
theorem dJ19_getEntry_54 : decode cJ19_getEntry 54 = .ok (.goto 18, 3) := dk_167 0 18 (dk_at dksJ19_getEntry_2 8 rfl rfl)
theorem dJ19_getEntry_57 : decode cJ19_getEntry 57 = .ok (.iload 4, 2) := dk_21 4 (dk_at dksJ19_getEntry_2 11 rfl rfl)
theorem dJ19_getEntry_59 : decode cJ19_getEntry 59 = .ok (.ifCond .le 11, 3) := dk_158 0 11 (dk_at dksJ19_getEntry_2 13 rfl rfl)
theorem dJ19_getEntry_62 : decode cJ19_getEntry 62 = .ok (.aload_n 3, 1) := dk_45 (dk_at dksJ19_getEntry_2 16 rfl rfl)
theorem dJ19_getEntry_63 : decode cJ19_getEntry 63 = .ok (.getfield 114, 3) := dk_180 0 114 (dk_at dksJ19_getEntry_2 17 rfl rfl)
theorem dJ19_getEntry_66 : decode cJ19_getEntry 66 = .ok (.astore_n 3, 1) := dk_78 (dk_at dksJ19_getEntry_2 20 rfl rfl)
theorem dJ19_getEntry_67 : decode cJ19_getEntry 67 = .ok (.goto 5, 3) := dk_167 0 5 (dk_at dksJ19_getEntry_2 21 rfl rfl)
theorem dJ19_getEntry_70 : decode cJ19_getEntry 70 = .ok (.aload_n 3, 1) := dk_45 (dk_at dksJ19_getEntry_3 0 rfl rfl)
theorem dJ19_getEntry_71 : decode cJ19_getEntry 71 = .ok (.areturn, 1) := dk_176 (dk_at dksJ19_getEntry_3 1 rfl rfl)
theorem dJ19_getEntry_72 : decode cJ19_getEntry 72 = .ok (.goto (-44), 3) := dk_167 255 212 (dk_at dksJ19_getEntry_3 2 rfl rfl)
theorem dJ19_getEntry_75 : decode cJ19_getEntry 75 = .ok (.aconst_null, 1) := dk_1 (dk_at dksJ19_getEntry_3 5 rfl rfl)
theorem dJ19_getEntry_76 : decode cJ19_getEntry 76 = .ok (.areturn, 1) := dk_176 (dk_at dksJ19_getEntry_3 6 rfl rfl)
abbrev cJ19_getEntryUsingComparator : ByteArray := prog_75_method_16_code
def yJ19_getEntryUsingComparator : MethodName := ⟨RJ19, "getEntryUsingComparator", "(Ljava/lang/Object;)Ljava/util/TreeMap$Entry;"⟩
def dkwJ19_getEntryUsingComparator_3 : List UInt8 := [1, 176]
abbrev dktJ19_getEntryUsingComparator_3 : List UInt8 := dkwJ19_getEntryUsingComparator_3 ++ []
def dkwJ19_getEntryUsingComparator_2 : List UInt8 := [167, 0, 21, 21, 5, 158, 0, 13, 25, 4, 180, 0, 114, 58, 4, 167, 0, 6, 25, 4, 176, 167, 255, 204]
abbrev dktJ19_getEntryUsingComparator_2 : List UInt8 := dkwJ19_getEntryUsingComparator_2 ++ dktJ19_getEntryUsingComparator_3
def dkwJ19_getEntryUsingComparator_1 : List UInt8 := [25, 4, 180, 0, 105, 185, 0, 117, 3, 0, 54, 5, 21, 5, 156, 0, 13, 25, 4, 180, 0, 111, 58, 4]
abbrev dktJ19_getEntryUsingComparator_1 : List UInt8 := dkwJ19_getEntryUsingComparator_1 ++ dktJ19_getEntryUsingComparator_2
def dkwJ19_getEntryUsingComparator_0 : List UInt8 := [43, 77, 42, 180, 0, 16, 78, 45, 198, 0, 64, 42, 180, 0, 101, 58, 4, 25, 4, 198, 0, 53, 45, 44]
abbrev dktJ19_getEntryUsingComparator_0 : List UInt8 := dkwJ19_getEntryUsingComparator_0 ++ dktJ19_getEntryUsingComparator_1
theorem dksJ19_getEntryUsingComparator_0 : cJ19_getEntryUsingComparator.data.toList.drop 0 = dktJ19_getEntryUsingComparator_0 := by decide +kernel
theorem dksJ19_getEntryUsingComparator_1 : cJ19_getEntryUsingComparator.data.toList.drop 24 = dktJ19_getEntryUsingComparator_1 := dk_seg dksJ19_getEntryUsingComparator_0 24 rfl rfl
theorem dksJ19_getEntryUsingComparator_2 : cJ19_getEntryUsingComparator.data.toList.drop 48 = dktJ19_getEntryUsingComparator_2 := dk_seg dksJ19_getEntryUsingComparator_1 24 rfl rfl
theorem dksJ19_getEntryUsingComparator_3 : cJ19_getEntryUsingComparator.data.toList.drop 72 = dktJ19_getEntryUsingComparator_3 := dk_seg dksJ19_getEntryUsingComparator_2 24 rfl rfl
theorem dJ19_getEntryUsingComparator_0 : decode cJ19_getEntryUsingComparator 0 = .ok (.aload_n 1, 1) := dk_43 (dk_at dksJ19_getEntryUsingComparator_0 0 rfl rfl)
theorem dJ19_getEntryUsingComparator_1 : decode cJ19_getEntryUsingComparator 1 = .ok (.astore_n 2, 1) := dk_77 (dk_at dksJ19_getEntryUsingComparator_0 1 rfl rfl)
theorem dJ19_getEntryUsingComparator_2 : decode cJ19_getEntryUsingComparator 2 = .ok (.aload_n 0, 1) := dk_42 (dk_at dksJ19_getEntryUsingComparator_0 2 rfl rfl)
theorem dJ19_getEntryUsingComparator_3 : decode cJ19_getEntryUsingComparator 3 = .ok (.getfield 16, 3) := dk_180 0 16 (dk_at dksJ19_getEntryUsingComparator_0 3 rfl rfl)
theorem dJ19_getEntryUsingComparator_6 : decode cJ19_getEntryUsingComparator 6 = .ok (.astore_n 3, 1) := dk_78 (dk_at dksJ19_getEntryUsingComparator_0 6 rfl rfl)
theorem dJ19_getEntryUsingComparator_7 : decode cJ19_getEntryUsingComparator 7 = .ok (.aload_n 3, 1) := dk_45 (dk_at dksJ19_getEntryUsingComparator_0 7 rfl rfl)
theorem dJ19_getEntryUsingComparator_8 : decode cJ19_getEntryUsingComparator 8 = .ok (.ifnull 64, 3) := dk_198 0 64 (dk_at dksJ19_getEntryUsingComparator_0 8 rfl rfl)
theorem dJ19_getEntryUsingComparator_11 : decode cJ19_getEntryUsingComparator 11 = .ok (.aload_n 0, 1) := dk_42 (dk_at dksJ19_getEntryUsingComparator_0 11 rfl rfl)
theorem dJ19_getEntryUsingComparator_12 : decode cJ19_getEntryUsingComparator 12 = .ok (.getfield 101, 3) := dk_180 0 101 (dk_at dksJ19_getEntryUsingComparator_0 12 rfl rfl)
theorem dJ19_getEntryUsingComparator_15 : decode cJ19_getEntryUsingComparator 15 = .ok (.astore 4, 2) := dk_58 4 (dk_at dksJ19_getEntryUsingComparator_0 15 rfl rfl)
theorem dJ19_getEntryUsingComparator_17 : decode cJ19_getEntryUsingComparator 17 = .ok (.aload 4, 2) := dk_25 4 (dk_at dksJ19_getEntryUsingComparator_0 17 rfl rfl)
theorem dJ19_getEntryUsingComparator_19 : decode cJ19_getEntryUsingComparator 19 = .ok (.ifnull 53, 3) := dk_198 0 53 (dk_at dksJ19_getEntryUsingComparator_0 19 rfl rfl)
theorem dJ19_getEntryUsingComparator_22 : decode cJ19_getEntryUsingComparator 22 = .ok (.aload_n 3, 1) := dk_45 (dk_at dksJ19_getEntryUsingComparator_0 22 rfl rfl)
theorem dJ19_getEntryUsingComparator_23 : decode cJ19_getEntryUsingComparator 23 = .ok (.aload_n 2, 1) := dk_44 (dk_at dksJ19_getEntryUsingComparator_0 23 rfl rfl)
theorem dJ19_getEntryUsingComparator_24 : decode cJ19_getEntryUsingComparator 24 = .ok (.aload 4, 2) := dk_25 4 (dk_at dksJ19_getEntryUsingComparator_1 0 rfl rfl)
theorem dJ19_getEntryUsingComparator_26 : decode cJ19_getEntryUsingComparator 26 = .ok (.getfield 105, 3) := dk_180 0 105 (dk_at dksJ19_getEntryUsingComparator_1 2 rfl rfl)
theorem dJ19_getEntryUsingComparator_29 : decode cJ19_getEntryUsingComparator 29 = .ok (.invokeinterface 117 3, 5) := by decide +kernel
theorem dJ19_getEntryUsingComparator_34 : decode cJ19_getEntryUsingComparator 34 = .ok (.istore 5, 2) := dk_54 5 (dk_at dksJ19_getEntryUsingComparator_1 10 rfl rfl)
theorem dJ19_getEntryUsingComparator_36 : decode cJ19_getEntryUsingComparator 36 = .ok (.iload 5, 2) := dk_21 5 (dk_at dksJ19_getEntryUsingComparator_1 12 rfl rfl)
theorem dJ19_getEntryUsingComparator_38 : decode cJ19_getEntryUsingComparator 38 = .ok (.ifCond .ge 13, 3) := dk_156 0 13 (dk_at dksJ19_getEntryUsingComparator_1 14 rfl rfl)
theorem dJ19_getEntryUsingComparator_41 : decode cJ19_getEntryUsingComparator 41 = .ok (.aload 4, 2) := dk_25 4 (dk_at dksJ19_getEntryUsingComparator_1 17 rfl rfl)
theorem dJ19_getEntryUsingComparator_43 : decode cJ19_getEntryUsingComparator 43 = .ok (.getfield 111, 3) := dk_180 0 111 (dk_at dksJ19_getEntryUsingComparator_1 19 rfl rfl)
theorem dJ19_getEntryUsingComparator_46 : decode cJ19_getEntryUsingComparator 46 = .ok (.astore 4, 2) := dk_58 4 (dk_at dksJ19_getEntryUsingComparator_1 22 rfl rfl)
theorem dJ19_getEntryUsingComparator_48 : decode cJ19_getEntryUsingComparator 48 = .ok (.goto 21, 3) := dk_167 0 21 (dk_at dksJ19_getEntryUsingComparator_2 0 rfl rfl)
theorem dJ19_getEntryUsingComparator_51 : decode cJ19_getEntryUsingComparator 51 = .ok (.iload 5, 2) := dk_21 5 (dk_at dksJ19_getEntryUsingComparator_2 3 rfl rfl)
theorem dJ19_getEntryUsingComparator_53 : decode cJ19_getEntryUsingComparator 53 = .ok (.ifCond .le 13, 3) := dk_158 0 13 (dk_at dksJ19_getEntryUsingComparator_2 5 rfl rfl)
theorem dJ19_getEntryUsingComparator_56 : decode cJ19_getEntryUsingComparator 56 = .ok (.aload 4, 2) := dk_25 4 (dk_at dksJ19_getEntryUsingComparator_2 8 rfl rfl)
theorem dJ19_getEntryUsingComparator_58 : decode cJ19_getEntryUsingComparator 58 = .ok (.getfield 114, 3) := dk_180 0 114 (dk_at dksJ19_getEntryUsingComparator_2 10 rfl rfl)
theorem dJ19_getEntryUsingComparator_61 : decode cJ19_getEntryUsingComparator 61 = .ok (.astore 4, 2) := dk_58 4 (dk_at dksJ19_getEntryUsingComparator_2 13 rfl rfl)
theorem dJ19_getEntryUsingComparator_63 : decode cJ19_getEntryUsingComparator 63 = .ok (.goto 6, 3) := dk_167 0 6 (dk_at dksJ19_getEntryUsingComparator_2 15 rfl rfl)
theorem dJ19_getEntryUsingComparator_66 : decode cJ19_getEntryUsingComparator 66 = .ok (.aload 4, 2) := dk_25 4 (dk_at dksJ19_getEntryUsingComparator_2 18 rfl rfl)
theorem dJ19_getEntryUsingComparator_68 : decode cJ19_getEntryUsingComparator 68 = .ok (.areturn, 1) := dk_176 (dk_at dksJ19_getEntryUsingComparator_2 20 rfl rfl)
theorem dJ19_getEntryUsingComparator_69 : decode cJ19_getEntryUsingComparator 69 = .ok (.goto (-52), 3) := dk_167 255 204 (dk_at dksJ19_getEntryUsingComparator_2 21 rfl rfl)
theorem dJ19_getEntryUsingComparator_72 : decode cJ19_getEntryUsingComparator 72 = .ok (.aconst_null, 1) := dk_1 (dk_at dksJ19_getEntryUsingComparator_3 0 rfl rfl)
theorem dJ19_getEntryUsingComparator_73 : decode cJ19_getEntryUsingComparator 73 = .ok (.areturn, 1) := dk_176 (dk_at dksJ19_getEntryUsingComparator_3 1 rfl rfl)
abbrev cJ19_get : ByteArray := prog_75_method_8_code
def yJ19_get : MethodName := ⟨RJ19, "get", "(Ljava/lang/Object;)Ljava/lang/Object;"⟩
def dkwJ19_get_0 : List UInt8 := [42, 43, 182, 0, 50, 77, 44, 199, 0, 7, 1, 167, 0, 7, 44, 180, 0, 58, 176]
abbrev dktJ19_get_0 : List UInt8 := dkwJ19_get_0 ++ []
theorem dksJ19_get_0 : cJ19_get.data.toList.drop 0 = dktJ19_get_0 := by decide +kernel
theorem dJ19_get_0 : decode cJ19_get 0 = .ok (.aload_n 0, 1) := dk_42 (dk_at dksJ19_get_0 0 rfl rfl)
theorem dJ19_get_1 : decode cJ19_get 1 = .ok (.aload_n 1, 1) := dk_43 (dk_at dksJ19_get_0 1 rfl rfl)
theorem dJ19_get_2 : decode cJ19_get 2 = .ok (.invokevirtual 50, 3) := dk_182 0 50 (dk_at dksJ19_get_0 2 rfl rfl)
theorem dJ19_get_5 : decode cJ19_get 5 = .ok (.astore_n 2, 1) := dk_77 (dk_at dksJ19_get_0 5 rfl rfl)
theorem dJ19_get_6 : decode cJ19_get 6 = .ok (.aload_n 2, 1) := dk_44 (dk_at dksJ19_get_0 6 rfl rfl)
theorem dJ19_get_7 : decode cJ19_get 7 = .ok (.ifnonnull 7, 3) := dk_199 0 7 (dk_at dksJ19_get_0 7 rfl rfl)
theorem dJ19_get_10 : decode cJ19_get 10 = .ok (.aconst_null, 1) := dk_1 (dk_at dksJ19_get_0 10 rfl rfl)
theorem dJ19_get_11 : decode cJ19_get 11 = .ok (.goto 7, 3) := dk_167 0 7 (dk_at dksJ19_get_0 11 rfl rfl)
theorem dJ19_get_14 : decode cJ19_get 14 = .ok (.aload_n 2, 1) := dk_44 (dk_at dksJ19_get_0 14 rfl rfl)
theorem dJ19_get_15 : decode cJ19_get 15 = .ok (.getfield 58, 3) := dk_180 0 58 (dk_at dksJ19_get_0 15 rfl rfl)
theorem dJ19_get_18 : decode cJ19_get 18 = .ok (.areturn, 1) := dk_176 (dk_at dksJ19_get_0 18 rfl rfl)
abbrev cJ19_put : ByteArray := prog_75_method_21_code
def yJ19_put : MethodName := ⟨RJ19, "put", "(Ljava/lang/Object;Ljava/lang/Object;)Ljava/lang/Object;"⟩
def dkwJ19_put_0 : List UInt8 := [42, 43, 44, 4, 182, 0, 127, 176]
abbrev dktJ19_put_0 : List UInt8 := dkwJ19_put_0 ++ []
theorem dksJ19_put_0 : cJ19_put.data.toList.drop 0 = dktJ19_put_0 := by decide +kernel
theorem dJ19_put_0 : decode cJ19_put 0 = .ok (.aload_n 0, 1) := dk_42 (dk_at dksJ19_put_0 0 rfl rfl)
theorem dJ19_put_1 : decode cJ19_put 1 = .ok (.aload_n 1, 1) := dk_43 (dk_at dksJ19_put_0 1 rfl rfl)
theorem dJ19_put_2 : decode cJ19_put 2 = .ok (.aload_n 2, 1) := dk_44 (dk_at dksJ19_put_0 2 rfl rfl)
theorem dJ19_put_3 : decode cJ19_put 3 = .ok (.iconst 1, 1) := dk_4 (dk_at dksJ19_put_0 3 rfl rfl)
theorem dJ19_put_4 : decode cJ19_put 4 = .ok (.invokevirtual 127, 3) := dk_182 0 127 (dk_at dksJ19_put_0 4 rfl rfl)
theorem dJ19_put_7 : decode cJ19_put 7 = .ok (.areturn, 1) := dk_176 (dk_at dksJ19_put_0 7 rfl rfl)
abbrev cJ19_put_2 : ByteArray := prog_75_method_31_code
def yJ19_put_2 : MethodName := ⟨RJ19, "put", "(Ljava/lang/Object;Ljava/lang/Object;Z)Ljava/lang/Object;"⟩
def dkwJ19_put_2_9 : List UInt8 := [4, 167, 0, 4, 3, 182, 0, 139, 1, 176]
abbrev dktJ19_put_2_9 : List UInt8 := dkwJ19_put_2_9 ++ []
def dkwJ19_put_2_8 : List UInt8 := [25, 4, 44, 181, 0, 58, 25, 9, 176, 25, 4, 199, 255, 181, 42, 43, 44, 25, 6, 21, 5, 156, 0, 7]
abbrev dktJ19_put_2_8 : List UInt8 := dkwJ19_put_2_8 ++ dktJ19_put_2_9
def dkwJ19_put_2_7 : List UInt8 := [180, 0, 114, 58, 4, 167, 0, 28, 25, 4, 180, 0, 58, 58, 9, 29, 154, 0, 8, 25, 9, 199, 0, 9]
abbrev dktJ19_put_2_7 : List UInt8 := dkwJ19_put_2_7 ++ dktJ19_put_2_8
def dkwJ19_put_2_6 : List UInt8 := [21, 5, 156, 0, 13, 25, 4, 180, 0, 111, 58, 4, 167, 0, 43, 21, 5, 158, 0, 13, 25, 4]
abbrev dktJ19_put_2_6 : List UInt8 := dkwJ19_put_2_6 ++ dktJ19_put_2_7
def dkwJ19_put_2_5 : List UInt8 := [192, 0, 99, 58, 8, 25, 4, 58, 6, 25, 8, 25, 4, 180, 0, 105, 185, 0, 107, 2, 0, 54, 5]
abbrev dktJ19_put_2_5 : List UInt8 := dkwJ19_put_2_5 ++ dktJ19_put_2_6
def dkwJ19_put_2_4 : List UInt8 := [25, 4, 44, 181, 0, 58, 25, 8, 176, 25, 4, 199, 255, 180, 167, 0, 92, 43, 184, 0, 95, 87, 43]
abbrev dktJ19_put_2_4 : List UInt8 := dkwJ19_put_2_4 ++ dktJ19_put_2_5
def dkwJ19_put_2_3 : List UInt8 := [180, 0, 114, 58, 4, 167, 0, 28, 25, 4, 180, 0, 58, 58, 8, 29, 154, 0, 8, 25, 8, 199, 0, 9]
abbrev dktJ19_put_2_3 : List UInt8 := dkwJ19_put_2_3 ++ dktJ19_put_2_4
def dkwJ19_put_2_2 : List UInt8 := [54, 5, 21, 5, 156, 0, 13, 25, 4, 180, 0, 111, 58, 4, 167, 0, 43, 21, 5, 158, 0, 13, 25, 4]
abbrev dktJ19_put_2_2 : List UInt8 := dkwJ19_put_2_2 ++ dktJ19_put_2_3
def dkwJ19_put_2_1 : List UInt8 := [58, 7, 25, 7, 198, 0, 85, 25, 4, 58, 6, 25, 7, 43, 25, 4, 180, 0, 105, 185, 0, 117, 3, 0]
abbrev dktJ19_put_2_1 : List UInt8 := dkwJ19_put_2_1 ++ dktJ19_put_2_2
def dkwJ19_put_2_0 : List UInt8 := [42, 180, 0, 101, 58, 4, 25, 4, 199, 0, 11, 42, 43, 44, 182, 0, 135, 1, 176, 42, 180, 0, 16]
abbrev dktJ19_put_2_0 : List UInt8 := dkwJ19_put_2_0 ++ dktJ19_put_2_1
theorem dksJ19_put_2_0 : cJ19_put_2.data.toList.drop 0 = dktJ19_put_2_0 := by decide +kernel
theorem dksJ19_put_2_1 : cJ19_put_2.data.toList.drop 23 = dktJ19_put_2_1 := dk_seg dksJ19_put_2_0 23 rfl rfl
theorem dksJ19_put_2_2 : cJ19_put_2.data.toList.drop 47 = dktJ19_put_2_2 := dk_seg dksJ19_put_2_1 24 rfl rfl
theorem dksJ19_put_2_3 : cJ19_put_2.data.toList.drop 71 = dktJ19_put_2_3 := dk_seg dksJ19_put_2_2 24 rfl rfl
theorem dksJ19_put_2_4 : cJ19_put_2.data.toList.drop 95 = dktJ19_put_2_4 := dk_seg dksJ19_put_2_3 24 rfl rfl
theorem dksJ19_put_2_5 : cJ19_put_2.data.toList.drop 118 = dktJ19_put_2_5 := dk_seg dksJ19_put_2_4 23 rfl rfl
theorem dksJ19_put_2_6 : cJ19_put_2.data.toList.drop 141 = dktJ19_put_2_6 := dk_seg dksJ19_put_2_5 23 rfl rfl
theorem dksJ19_put_2_7 : cJ19_put_2.data.toList.drop 163 = dktJ19_put_2_7 := dk_seg dksJ19_put_2_6 22 rfl rfl
theorem dksJ19_put_2_8 : cJ19_put_2.data.toList.drop 187 = dktJ19_put_2_8 := dk_seg dksJ19_put_2_7 24 rfl rfl
theorem dksJ19_put_2_9 : cJ19_put_2.data.toList.drop 211 = dktJ19_put_2_9 := dk_seg dksJ19_put_2_8 24 rfl rfl
theorem dJ19_put_2_0 : decode cJ19_put_2 0 = .ok (.aload_n 0, 1) := dk_42 (dk_at dksJ19_put_2_0 0 rfl rfl)
theorem dJ19_put_2_1 : decode cJ19_put_2 1 = .ok (.getfield 101, 3) := dk_180 0 101 (dk_at dksJ19_put_2_0 1 rfl rfl)
theorem dJ19_put_2_4 : decode cJ19_put_2 4 = .ok (.astore 4, 2) := dk_58 4 (dk_at dksJ19_put_2_0 4 rfl rfl)
theorem dJ19_put_2_6 : decode cJ19_put_2 6 = .ok (.aload 4, 2) := dk_25 4 (dk_at dksJ19_put_2_0 6 rfl rfl)
theorem dJ19_put_2_8 : decode cJ19_put_2 8 = .ok (.ifnonnull 11, 3) := dk_199 0 11 (dk_at dksJ19_put_2_0 8 rfl rfl)
theorem dJ19_put_2_11 : decode cJ19_put_2 11 = .ok (.aload_n 0, 1) := dk_42 (dk_at dksJ19_put_2_0 11 rfl rfl)
theorem dJ19_put_2_12 : decode cJ19_put_2 12 = .ok (.aload_n 1, 1) := dk_43 (dk_at dksJ19_put_2_0 12 rfl rfl)
theorem dJ19_put_2_13 : decode cJ19_put_2 13 = .ok (.aload_n 2, 1) := dk_44 (dk_at dksJ19_put_2_0 13 rfl rfl)
theorem dJ19_put_2_14 : decode cJ19_put_2 14 = .ok (.invokevirtual 135, 3) := dk_182 0 135 (dk_at dksJ19_put_2_0 14 rfl rfl)
theorem dJ19_put_2_17 : decode cJ19_put_2 17 = .ok (.aconst_null, 1) := dk_1 (dk_at dksJ19_put_2_0 17 rfl rfl)
theorem dJ19_put_2_18 : decode cJ19_put_2 18 = .ok (.areturn, 1) := dk_176 (dk_at dksJ19_put_2_0 18 rfl rfl)
theorem dJ19_put_2_19 : decode cJ19_put_2 19 = .ok (.aload_n 0, 1) := dk_42 (dk_at dksJ19_put_2_0 19 rfl rfl)
theorem dJ19_put_2_20 : decode cJ19_put_2 20 = .ok (.getfield 16, 3) := dk_180 0 16 (dk_at dksJ19_put_2_0 20 rfl rfl)
theorem dJ19_put_2_23 : decode cJ19_put_2 23 = .ok (.astore 7, 2) := dk_58 7 (dk_at dksJ19_put_2_1 0 rfl rfl)
theorem dJ19_put_2_25 : decode cJ19_put_2 25 = .ok (.aload 7, 2) := dk_25 7 (dk_at dksJ19_put_2_1 2 rfl rfl)
theorem dJ19_put_2_27 : decode cJ19_put_2 27 = .ok (.ifnull 85, 3) := dk_198 0 85 (dk_at dksJ19_put_2_1 4 rfl rfl)
theorem dJ19_put_2_30 : decode cJ19_put_2 30 = .ok (.aload 4, 2) := dk_25 4 (dk_at dksJ19_put_2_1 7 rfl rfl)
theorem dJ19_put_2_32 : decode cJ19_put_2 32 = .ok (.astore 6, 2) := dk_58 6 (dk_at dksJ19_put_2_1 9 rfl rfl)
theorem dJ19_put_2_34 : decode cJ19_put_2 34 = .ok (.aload 7, 2) := dk_25 7 (dk_at dksJ19_put_2_1 11 rfl rfl)
theorem dJ19_put_2_36 : decode cJ19_put_2 36 = .ok (.aload_n 1, 1) := dk_43 (dk_at dksJ19_put_2_1 13 rfl rfl)
theorem dJ19_put_2_37 : decode cJ19_put_2 37 = .ok (.aload 4, 2) := dk_25 4 (dk_at dksJ19_put_2_1 14 rfl rfl)
theorem dJ19_put_2_39 : decode cJ19_put_2 39 = .ok (.getfield 105, 3) := dk_180 0 105 (dk_at dksJ19_put_2_1 16 rfl rfl)
theorem dJ19_put_2_42 : decode cJ19_put_2 42 = .ok (.invokeinterface 117 3, 5) := by decide +kernel
theorem dJ19_put_2_47 : decode cJ19_put_2 47 = .ok (.istore 5, 2) := dk_54 5 (dk_at dksJ19_put_2_2 0 rfl rfl)
theorem dJ19_put_2_49 : decode cJ19_put_2 49 = .ok (.iload 5, 2) := dk_21 5 (dk_at dksJ19_put_2_2 2 rfl rfl)
theorem dJ19_put_2_51 : decode cJ19_put_2 51 = .ok (.ifCond .ge 13, 3) := dk_156 0 13 (dk_at dksJ19_put_2_2 4 rfl rfl)
theorem dJ19_put_2_54 : decode cJ19_put_2 54 = .ok (.aload 4, 2) := dk_25 4 (dk_at dksJ19_put_2_2 7 rfl rfl)
theorem dJ19_put_2_56 : decode cJ19_put_2 56 = .ok (.getfield 111, 3) := dk_180 0 111 (dk_at dksJ19_put_2_2 9 rfl rfl)
theorem dJ19_put_2_59 : decode cJ19_put_2 59 = .ok (.astore 4, 2) := dk_58 4 (dk_at dksJ19_put_2_2 12 rfl rfl)
theorem dJ19_put_2_61 : decode cJ19_put_2 61 = .ok (.goto 43, 3) := dk_167 0 43 (dk_at dksJ19_put_2_2 14 rfl rfl)
theorem dJ19_put_2_64 : decode cJ19_put_2 64 = .ok (.iload 5, 2) := dk_21 5 (dk_at dksJ19_put_2_2 17 rfl rfl)
theorem dJ19_put_2_66 : decode cJ19_put_2 66 = .ok (.ifCond .le 13, 3) := dk_158 0 13 (dk_at dksJ19_put_2_2 19 rfl rfl)
theorem dJ19_put_2_69 : decode cJ19_put_2 69 = .ok (.aload 4, 2) := dk_25 4 (dk_at dksJ19_put_2_2 22 rfl rfl)
theorem dJ19_put_2_71 : decode cJ19_put_2 71 = .ok (.getfield 114, 3) := dk_180 0 114 (dk_at dksJ19_put_2_3 0 rfl rfl)
theorem dJ19_put_2_74 : decode cJ19_put_2 74 = .ok (.astore 4, 2) := dk_58 4 (dk_at dksJ19_put_2_3 3 rfl rfl)
theorem dJ19_put_2_76 : decode cJ19_put_2 76 = .ok (.goto 28, 3) := dk_167 0 28 (dk_at dksJ19_put_2_3 5 rfl rfl)
theorem dJ19_put_2_79 : decode cJ19_put_2 79 = .ok (.aload 4, 2) := dk_25 4 (dk_at dksJ19_put_2_3 8 rfl rfl)
theorem dJ19_put_2_81 : decode cJ19_put_2 81 = .ok (.getfield 58, 3) := dk_180 0 58 (dk_at dksJ19_put_2_3 10 rfl rfl)
theorem dJ19_put_2_84 : decode cJ19_put_2 84 = .ok (.astore 8, 2) := dk_58 8 (dk_at dksJ19_put_2_3 13 rfl rfl)
theorem dJ19_put_2_86 : decode cJ19_put_2 86 = .ok (.iload_n 3, 1) := dk_29 (dk_at dksJ19_put_2_3 15 rfl rfl)
theorem dJ19_put_2_87 : decode cJ19_put_2 87 = .ok (.ifCond .ne 8, 3) := dk_154 0 8 (dk_at dksJ19_put_2_3 16 rfl rfl)
theorem dJ19_put_2_90 : decode cJ19_put_2 90 = .ok (.aload 8, 2) := dk_25 8 (dk_at dksJ19_put_2_3 19 rfl rfl)
theorem dJ19_put_2_92 : decode cJ19_put_2 92 = .ok (.ifnonnull 9, 3) := dk_199 0 9 (dk_at dksJ19_put_2_3 21 rfl rfl)
theorem dJ19_put_2_95 : decode cJ19_put_2 95 = .ok (.aload 4, 2) := dk_25 4 (dk_at dksJ19_put_2_4 0 rfl rfl)
theorem dJ19_put_2_97 : decode cJ19_put_2 97 = .ok (.aload_n 2, 1) := dk_44 (dk_at dksJ19_put_2_4 2 rfl rfl)
theorem dJ19_put_2_98 : decode cJ19_put_2 98 = .ok (.putfield 58, 3) := dk_181 0 58 (dk_at dksJ19_put_2_4 3 rfl rfl)
theorem dJ19_put_2_101 : decode cJ19_put_2 101 = .ok (.aload 8, 2) := dk_25 8 (dk_at dksJ19_put_2_4 6 rfl rfl)
theorem dJ19_put_2_103 : decode cJ19_put_2 103 = .ok (.areturn, 1) := dk_176 (dk_at dksJ19_put_2_4 8 rfl rfl)
theorem dJ19_put_2_104 : decode cJ19_put_2 104 = .ok (.aload 4, 2) := dk_25 4 (dk_at dksJ19_put_2_4 9 rfl rfl)
theorem dJ19_put_2_106 : decode cJ19_put_2 106 = .ok (.ifnonnull (-76), 3) := dk_199 255 180 (dk_at dksJ19_put_2_4 11 rfl rfl)
theorem dJ19_put_2_109 : decode cJ19_put_2 109 = .ok (.goto 92, 3) := dk_167 0 92 (dk_at dksJ19_put_2_4 14 rfl rfl)
theorem dJ19_put_2_112 : decode cJ19_put_2 112 = .ok (.aload_n 1, 1) := dk_43 (dk_at dksJ19_put_2_4 17 rfl rfl)
theorem dJ19_put_2_113 : decode cJ19_put_2 113 = .ok (.invokestatic 95, 3) := dk_184 0 95 (dk_at dksJ19_put_2_4 18 rfl rfl)
theorem dJ19_put_2_116 : decode cJ19_put_2 116 = .ok (.pop, 1) := dk_87 (dk_at dksJ19_put_2_4 21 rfl rfl)
theorem dJ19_put_2_117 : decode cJ19_put_2 117 = .ok (.aload_n 1, 1) := dk_43 (dk_at dksJ19_put_2_4 22 rfl rfl)
theorem dJ19_put_2_118 : decode cJ19_put_2 118 = .ok (.checkcast 99, 3) := dk_192 0 99 (dk_at dksJ19_put_2_5 0 rfl rfl)
theorem dJ19_put_2_121 : decode cJ19_put_2 121 = .ok (.astore 8, 2) := dk_58 8 (dk_at dksJ19_put_2_5 3 rfl rfl)
theorem dJ19_put_2_123 : decode cJ19_put_2 123 = .ok (.aload 4, 2) := dk_25 4 (dk_at dksJ19_put_2_5 5 rfl rfl)
theorem dJ19_put_2_125 : decode cJ19_put_2 125 = .ok (.astore 6, 2) := dk_58 6 (dk_at dksJ19_put_2_5 7 rfl rfl)
theorem dJ19_put_2_127 : decode cJ19_put_2 127 = .ok (.aload 8, 2) := dk_25 8 (dk_at dksJ19_put_2_5 9 rfl rfl)
theorem dJ19_put_2_129 : decode cJ19_put_2 129 = .ok (.aload 4, 2) := dk_25 4 (dk_at dksJ19_put_2_5 11 rfl rfl)
theorem dJ19_put_2_131 : decode cJ19_put_2 131 = .ok (.getfield 105, 3) := dk_180 0 105 (dk_at dksJ19_put_2_5 13 rfl rfl)
theorem dJ19_put_2_134 : decode cJ19_put_2 134 = .ok (.invokeinterface 107 2, 5) := by decide +kernel
theorem dJ19_put_2_139 : decode cJ19_put_2 139 = .ok (.istore 5, 2) := dk_54 5 (dk_at dksJ19_put_2_5 21 rfl rfl)
theorem dJ19_put_2_141 : decode cJ19_put_2 141 = .ok (.iload 5, 2) := dk_21 5 (dk_at dksJ19_put_2_6 0 rfl rfl)
theorem dJ19_put_2_143 : decode cJ19_put_2 143 = .ok (.ifCond .ge 13, 3) := dk_156 0 13 (dk_at dksJ19_put_2_6 2 rfl rfl)
theorem dJ19_put_2_146 : decode cJ19_put_2 146 = .ok (.aload 4, 2) := dk_25 4 (dk_at dksJ19_put_2_6 5 rfl rfl)
theorem dJ19_put_2_148 : decode cJ19_put_2 148 = .ok (.getfield 111, 3) := dk_180 0 111 (dk_at dksJ19_put_2_6 7 rfl rfl)
theorem dJ19_put_2_151 : decode cJ19_put_2 151 = .ok (.astore 4, 2) := dk_58 4 (dk_at dksJ19_put_2_6 10 rfl rfl)
theorem dJ19_put_2_153 : decode cJ19_put_2 153 = .ok (.goto 43, 3) := dk_167 0 43 (dk_at dksJ19_put_2_6 12 rfl rfl)
theorem dJ19_put_2_156 : decode cJ19_put_2 156 = .ok (.iload 5, 2) := dk_21 5 (dk_at dksJ19_put_2_6 15 rfl rfl)
theorem dJ19_put_2_158 : decode cJ19_put_2 158 = .ok (.ifCond .le 13, 3) := dk_158 0 13 (dk_at dksJ19_put_2_6 17 rfl rfl)
theorem dJ19_put_2_161 : decode cJ19_put_2 161 = .ok (.aload 4, 2) := dk_25 4 (dk_at dksJ19_put_2_6 20 rfl rfl)
theorem dJ19_put_2_163 : decode cJ19_put_2 163 = .ok (.getfield 114, 3) := dk_180 0 114 (dk_at dksJ19_put_2_7 0 rfl rfl)
theorem dJ19_put_2_166 : decode cJ19_put_2 166 = .ok (.astore 4, 2) := dk_58 4 (dk_at dksJ19_put_2_7 3 rfl rfl)
theorem dJ19_put_2_168 : decode cJ19_put_2 168 = .ok (.goto 28, 3) := dk_167 0 28 (dk_at dksJ19_put_2_7 5 rfl rfl)
theorem dJ19_put_2_171 : decode cJ19_put_2 171 = .ok (.aload 4, 2) := dk_25 4 (dk_at dksJ19_put_2_7 8 rfl rfl)
theorem dJ19_put_2_173 : decode cJ19_put_2 173 = .ok (.getfield 58, 3) := dk_180 0 58 (dk_at dksJ19_put_2_7 10 rfl rfl)
theorem dJ19_put_2_176 : decode cJ19_put_2 176 = .ok (.astore 9, 2) := dk_58 9 (dk_at dksJ19_put_2_7 13 rfl rfl)
theorem dJ19_put_2_178 : decode cJ19_put_2 178 = .ok (.iload_n 3, 1) := dk_29 (dk_at dksJ19_put_2_7 15 rfl rfl)
theorem dJ19_put_2_179 : decode cJ19_put_2 179 = .ok (.ifCond .ne 8, 3) := dk_154 0 8 (dk_at dksJ19_put_2_7 16 rfl rfl)
theorem dJ19_put_2_182 : decode cJ19_put_2 182 = .ok (.aload 9, 2) := dk_25 9 (dk_at dksJ19_put_2_7 19 rfl rfl)
theorem dJ19_put_2_184 : decode cJ19_put_2 184 = .ok (.ifnonnull 9, 3) := dk_199 0 9 (dk_at dksJ19_put_2_7 21 rfl rfl)
theorem dJ19_put_2_187 : decode cJ19_put_2 187 = .ok (.aload 4, 2) := dk_25 4 (dk_at dksJ19_put_2_8 0 rfl rfl)
theorem dJ19_put_2_189 : decode cJ19_put_2 189 = .ok (.aload_n 2, 1) := dk_44 (dk_at dksJ19_put_2_8 2 rfl rfl)
theorem dJ19_put_2_190 : decode cJ19_put_2 190 = .ok (.putfield 58, 3) := dk_181 0 58 (dk_at dksJ19_put_2_8 3 rfl rfl)
theorem dJ19_put_2_193 : decode cJ19_put_2 193 = .ok (.aload 9, 2) := dk_25 9 (dk_at dksJ19_put_2_8 6 rfl rfl)
theorem dJ19_put_2_195 : decode cJ19_put_2 195 = .ok (.areturn, 1) := dk_176 (dk_at dksJ19_put_2_8 8 rfl rfl)
theorem dJ19_put_2_196 : decode cJ19_put_2 196 = .ok (.aload 4, 2) := dk_25 4 (dk_at dksJ19_put_2_8 9 rfl rfl)
theorem dJ19_put_2_198 : decode cJ19_put_2 198 = .ok (.ifnonnull (-75), 3) := dk_199 255 181 (dk_at dksJ19_put_2_8 11 rfl rfl)
theorem dJ19_put_2_201 : decode cJ19_put_2 201 = .ok (.aload_n 0, 1) := dk_42 (dk_at dksJ19_put_2_8 14 rfl rfl)
theorem dJ19_put_2_202 : decode cJ19_put_2 202 = .ok (.aload_n 1, 1) := dk_43 (dk_at dksJ19_put_2_8 15 rfl rfl)
theorem dJ19_put_2_203 : decode cJ19_put_2 203 = .ok (.aload_n 2, 1) := dk_44 (dk_at dksJ19_put_2_8 16 rfl rfl)
theorem dJ19_put_2_204 : decode cJ19_put_2 204 = .ok (.aload 6, 2) := dk_25 6 (dk_at dksJ19_put_2_8 17 rfl rfl)
theorem dJ19_put_2_206 : decode cJ19_put_2 206 = .ok (.iload 5, 2) := dk_21 5 (dk_at dksJ19_put_2_8 19 rfl rfl)
theorem dJ19_put_2_208 : decode cJ19_put_2 208 = .ok (.ifCond .ge 7, 3) := dk_156 0 7 (dk_at dksJ19_put_2_8 21 rfl rfl)
theorem dJ19_put_2_211 : decode cJ19_put_2 211 = .ok (.iconst 1, 1) := dk_4 (dk_at dksJ19_put_2_9 0 rfl rfl)
theorem dJ19_put_2_212 : decode cJ19_put_2 212 = .ok (.goto 4, 3) := dk_167 0 4 (dk_at dksJ19_put_2_9 1 rfl rfl)
theorem dJ19_put_2_215 : decode cJ19_put_2 215 = .ok (.iconst 0, 1) := dk_3 (dk_at dksJ19_put_2_9 4 rfl rfl)
theorem dJ19_put_2_216 : decode cJ19_put_2 216 = .ok (.invokevirtual 139, 3) := dk_182 0 139 (dk_at dksJ19_put_2_9 5 rfl rfl)
theorem dJ19_put_2_219 : decode cJ19_put_2 219 = .ok (.aconst_null, 1) := dk_1 (dk_at dksJ19_put_2_9 8 rfl rfl)
theorem dJ19_put_2_220 : decode cJ19_put_2 220 = .ok (.areturn, 1) := dk_176 (dk_at dksJ19_put_2_9 9 rfl rfl)
abbrev cJ19_addEntryToEmptyMap : ByteArray := prog_75_method_30_code
def yJ19_addEntryToEmptyMap : MethodName := ⟨RJ19, "addEntryToEmptyMap", "(Ljava/lang/Object;Ljava/lang/Object;)V"⟩
def dkwJ19_addEntryToEmptyMap_1 : List UInt8 := [181, 0, 7, 42, 89, 180, 0, 13, 4, 96, 181, 0, 13, 177]
abbrev dktJ19_addEntryToEmptyMap_1 : List UInt8 := dkwJ19_addEntryToEmptyMap_1 ++ []
def dkwJ19_addEntryToEmptyMap_0 : List UInt8 := [42, 43, 43, 182, 0, 123, 87, 42, 187, 0, 59, 89, 43, 44, 1, 183, 0, 167, 181, 0, 101, 42, 4]
abbrev dktJ19_addEntryToEmptyMap_0 : List UInt8 := dkwJ19_addEntryToEmptyMap_0 ++ dktJ19_addEntryToEmptyMap_1
theorem dksJ19_addEntryToEmptyMap_0 : cJ19_addEntryToEmptyMap.data.toList.drop 0 = dktJ19_addEntryToEmptyMap_0 := by decide +kernel
theorem dksJ19_addEntryToEmptyMap_1 : cJ19_addEntryToEmptyMap.data.toList.drop 23 = dktJ19_addEntryToEmptyMap_1 := dk_seg dksJ19_addEntryToEmptyMap_0 23 rfl rfl
theorem dJ19_addEntryToEmptyMap_0 : decode cJ19_addEntryToEmptyMap 0 = .ok (.aload_n 0, 1) := dk_42 (dk_at dksJ19_addEntryToEmptyMap_0 0 rfl rfl)
theorem dJ19_addEntryToEmptyMap_1 : decode cJ19_addEntryToEmptyMap 1 = .ok (.aload_n 1, 1) := dk_43 (dk_at dksJ19_addEntryToEmptyMap_0 1 rfl rfl)
theorem dJ19_addEntryToEmptyMap_2 : decode cJ19_addEntryToEmptyMap 2 = .ok (.aload_n 1, 1) := dk_43 (dk_at dksJ19_addEntryToEmptyMap_0 2 rfl rfl)
theorem dJ19_addEntryToEmptyMap_3 : decode cJ19_addEntryToEmptyMap 3 = .ok (.invokevirtual 123, 3) := dk_182 0 123 (dk_at dksJ19_addEntryToEmptyMap_0 3 rfl rfl)
theorem dJ19_addEntryToEmptyMap_6 : decode cJ19_addEntryToEmptyMap 6 = .ok (.pop, 1) := dk_87 (dk_at dksJ19_addEntryToEmptyMap_0 6 rfl rfl)
theorem dJ19_addEntryToEmptyMap_7 : decode cJ19_addEntryToEmptyMap 7 = .ok (.aload_n 0, 1) := dk_42 (dk_at dksJ19_addEntryToEmptyMap_0 7 rfl rfl)
theorem dJ19_addEntryToEmptyMap_8 : decode cJ19_addEntryToEmptyMap 8 = .ok (.new 59, 3) := dk_187 0 59 (dk_at dksJ19_addEntryToEmptyMap_0 8 rfl rfl)
theorem dJ19_addEntryToEmptyMap_11 : decode cJ19_addEntryToEmptyMap 11 = .ok (.dup, 1) := dk_89 (dk_at dksJ19_addEntryToEmptyMap_0 11 rfl rfl)
theorem dJ19_addEntryToEmptyMap_12 : decode cJ19_addEntryToEmptyMap 12 = .ok (.aload_n 1, 1) := dk_43 (dk_at dksJ19_addEntryToEmptyMap_0 12 rfl rfl)
theorem dJ19_addEntryToEmptyMap_13 : decode cJ19_addEntryToEmptyMap 13 = .ok (.aload_n 2, 1) := dk_44 (dk_at dksJ19_addEntryToEmptyMap_0 13 rfl rfl)
theorem dJ19_addEntryToEmptyMap_14 : decode cJ19_addEntryToEmptyMap 14 = .ok (.aconst_null, 1) := dk_1 (dk_at dksJ19_addEntryToEmptyMap_0 14 rfl rfl)
theorem dJ19_addEntryToEmptyMap_15 : decode cJ19_addEntryToEmptyMap 15 = .ok (.invokespecial 167, 3) := dk_183 0 167 (dk_at dksJ19_addEntryToEmptyMap_0 15 rfl rfl)
theorem dJ19_addEntryToEmptyMap_18 : decode cJ19_addEntryToEmptyMap 18 = .ok (.putfield 101, 3) := dk_181 0 101 (dk_at dksJ19_addEntryToEmptyMap_0 18 rfl rfl)
theorem dJ19_addEntryToEmptyMap_21 : decode cJ19_addEntryToEmptyMap 21 = .ok (.aload_n 0, 1) := dk_42 (dk_at dksJ19_addEntryToEmptyMap_0 21 rfl rfl)
theorem dJ19_addEntryToEmptyMap_22 : decode cJ19_addEntryToEmptyMap 22 = .ok (.iconst 1, 1) := dk_4 (dk_at dksJ19_addEntryToEmptyMap_0 22 rfl rfl)
theorem dJ19_addEntryToEmptyMap_23 : decode cJ19_addEntryToEmptyMap 23 = .ok (.putfield 7, 3) := dk_181 0 7 (dk_at dksJ19_addEntryToEmptyMap_1 0 rfl rfl)
theorem dJ19_addEntryToEmptyMap_26 : decode cJ19_addEntryToEmptyMap 26 = .ok (.aload_n 0, 1) := dk_42 (dk_at dksJ19_addEntryToEmptyMap_1 3 rfl rfl)
theorem dJ19_addEntryToEmptyMap_27 : decode cJ19_addEntryToEmptyMap 27 = .ok (.dup, 1) := dk_89 (dk_at dksJ19_addEntryToEmptyMap_1 4 rfl rfl)
theorem dJ19_addEntryToEmptyMap_28 : decode cJ19_addEntryToEmptyMap 28 = .ok (.getfield 13, 3) := dk_180 0 13 (dk_at dksJ19_addEntryToEmptyMap_1 5 rfl rfl)
theorem dJ19_addEntryToEmptyMap_31 : decode cJ19_addEntryToEmptyMap 31 = .ok (.iconst 1, 1) := dk_4 (dk_at dksJ19_addEntryToEmptyMap_1 8 rfl rfl)
theorem dJ19_addEntryToEmptyMap_32 : decode cJ19_addEntryToEmptyMap 32 = .ok (.iadd, 1) := dk_96 (dk_at dksJ19_addEntryToEmptyMap_1 9 rfl rfl)
theorem dJ19_addEntryToEmptyMap_33 : decode cJ19_addEntryToEmptyMap 33 = .ok (.putfield 13, 3) := dk_181 0 13 (dk_at dksJ19_addEntryToEmptyMap_1 10 rfl rfl)
theorem dJ19_addEntryToEmptyMap_36 : decode cJ19_addEntryToEmptyMap 36 = .ok (.return_, 1) := dk_177 (dk_at dksJ19_addEntryToEmptyMap_1 13 rfl rfl)
abbrev cJ19_compare : ByteArray := prog_75_method_67_code
def yJ19_compare : MethodName := ⟨RJ19, "compare", "(Ljava/lang/Object;Ljava/lang/Object;)I"⟩
def dkwJ19_compare_1 : List UInt8 := [43, 44, 185, 0, 117, 3, 0, 172]
abbrev dktJ19_compare_1 : List UInt8 := dkwJ19_compare_1 ++ []
def dkwJ19_compare_0 : List UInt8 := [42, 180, 0, 16, 199, 0, 16, 43, 192, 0, 99, 44, 185, 0, 107, 2, 0, 167, 0, 14, 42, 180, 0, 16]
abbrev dktJ19_compare_0 : List UInt8 := dkwJ19_compare_0 ++ dktJ19_compare_1
theorem dksJ19_compare_0 : cJ19_compare.data.toList.drop 0 = dktJ19_compare_0 := by decide +kernel
theorem dksJ19_compare_1 : cJ19_compare.data.toList.drop 24 = dktJ19_compare_1 := dk_seg dksJ19_compare_0 24 rfl rfl
theorem dJ19_compare_0 : decode cJ19_compare 0 = .ok (.aload_n 0, 1) := dk_42 (dk_at dksJ19_compare_0 0 rfl rfl)
theorem dJ19_compare_1 : decode cJ19_compare 1 = .ok (.getfield 16, 3) := dk_180 0 16 (dk_at dksJ19_compare_0 1 rfl rfl)
theorem dJ19_compare_4 : decode cJ19_compare 4 = .ok (.ifnonnull 16, 3) := dk_199 0 16 (dk_at dksJ19_compare_0 4 rfl rfl)
theorem dJ19_compare_7 : decode cJ19_compare 7 = .ok (.aload_n 1, 1) := dk_43 (dk_at dksJ19_compare_0 7 rfl rfl)
theorem dJ19_compare_8 : decode cJ19_compare 8 = .ok (.checkcast 99, 3) := dk_192 0 99 (dk_at dksJ19_compare_0 8 rfl rfl)
theorem dJ19_compare_11 : decode cJ19_compare 11 = .ok (.aload_n 2, 1) := dk_44 (dk_at dksJ19_compare_0 11 rfl rfl)
theorem dJ19_compare_12 : decode cJ19_compare 12 = .ok (.invokeinterface 107 2, 5) := by decide +kernel
theorem dJ19_compare_17 : decode cJ19_compare 17 = .ok (.goto 14, 3) := dk_167 0 14 (dk_at dksJ19_compare_0 17 rfl rfl)
theorem dJ19_compare_20 : decode cJ19_compare 20 = .ok (.aload_n 0, 1) := dk_42 (dk_at dksJ19_compare_0 20 rfl rfl)
theorem dJ19_compare_21 : decode cJ19_compare 21 = .ok (.getfield 16, 3) := dk_180 0 16 (dk_at dksJ19_compare_0 21 rfl rfl)
theorem dJ19_compare_24 : decode cJ19_compare 24 = .ok (.aload_n 1, 1) := dk_43 (dk_at dksJ19_compare_1 0 rfl rfl)
theorem dJ19_compare_25 : decode cJ19_compare 25 = .ok (.aload_n 2, 1) := dk_44 (dk_at dksJ19_compare_1 1 rfl rfl)
theorem dJ19_compare_26 : decode cJ19_compare 26 = .ok (.invokeinterface 117 3, 5) := by decide +kernel
theorem dJ19_compare_31 : decode cJ19_compare 31 = .ok (.ireturn, 1) := dk_172 (dk_at dksJ19_compare_1 7 rfl rfl)
abbrev cJ19_addEntry : ByteArray := prog_75_method_29_code
def yJ19_addEntry : MethodName := ⟨RJ19, "addEntry", "(Ljava/lang/Object;Ljava/lang/Object;Ljava/util/TreeMap$Entry;Z)V"⟩
def dkwJ19_addEntry_2 : List UInt8 := [181, 0, 7, 42, 89, 180, 0, 13, 4, 96, 181, 0, 13, 177]
abbrev dktJ19_addEntry_2 : List UInt8 := dkwJ19_addEntry_2 ++ []
def dkwJ19_addEntry_1 : List UInt8 := [167, 0, 9, 45, 25, 5, 181, 0, 114, 42, 25, 5, 182, 0, 170, 42, 89, 180, 0, 7, 4, 96]
abbrev dktJ19_addEntry_1 : List UInt8 := dkwJ19_addEntry_1 ++ dktJ19_addEntry_2
def dkwJ19_addEntry_0 : List UInt8 := [187, 0, 59, 89, 43, 44, 45, 183, 0, 167, 58, 5, 21, 4, 153, 0, 12, 45, 25, 5, 181, 0, 111]
abbrev dktJ19_addEntry_0 : List UInt8 := dkwJ19_addEntry_0 ++ dktJ19_addEntry_1
theorem dksJ19_addEntry_0 : cJ19_addEntry.data.toList.drop 0 = dktJ19_addEntry_0 := by decide +kernel
theorem dksJ19_addEntry_1 : cJ19_addEntry.data.toList.drop 23 = dktJ19_addEntry_1 := dk_seg dksJ19_addEntry_0 23 rfl rfl
theorem dksJ19_addEntry_2 : cJ19_addEntry.data.toList.drop 45 = dktJ19_addEntry_2 := dk_seg dksJ19_addEntry_1 22 rfl rfl
theorem dJ19_addEntry_0 : decode cJ19_addEntry 0 = .ok (.new 59, 3) := dk_187 0 59 (dk_at dksJ19_addEntry_0 0 rfl rfl)
theorem dJ19_addEntry_3 : decode cJ19_addEntry 3 = .ok (.dup, 1) := dk_89 (dk_at dksJ19_addEntry_0 3 rfl rfl)
theorem dJ19_addEntry_4 : decode cJ19_addEntry 4 = .ok (.aload_n 1, 1) := dk_43 (dk_at dksJ19_addEntry_0 4 rfl rfl)
theorem dJ19_addEntry_5 : decode cJ19_addEntry 5 = .ok (.aload_n 2, 1) := dk_44 (dk_at dksJ19_addEntry_0 5 rfl rfl)
theorem dJ19_addEntry_6 : decode cJ19_addEntry 6 = .ok (.aload_n 3, 1) := dk_45 (dk_at dksJ19_addEntry_0 6 rfl rfl)
theorem dJ19_addEntry_7 : decode cJ19_addEntry 7 = .ok (.invokespecial 167, 3) := dk_183 0 167 (dk_at dksJ19_addEntry_0 7 rfl rfl)
theorem dJ19_addEntry_10 : decode cJ19_addEntry 10 = .ok (.astore 5, 2) := dk_58 5 (dk_at dksJ19_addEntry_0 10 rfl rfl)
theorem dJ19_addEntry_12 : decode cJ19_addEntry 12 = .ok (.iload 4, 2) := dk_21 4 (dk_at dksJ19_addEntry_0 12 rfl rfl)
theorem dJ19_addEntry_14 : decode cJ19_addEntry 14 = .ok (.ifCond .eq 12, 3) := dk_153 0 12 (dk_at dksJ19_addEntry_0 14 rfl rfl)
theorem dJ19_addEntry_17 : decode cJ19_addEntry 17 = .ok (.aload_n 3, 1) := dk_45 (dk_at dksJ19_addEntry_0 17 rfl rfl)
theorem dJ19_addEntry_18 : decode cJ19_addEntry 18 = .ok (.aload 5, 2) := dk_25 5 (dk_at dksJ19_addEntry_0 18 rfl rfl)
theorem dJ19_addEntry_20 : decode cJ19_addEntry 20 = .ok (.putfield 111, 3) := dk_181 0 111 (dk_at dksJ19_addEntry_0 20 rfl rfl)
theorem dJ19_addEntry_23 : decode cJ19_addEntry 23 = .ok (.goto 9, 3) := dk_167 0 9 (dk_at dksJ19_addEntry_1 0 rfl rfl)
theorem dJ19_addEntry_26 : decode cJ19_addEntry 26 = .ok (.aload_n 3, 1) := dk_45 (dk_at dksJ19_addEntry_1 3 rfl rfl)
theorem dJ19_addEntry_27 : decode cJ19_addEntry 27 = .ok (.aload 5, 2) := dk_25 5 (dk_at dksJ19_addEntry_1 4 rfl rfl)
theorem dJ19_addEntry_29 : decode cJ19_addEntry 29 = .ok (.putfield 114, 3) := dk_181 0 114 (dk_at dksJ19_addEntry_1 6 rfl rfl)
theorem dJ19_addEntry_32 : decode cJ19_addEntry 32 = .ok (.aload_n 0, 1) := dk_42 (dk_at dksJ19_addEntry_1 9 rfl rfl)
theorem dJ19_addEntry_33 : decode cJ19_addEntry 33 = .ok (.aload 5, 2) := dk_25 5 (dk_at dksJ19_addEntry_1 10 rfl rfl)
theorem dJ19_addEntry_35 : decode cJ19_addEntry 35 = .ok (.invokevirtual 170, 3) := dk_182 0 170 (dk_at dksJ19_addEntry_1 12 rfl rfl)
theorem dJ19_addEntry_38 : decode cJ19_addEntry 38 = .ok (.aload_n 0, 1) := dk_42 (dk_at dksJ19_addEntry_1 15 rfl rfl)
theorem dJ19_addEntry_39 : decode cJ19_addEntry 39 = .ok (.dup, 1) := dk_89 (dk_at dksJ19_addEntry_1 16 rfl rfl)
theorem dJ19_addEntry_40 : decode cJ19_addEntry 40 = .ok (.getfield 7, 3) := dk_180 0 7 (dk_at dksJ19_addEntry_1 17 rfl rfl)
theorem dJ19_addEntry_43 : decode cJ19_addEntry 43 = .ok (.iconst 1, 1) := dk_4 (dk_at dksJ19_addEntry_1 20 rfl rfl)
theorem dJ19_addEntry_44 : decode cJ19_addEntry 44 = .ok (.iadd, 1) := dk_96 (dk_at dksJ19_addEntry_1 21 rfl rfl)
theorem dJ19_addEntry_45 : decode cJ19_addEntry 45 = .ok (.putfield 7, 3) := dk_181 0 7 (dk_at dksJ19_addEntry_2 0 rfl rfl)
theorem dJ19_addEntry_48 : decode cJ19_addEntry 48 = .ok (.aload_n 0, 1) := dk_42 (dk_at dksJ19_addEntry_2 3 rfl rfl)
theorem dJ19_addEntry_49 : decode cJ19_addEntry 49 = .ok (.dup, 1) := dk_89 (dk_at dksJ19_addEntry_2 4 rfl rfl)
theorem dJ19_addEntry_50 : decode cJ19_addEntry 50 = .ok (.getfield 13, 3) := dk_180 0 13 (dk_at dksJ19_addEntry_2 5 rfl rfl)
theorem dJ19_addEntry_53 : decode cJ19_addEntry 53 = .ok (.iconst 1, 1) := dk_4 (dk_at dksJ19_addEntry_2 8 rfl rfl)
theorem dJ19_addEntry_54 : decode cJ19_addEntry 54 = .ok (.iadd, 1) := dk_96 (dk_at dksJ19_addEntry_2 9 rfl rfl)
theorem dJ19_addEntry_55 : decode cJ19_addEntry 55 = .ok (.putfield 13, 3) := dk_181 0 13 (dk_at dksJ19_addEntry_2 10 rfl rfl)
theorem dJ19_addEntry_58 : decode cJ19_addEntry 58 = .ok (.return_, 1) := dk_177 (dk_at dksJ19_addEntry_2 13 rfl rfl)
abbrev cJ19_fixAfterInsertion : ByteArray := prog_75_method_83_code
def yJ19_fixAfterInsertion : MethodName := ⟨RJ19, "fixAfterInsertion", "(Ljava/util/TreeMap$Entry;)V"⟩
def dkwJ19_fixAfterInsertion_11 : List UInt8 := [42, 180, 0, 101, 4, 181, 1, 34, 177]
abbrev dktJ19_fixAfterInsertion_11 : List UInt8 := dkwJ19_fixAfterInsertion_11 ++ []
def dkwJ19_fixAfterInsertion_10 : List UInt8 := [184, 1, 38, 184, 1, 38, 3, 184, 1, 51, 42, 43, 184, 1, 38, 184, 1, 38, 182, 1, 55, 167, 255, 6]
abbrev dktJ19_fixAfterInsertion_10 : List UInt8 := dkwJ19_fixAfterInsertion_10 ++ dktJ19_fixAfterInsertion_11
def dkwJ19_fixAfterInsertion_9 : List UInt8 := [166, 0, 13, 43, 184, 1, 38, 76, 42, 43, 182, 1, 58, 43, 184, 1, 38, 4, 184, 1, 51, 43]
abbrev dktJ19_fixAfterInsertion_9 : List UInt8 := dkwJ19_fixAfterInsertion_9 ++ dktJ19_fixAfterInsertion_10
def dkwJ19_fixAfterInsertion_8 : List UInt8 := [184, 1, 51, 43, 184, 1, 38, 184, 1, 38, 76, 167, 0, 54, 43, 43, 184, 1, 38, 184, 1, 41]
abbrev dktJ19_fixAfterInsertion_8 : List UInt8 := dkwJ19_fixAfterInsertion_8 ++ dktJ19_fixAfterInsertion_9
def dkwJ19_fixAfterInsertion_7 : List UInt8 := [154, 0, 38, 43, 184, 1, 38, 4, 184, 1, 51, 44, 4, 184, 1, 51, 43, 184, 1, 38, 184, 1, 38, 3]
abbrev dktJ19_fixAfterInsertion_7 : List UInt8 := dkwJ19_fixAfterInsertion_7 ++ dktJ19_fixAfterInsertion_8
def dkwJ19_fixAfterInsertion_6 : List UInt8 := [184, 1, 38, 182, 1, 58, 167, 255, 113, 43, 184, 1, 38, 184, 1, 38, 184, 1, 41, 77, 44, 184, 1, 47]
abbrev dktJ19_fixAfterInsertion_6 : List UInt8 := dkwJ19_fixAfterInsertion_6 ++ dktJ19_fixAfterInsertion_7
def dkwJ19_fixAfterInsertion_5 : List UInt8 := [43, 184, 1, 38, 4, 184, 1, 51, 43, 184, 1, 38, 184, 1, 38, 3, 184, 1, 51, 42, 43, 184, 1, 38]
abbrev dktJ19_fixAfterInsertion_5 : List UInt8 := dkwJ19_fixAfterInsertion_5 ++ dktJ19_fixAfterInsertion_6
def dkwJ19_fixAfterInsertion_4 : List UInt8 := [167, 0, 54, 43, 43, 184, 1, 38, 184, 1, 44, 166, 0, 13, 43, 184, 1, 38, 76, 42, 43, 182, 1, 55]
abbrev dktJ19_fixAfterInsertion_4 : List UInt8 := dkwJ19_fixAfterInsertion_4 ++ dktJ19_fixAfterInsertion_5
def dkwJ19_fixAfterInsertion_3 : List UInt8 := [184, 1, 51, 43, 184, 1, 38, 184, 1, 38, 3, 184, 1, 51, 43, 184, 1, 38, 184, 1, 38, 76]
abbrev dktJ19_fixAfterInsertion_3 : List UInt8 := dkwJ19_fixAfterInsertion_3 ++ dktJ19_fixAfterInsertion_4
def dkwJ19_fixAfterInsertion_2 : List UInt8 := [184, 1, 38, 184, 1, 44, 77, 44, 184, 1, 47, 154, 0, 38, 43, 184, 1, 38, 4, 184, 1, 51, 44, 4]
abbrev dktJ19_fixAfterInsertion_2 : List UInt8 := dkwJ19_fixAfterInsertion_2 ++ dktJ19_fixAfterInsertion_3
def dkwJ19_fixAfterInsertion_1 : List UInt8 := [154, 0, 234, 43, 184, 1, 38, 43, 184, 1, 38, 184, 1, 38, 184, 1, 41, 166, 0, 110, 43, 184, 1, 38]
abbrev dktJ19_fixAfterInsertion_1 : List UInt8 := dkwJ19_fixAfterInsertion_1 ++ dktJ19_fixAfterInsertion_2
def dkwJ19_fixAfterInsertion_0 : List UInt8 := [43, 3, 181, 1, 34, 43, 198, 0, 252, 43, 42, 180, 0, 101, 165, 0, 244, 43, 180, 0, 124, 180, 1, 34]
abbrev dktJ19_fixAfterInsertion_0 : List UInt8 := dkwJ19_fixAfterInsertion_0 ++ dktJ19_fixAfterInsertion_1
theorem dksJ19_fixAfterInsertion_0 : cJ19_fixAfterInsertion.data.toList.drop 0 = dktJ19_fixAfterInsertion_0 := by decide +kernel
theorem dksJ19_fixAfterInsertion_1 : cJ19_fixAfterInsertion.data.toList.drop 24 = dktJ19_fixAfterInsertion_1 := dk_seg dksJ19_fixAfterInsertion_0 24 rfl rfl
theorem dksJ19_fixAfterInsertion_2 : cJ19_fixAfterInsertion.data.toList.drop 48 = dktJ19_fixAfterInsertion_2 := dk_seg dksJ19_fixAfterInsertion_1 24 rfl rfl
theorem dksJ19_fixAfterInsertion_3 : cJ19_fixAfterInsertion.data.toList.drop 72 = dktJ19_fixAfterInsertion_3 := dk_seg dksJ19_fixAfterInsertion_2 24 rfl rfl
theorem dksJ19_fixAfterInsertion_4 : cJ19_fixAfterInsertion.data.toList.drop 94 = dktJ19_fixAfterInsertion_4 := dk_seg dksJ19_fixAfterInsertion_3 22 rfl rfl
theorem dksJ19_fixAfterInsertion_5 : cJ19_fixAfterInsertion.data.toList.drop 118 = dktJ19_fixAfterInsertion_5 := dk_seg dksJ19_fixAfterInsertion_4 24 rfl rfl
theorem dksJ19_fixAfterInsertion_6 : cJ19_fixAfterInsertion.data.toList.drop 142 = dktJ19_fixAfterInsertion_6 := dk_seg dksJ19_fixAfterInsertion_5 24 rfl rfl
theorem dksJ19_fixAfterInsertion_7 : cJ19_fixAfterInsertion.data.toList.drop 166 = dktJ19_fixAfterInsertion_7 := dk_seg dksJ19_fixAfterInsertion_6 24 rfl rfl
theorem dksJ19_fixAfterInsertion_8 : cJ19_fixAfterInsertion.data.toList.drop 190 = dktJ19_fixAfterInsertion_8 := dk_seg dksJ19_fixAfterInsertion_7 24 rfl rfl
theorem dksJ19_fixAfterInsertion_9 : cJ19_fixAfterInsertion.data.toList.drop 212 = dktJ19_fixAfterInsertion_9 := dk_seg dksJ19_fixAfterInsertion_8 22 rfl rfl
theorem dksJ19_fixAfterInsertion_10 : cJ19_fixAfterInsertion.data.toList.drop 234 = dktJ19_fixAfterInsertion_10 := dk_seg dksJ19_fixAfterInsertion_9 22 rfl rfl
theorem dksJ19_fixAfterInsertion_11 : cJ19_fixAfterInsertion.data.toList.drop 258 = dktJ19_fixAfterInsertion_11 := dk_seg dksJ19_fixAfterInsertion_10 24 rfl rfl
theorem dJ19_fixAfterInsertion_0 : decode cJ19_fixAfterInsertion 0 = .ok (.aload_n 1, 1) := dk_43 (dk_at dksJ19_fixAfterInsertion_0 0 rfl rfl)
theorem dJ19_fixAfterInsertion_1 : decode cJ19_fixAfterInsertion 1 = .ok (.iconst 0, 1) := dk_3 (dk_at dksJ19_fixAfterInsertion_0 1 rfl rfl)
theorem dJ19_fixAfterInsertion_2 : decode cJ19_fixAfterInsertion 2 = .ok (.putfield 290, 3) := dk_181 1 34 (dk_at dksJ19_fixAfterInsertion_0 2 rfl rfl)
theorem dJ19_fixAfterInsertion_5 : decode cJ19_fixAfterInsertion 5 = .ok (.aload_n 1, 1) := dk_43 (dk_at dksJ19_fixAfterInsertion_0 5 rfl rfl)
theorem dJ19_fixAfterInsertion_6 : decode cJ19_fixAfterInsertion 6 = .ok (.ifnull 252, 3) := dk_198 0 252 (dk_at dksJ19_fixAfterInsertion_0 6 rfl rfl)
theorem dJ19_fixAfterInsertion_9 : decode cJ19_fixAfterInsertion 9 = .ok (.aload_n 1, 1) := dk_43 (dk_at dksJ19_fixAfterInsertion_0 9 rfl rfl)
theorem dJ19_fixAfterInsertion_10 : decode cJ19_fixAfterInsertion 10 = .ok (.aload_n 0, 1) := dk_42 (dk_at dksJ19_fixAfterInsertion_0 10 rfl rfl)
theorem dJ19_fixAfterInsertion_11 : decode cJ19_fixAfterInsertion 11 = .ok (.getfield 101, 3) := dk_180 0 101 (dk_at dksJ19_fixAfterInsertion_0 11 rfl rfl)
theorem dJ19_fixAfterInsertion_14 : decode cJ19_fixAfterInsertion 14 = .ok (.if_acmp .eq 244, 3) := dk_165 0 244 (dk_at dksJ19_fixAfterInsertion_0 14 rfl rfl)
theorem dJ19_fixAfterInsertion_17 : decode cJ19_fixAfterInsertion 17 = .ok (.aload_n 1, 1) := dk_43 (dk_at dksJ19_fixAfterInsertion_0 17 rfl rfl)
theorem dJ19_fixAfterInsertion_18 : decode cJ19_fixAfterInsertion 18 = .ok (.getfield 124, 3) := dk_180 0 124 (dk_at dksJ19_fixAfterInsertion_0 18 rfl rfl)
theorem dJ19_fixAfterInsertion_21 : decode cJ19_fixAfterInsertion 21 = .ok (.getfield 290, 3) := dk_180 1 34 (dk_at dksJ19_fixAfterInsertion_0 21 rfl rfl)
theorem dJ19_fixAfterInsertion_24 : decode cJ19_fixAfterInsertion 24 = .ok (.ifCond .ne 234, 3) := dk_154 0 234 (dk_at dksJ19_fixAfterInsertion_1 0 rfl rfl)
theorem dJ19_fixAfterInsertion_27 : decode cJ19_fixAfterInsertion 27 = .ok (.aload_n 1, 1) := dk_43 (dk_at dksJ19_fixAfterInsertion_1 3 rfl rfl)
theorem dJ19_fixAfterInsertion_28 : decode cJ19_fixAfterInsertion 28 = .ok (.invokestatic 294, 3) := dk_184 1 38 (dk_at dksJ19_fixAfterInsertion_1 4 rfl rfl)
theorem dJ19_fixAfterInsertion_31 : decode cJ19_fixAfterInsertion 31 = .ok (.aload_n 1, 1) := dk_43 (dk_at dksJ19_fixAfterInsertion_1 7 rfl rfl)
theorem dJ19_fixAfterInsertion_32 : decode cJ19_fixAfterInsertion 32 = .ok (.invokestatic 294, 3) := dk_184 1 38 (dk_at dksJ19_fixAfterInsertion_1 8 rfl rfl)
theorem dJ19_fixAfterInsertion_35 : decode cJ19_fixAfterInsertion 35 = .ok (.invokestatic 294, 3) := dk_184 1 38 (dk_at dksJ19_fixAfterInsertion_1 11 rfl rfl)
theorem dJ19_fixAfterInsertion_38 : decode cJ19_fixAfterInsertion 38 = .ok (.invokestatic 297, 3) := dk_184 1 41 (dk_at dksJ19_fixAfterInsertion_1 14 rfl rfl)
theorem dJ19_fixAfterInsertion_41 : decode cJ19_fixAfterInsertion 41 = .ok (.if_acmp .ne 110, 3) := dk_166 0 110 (dk_at dksJ19_fixAfterInsertion_1 17 rfl rfl)
theorem dJ19_fixAfterInsertion_44 : decode cJ19_fixAfterInsertion 44 = .ok (.aload_n 1, 1) := dk_43 (dk_at dksJ19_fixAfterInsertion_1 20 rfl rfl)
theorem dJ19_fixAfterInsertion_45 : decode cJ19_fixAfterInsertion 45 = .ok (.invokestatic 294, 3) := dk_184 1 38 (dk_at dksJ19_fixAfterInsertion_1 21 rfl rfl)
theorem dJ19_fixAfterInsertion_48 : decode cJ19_fixAfterInsertion 48 = .ok (.invokestatic 294, 3) := dk_184 1 38 (dk_at dksJ19_fixAfterInsertion_2 0 rfl rfl)
theorem dJ19_fixAfterInsertion_51 : decode cJ19_fixAfterInsertion 51 = .ok (.invokestatic 300, 3) := dk_184 1 44 (dk_at dksJ19_fixAfterInsertion_2 3 rfl rfl)
theorem dJ19_fixAfterInsertion_54 : decode cJ19_fixAfterInsertion 54 = .ok (.astore_n 2, 1) := dk_77 (dk_at dksJ19_fixAfterInsertion_2 6 rfl rfl)
theorem dJ19_fixAfterInsertion_55 : decode cJ19_fixAfterInsertion 55 = .ok (.aload_n 2, 1) := dk_44 (dk_at dksJ19_fixAfterInsertion_2 7 rfl rfl)
theorem dJ19_fixAfterInsertion_56 : decode cJ19_fixAfterInsertion 56 = .ok (.invokestatic 303, 3) := dk_184 1 47 (dk_at dksJ19_fixAfterInsertion_2 8 rfl rfl)
theorem dJ19_fixAfterInsertion_59 : decode cJ19_fixAfterInsertion 59 = .ok (.ifCond .ne 38, 3) := dk_154 0 38 (dk_at dksJ19_fixAfterInsertion_2 11 rfl rfl)
theorem dJ19_fixAfterInsertion_62 : decode cJ19_fixAfterInsertion 62 = .ok (.aload_n 1, 1) := dk_43 (dk_at dksJ19_fixAfterInsertion_2 14 rfl rfl)
theorem dJ19_fixAfterInsertion_63 : decode cJ19_fixAfterInsertion 63 = .ok (.invokestatic 294, 3) := dk_184 1 38 (dk_at dksJ19_fixAfterInsertion_2 15 rfl rfl)
theorem dJ19_fixAfterInsertion_66 : decode cJ19_fixAfterInsertion 66 = .ok (.iconst 1, 1) := dk_4 (dk_at dksJ19_fixAfterInsertion_2 18 rfl rfl)
theorem dJ19_fixAfterInsertion_67 : decode cJ19_fixAfterInsertion 67 = .ok (.invokestatic 307, 3) := dk_184 1 51 (dk_at dksJ19_fixAfterInsertion_2 19 rfl rfl)
theorem dJ19_fixAfterInsertion_70 : decode cJ19_fixAfterInsertion 70 = .ok (.aload_n 2, 1) := dk_44 (dk_at dksJ19_fixAfterInsertion_2 22 rfl rfl)
theorem dJ19_fixAfterInsertion_71 : decode cJ19_fixAfterInsertion 71 = .ok (.iconst 1, 1) := dk_4 (dk_at dksJ19_fixAfterInsertion_2 23 rfl rfl)
theorem dJ19_fixAfterInsertion_72 : decode cJ19_fixAfterInsertion 72 = .ok (.invokestatic 307, 3) := dk_184 1 51 (dk_at dksJ19_fixAfterInsertion_3 0 rfl rfl)
theorem dJ19_fixAfterInsertion_75 : decode cJ19_fixAfterInsertion 75 = .ok (.aload_n 1, 1) := dk_43 (dk_at dksJ19_fixAfterInsertion_3 3 rfl rfl)
theorem dJ19_fixAfterInsertion_76 : decode cJ19_fixAfterInsertion 76 = .ok (.invokestatic 294, 3) := dk_184 1 38 (dk_at dksJ19_fixAfterInsertion_3 4 rfl rfl)
theorem dJ19_fixAfterInsertion_79 : decode cJ19_fixAfterInsertion 79 = .ok (.invokestatic 294, 3) := dk_184 1 38 (dk_at dksJ19_fixAfterInsertion_3 7 rfl rfl)
theorem dJ19_fixAfterInsertion_82 : decode cJ19_fixAfterInsertion 82 = .ok (.iconst 0, 1) := dk_3 (dk_at dksJ19_fixAfterInsertion_3 10 rfl rfl)
theorem dJ19_fixAfterInsertion_83 : decode cJ19_fixAfterInsertion 83 = .ok (.invokestatic 307, 3) := dk_184 1 51 (dk_at dksJ19_fixAfterInsertion_3 11 rfl rfl)
theorem dJ19_fixAfterInsertion_86 : decode cJ19_fixAfterInsertion 86 = .ok (.aload_n 1, 1) := dk_43 (dk_at dksJ19_fixAfterInsertion_3 14 rfl rfl)
theorem dJ19_fixAfterInsertion_87 : decode cJ19_fixAfterInsertion 87 = .ok (.invokestatic 294, 3) := dk_184 1 38 (dk_at dksJ19_fixAfterInsertion_3 15 rfl rfl)
theorem dJ19_fixAfterInsertion_90 : decode cJ19_fixAfterInsertion 90 = .ok (.invokestatic 294, 3) := dk_184 1 38 (dk_at dksJ19_fixAfterInsertion_3 18 rfl rfl)
theorem dJ19_fixAfterInsertion_93 : decode cJ19_fixAfterInsertion 93 = .ok (.astore_n 1, 1) := dk_76 (dk_at dksJ19_fixAfterInsertion_3 21 rfl rfl)
theorem dJ19_fixAfterInsertion_94 : decode cJ19_fixAfterInsertion 94 = .ok (.goto 54, 3) := dk_167 0 54 (dk_at dksJ19_fixAfterInsertion_4 0 rfl rfl)
theorem dJ19_fixAfterInsertion_97 : decode cJ19_fixAfterInsertion 97 = .ok (.aload_n 1, 1) := dk_43 (dk_at dksJ19_fixAfterInsertion_4 3 rfl rfl)
theorem dJ19_fixAfterInsertion_98 : decode cJ19_fixAfterInsertion 98 = .ok (.aload_n 1, 1) := dk_43 (dk_at dksJ19_fixAfterInsertion_4 4 rfl rfl)
theorem dJ19_fixAfterInsertion_99 : decode cJ19_fixAfterInsertion 99 = .ok (.invokestatic 294, 3) := dk_184 1 38 (dk_at dksJ19_fixAfterInsertion_4 5 rfl rfl)
theorem dJ19_fixAfterInsertion_102 : decode cJ19_fixAfterInsertion 102 = .ok (.invokestatic 300, 3) := dk_184 1 44 (dk_at dksJ19_fixAfterInsertion_4 8 rfl rfl)
theorem dJ19_fixAfterInsertion_105 : decode cJ19_fixAfterInsertion 105 = .ok (.if_acmp .ne 13, 3) := dk_166 0 13 (dk_at dksJ19_fixAfterInsertion_4 11 rfl rfl)
theorem dJ19_fixAfterInsertion_108 : decode cJ19_fixAfterInsertion 108 = .ok (.aload_n 1, 1) := dk_43 (dk_at dksJ19_fixAfterInsertion_4 14 rfl rfl)
theorem dJ19_fixAfterInsertion_109 : decode cJ19_fixAfterInsertion 109 = .ok (.invokestatic 294, 3) := dk_184 1 38 (dk_at dksJ19_fixAfterInsertion_4 15 rfl rfl)
theorem dJ19_fixAfterInsertion_112 : decode cJ19_fixAfterInsertion 112 = .ok (.astore_n 1, 1) := dk_76 (dk_at dksJ19_fixAfterInsertion_4 18 rfl rfl)
theorem dJ19_fixAfterInsertion_113 : decode cJ19_fixAfterInsertion 113 = .ok (.aload_n 0, 1) := dk_42 (dk_at dksJ19_fixAfterInsertion_4 19 rfl rfl)
theorem dJ19_fixAfterInsertion_114 : decode cJ19_fixAfterInsertion 114 = .ok (.aload_n 1, 1) := dk_43 (dk_at dksJ19_fixAfterInsertion_4 20 rfl rfl)
theorem dJ19_fixAfterInsertion_115 : decode cJ19_fixAfterInsertion 115 = .ok (.invokevirtual 311, 3) := dk_182 1 55 (dk_at dksJ19_fixAfterInsertion_4 21 rfl rfl)
theorem dJ19_fixAfterInsertion_118 : decode cJ19_fixAfterInsertion 118 = .ok (.aload_n 1, 1) := dk_43 (dk_at dksJ19_fixAfterInsertion_5 0 rfl rfl)
theorem dJ19_fixAfterInsertion_119 : decode cJ19_fixAfterInsertion 119 = .ok (.invokestatic 294, 3) := dk_184 1 38 (dk_at dksJ19_fixAfterInsertion_5 1 rfl rfl)
theorem dJ19_fixAfterInsertion_122 : decode cJ19_fixAfterInsertion 122 = .ok (.iconst 1, 1) := dk_4 (dk_at dksJ19_fixAfterInsertion_5 4 rfl rfl)
theorem dJ19_fixAfterInsertion_123 : decode cJ19_fixAfterInsertion 123 = .ok (.invokestatic 307, 3) := dk_184 1 51 (dk_at dksJ19_fixAfterInsertion_5 5 rfl rfl)
theorem dJ19_fixAfterInsertion_126 : decode cJ19_fixAfterInsertion 126 = .ok (.aload_n 1, 1) := dk_43 (dk_at dksJ19_fixAfterInsertion_5 8 rfl rfl)
theorem dJ19_fixAfterInsertion_127 : decode cJ19_fixAfterInsertion 127 = .ok (.invokestatic 294, 3) := dk_184 1 38 (dk_at dksJ19_fixAfterInsertion_5 9 rfl rfl)
theorem dJ19_fixAfterInsertion_130 : decode cJ19_fixAfterInsertion 130 = .ok (.invokestatic 294, 3) := dk_184 1 38 (dk_at dksJ19_fixAfterInsertion_5 12 rfl rfl)
theorem dJ19_fixAfterInsertion_133 : decode cJ19_fixAfterInsertion 133 = .ok (.iconst 0, 1) := dk_3 (dk_at dksJ19_fixAfterInsertion_5 15 rfl rfl)
theorem dJ19_fixAfterInsertion_134 : decode cJ19_fixAfterInsertion 134 = .ok (.invokestatic 307, 3) := dk_184 1 51 (dk_at dksJ19_fixAfterInsertion_5 16 rfl rfl)
theorem dJ19_fixAfterInsertion_137 : decode cJ19_fixAfterInsertion 137 = .ok (.aload_n 0, 1) := dk_42 (dk_at dksJ19_fixAfterInsertion_5 19 rfl rfl)
theorem dJ19_fixAfterInsertion_138 : decode cJ19_fixAfterInsertion 138 = .ok (.aload_n 1, 1) := dk_43 (dk_at dksJ19_fixAfterInsertion_5 20 rfl rfl)
theorem dJ19_fixAfterInsertion_139 : decode cJ19_fixAfterInsertion 139 = .ok (.invokestatic 294, 3) := dk_184 1 38 (dk_at dksJ19_fixAfterInsertion_5 21 rfl rfl)
theorem dJ19_fixAfterInsertion_142 : decode cJ19_fixAfterInsertion 142 = .ok (.invokestatic 294, 3) := dk_184 1 38 (dk_at dksJ19_fixAfterInsertion_6 0 rfl rfl)
theorem dJ19_fixAfterInsertion_145 : decode cJ19_fixAfterInsertion 145 = .ok (.invokevirtual 314, 3) := dk_182 1 58 (dk_at dksJ19_fixAfterInsertion_6 3 rfl rfl)
theorem dJ19_fixAfterInsertion_148 : decode cJ19_fixAfterInsertion 148 = .ok (.goto (-143), 3) := dk_167 255 113 (dk_at dksJ19_fixAfterInsertion_6 6 rfl rfl)
theorem dJ19_fixAfterInsertion_151 : decode cJ19_fixAfterInsertion 151 = .ok (.aload_n 1, 1) := dk_43 (dk_at dksJ19_fixAfterInsertion_6 9 rfl rfl)
theorem dJ19_fixAfterInsertion_152 : decode cJ19_fixAfterInsertion 152 = .ok (.invokestatic 294, 3) := dk_184 1 38 (dk_at dksJ19_fixAfterInsertion_6 10 rfl rfl)
theorem dJ19_fixAfterInsertion_155 : decode cJ19_fixAfterInsertion 155 = .ok (.invokestatic 294, 3) := dk_184 1 38 (dk_at dksJ19_fixAfterInsertion_6 13 rfl rfl)
theorem dJ19_fixAfterInsertion_158 : decode cJ19_fixAfterInsertion 158 = .ok (.invokestatic 297, 3) := dk_184 1 41 (dk_at dksJ19_fixAfterInsertion_6 16 rfl rfl)
theorem dJ19_fixAfterInsertion_161 : decode cJ19_fixAfterInsertion 161 = .ok (.astore_n 2, 1) := dk_77 (dk_at dksJ19_fixAfterInsertion_6 19 rfl rfl)
theorem dJ19_fixAfterInsertion_162 : decode cJ19_fixAfterInsertion 162 = .ok (.aload_n 2, 1) := dk_44 (dk_at dksJ19_fixAfterInsertion_6 20 rfl rfl)
theorem dJ19_fixAfterInsertion_163 : decode cJ19_fixAfterInsertion 163 = .ok (.invokestatic 303, 3) := dk_184 1 47 (dk_at dksJ19_fixAfterInsertion_6 21 rfl rfl)
theorem dJ19_fixAfterInsertion_166 : decode cJ19_fixAfterInsertion 166 = .ok (.ifCond .ne 38, 3) := dk_154 0 38 (dk_at dksJ19_fixAfterInsertion_7 0 rfl rfl)
theorem dJ19_fixAfterInsertion_169 : decode cJ19_fixAfterInsertion 169 = .ok (.aload_n 1, 1) := dk_43 (dk_at dksJ19_fixAfterInsertion_7 3 rfl rfl)
theorem dJ19_fixAfterInsertion_170 : decode cJ19_fixAfterInsertion 170 = .ok (.invokestatic 294, 3) := dk_184 1 38 (dk_at dksJ19_fixAfterInsertion_7 4 rfl rfl)
theorem dJ19_fixAfterInsertion_173 : decode cJ19_fixAfterInsertion 173 = .ok (.iconst 1, 1) := dk_4 (dk_at dksJ19_fixAfterInsertion_7 7 rfl rfl)
theorem dJ19_fixAfterInsertion_174 : decode cJ19_fixAfterInsertion 174 = .ok (.invokestatic 307, 3) := dk_184 1 51 (dk_at dksJ19_fixAfterInsertion_7 8 rfl rfl)
theorem dJ19_fixAfterInsertion_177 : decode cJ19_fixAfterInsertion 177 = .ok (.aload_n 2, 1) := dk_44 (dk_at dksJ19_fixAfterInsertion_7 11 rfl rfl)
theorem dJ19_fixAfterInsertion_178 : decode cJ19_fixAfterInsertion 178 = .ok (.iconst 1, 1) := dk_4 (dk_at dksJ19_fixAfterInsertion_7 12 rfl rfl)
theorem dJ19_fixAfterInsertion_179 : decode cJ19_fixAfterInsertion 179 = .ok (.invokestatic 307, 3) := dk_184 1 51 (dk_at dksJ19_fixAfterInsertion_7 13 rfl rfl)
theorem dJ19_fixAfterInsertion_182 : decode cJ19_fixAfterInsertion 182 = .ok (.aload_n 1, 1) := dk_43 (dk_at dksJ19_fixAfterInsertion_7 16 rfl rfl)
theorem dJ19_fixAfterInsertion_183 : decode cJ19_fixAfterInsertion 183 = .ok (.invokestatic 294, 3) := dk_184 1 38 (dk_at dksJ19_fixAfterInsertion_7 17 rfl rfl)
theorem dJ19_fixAfterInsertion_186 : decode cJ19_fixAfterInsertion 186 = .ok (.invokestatic 294, 3) := dk_184 1 38 (dk_at dksJ19_fixAfterInsertion_7 20 rfl rfl)
theorem dJ19_fixAfterInsertion_189 : decode cJ19_fixAfterInsertion 189 = .ok (.iconst 0, 1) := dk_3 (dk_at dksJ19_fixAfterInsertion_7 23 rfl rfl)
theorem dJ19_fixAfterInsertion_190 : decode cJ19_fixAfterInsertion 190 = .ok (.invokestatic 307, 3) := dk_184 1 51 (dk_at dksJ19_fixAfterInsertion_8 0 rfl rfl)
theorem dJ19_fixAfterInsertion_193 : decode cJ19_fixAfterInsertion 193 = .ok (.aload_n 1, 1) := dk_43 (dk_at dksJ19_fixAfterInsertion_8 3 rfl rfl)
theorem dJ19_fixAfterInsertion_194 : decode cJ19_fixAfterInsertion 194 = .ok (.invokestatic 294, 3) := dk_184 1 38 (dk_at dksJ19_fixAfterInsertion_8 4 rfl rfl)
theorem dJ19_fixAfterInsertion_197 : decode cJ19_fixAfterInsertion 197 = .ok (.invokestatic 294, 3) := dk_184 1 38 (dk_at dksJ19_fixAfterInsertion_8 7 rfl rfl)
theorem dJ19_fixAfterInsertion_200 : decode cJ19_fixAfterInsertion 200 = .ok (.astore_n 1, 1) := dk_76 (dk_at dksJ19_fixAfterInsertion_8 10 rfl rfl)
theorem dJ19_fixAfterInsertion_201 : decode cJ19_fixAfterInsertion 201 = .ok (.goto 54, 3) := dk_167 0 54 (dk_at dksJ19_fixAfterInsertion_8 11 rfl rfl)
theorem dJ19_fixAfterInsertion_204 : decode cJ19_fixAfterInsertion 204 = .ok (.aload_n 1, 1) := dk_43 (dk_at dksJ19_fixAfterInsertion_8 14 rfl rfl)
theorem dJ19_fixAfterInsertion_205 : decode cJ19_fixAfterInsertion 205 = .ok (.aload_n 1, 1) := dk_43 (dk_at dksJ19_fixAfterInsertion_8 15 rfl rfl)
theorem dJ19_fixAfterInsertion_206 : decode cJ19_fixAfterInsertion 206 = .ok (.invokestatic 294, 3) := dk_184 1 38 (dk_at dksJ19_fixAfterInsertion_8 16 rfl rfl)
theorem dJ19_fixAfterInsertion_209 : decode cJ19_fixAfterInsertion 209 = .ok (.invokestatic 297, 3) := dk_184 1 41 (dk_at dksJ19_fixAfterInsertion_8 19 rfl rfl)
theorem dJ19_fixAfterInsertion_212 : decode cJ19_fixAfterInsertion 212 = .ok (.if_acmp .ne 13, 3) := dk_166 0 13 (dk_at dksJ19_fixAfterInsertion_9 0 rfl rfl)
theorem dJ19_fixAfterInsertion_215 : decode cJ19_fixAfterInsertion 215 = .ok (.aload_n 1, 1) := dk_43 (dk_at dksJ19_fixAfterInsertion_9 3 rfl rfl)
theorem dJ19_fixAfterInsertion_216 : decode cJ19_fixAfterInsertion 216 = .ok (.invokestatic 294, 3) := dk_184 1 38 (dk_at dksJ19_fixAfterInsertion_9 4 rfl rfl)
theorem dJ19_fixAfterInsertion_219 : decode cJ19_fixAfterInsertion 219 = .ok (.astore_n 1, 1) := dk_76 (dk_at dksJ19_fixAfterInsertion_9 7 rfl rfl)
theorem dJ19_fixAfterInsertion_220 : decode cJ19_fixAfterInsertion 220 = .ok (.aload_n 0, 1) := dk_42 (dk_at dksJ19_fixAfterInsertion_9 8 rfl rfl)
theorem dJ19_fixAfterInsertion_221 : decode cJ19_fixAfterInsertion 221 = .ok (.aload_n 1, 1) := dk_43 (dk_at dksJ19_fixAfterInsertion_9 9 rfl rfl)
theorem dJ19_fixAfterInsertion_222 : decode cJ19_fixAfterInsertion 222 = .ok (.invokevirtual 314, 3) := dk_182 1 58 (dk_at dksJ19_fixAfterInsertion_9 10 rfl rfl)
theorem dJ19_fixAfterInsertion_225 : decode cJ19_fixAfterInsertion 225 = .ok (.aload_n 1, 1) := dk_43 (dk_at dksJ19_fixAfterInsertion_9 13 rfl rfl)
theorem dJ19_fixAfterInsertion_226 : decode cJ19_fixAfterInsertion 226 = .ok (.invokestatic 294, 3) := dk_184 1 38 (dk_at dksJ19_fixAfterInsertion_9 14 rfl rfl)
theorem dJ19_fixAfterInsertion_229 : decode cJ19_fixAfterInsertion 229 = .ok (.iconst 1, 1) := dk_4 (dk_at dksJ19_fixAfterInsertion_9 17 rfl rfl)
theorem dJ19_fixAfterInsertion_230 : decode cJ19_fixAfterInsertion 230 = .ok (.invokestatic 307, 3) := dk_184 1 51 (dk_at dksJ19_fixAfterInsertion_9 18 rfl rfl)
theorem dJ19_fixAfterInsertion_233 : decode cJ19_fixAfterInsertion 233 = .ok (.aload_n 1, 1) := dk_43 (dk_at dksJ19_fixAfterInsertion_9 21 rfl rfl)
theorem dJ19_fixAfterInsertion_234 : decode cJ19_fixAfterInsertion 234 = .ok (.invokestatic 294, 3) := dk_184 1 38 (dk_at dksJ19_fixAfterInsertion_10 0 rfl rfl)
theorem dJ19_fixAfterInsertion_237 : decode cJ19_fixAfterInsertion 237 = .ok (.invokestatic 294, 3) := dk_184 1 38 (dk_at dksJ19_fixAfterInsertion_10 3 rfl rfl)
theorem dJ19_fixAfterInsertion_240 : decode cJ19_fixAfterInsertion 240 = .ok (.iconst 0, 1) := dk_3 (dk_at dksJ19_fixAfterInsertion_10 6 rfl rfl)
theorem dJ19_fixAfterInsertion_241 : decode cJ19_fixAfterInsertion 241 = .ok (.invokestatic 307, 3) := dk_184 1 51 (dk_at dksJ19_fixAfterInsertion_10 7 rfl rfl)
theorem dJ19_fixAfterInsertion_244 : decode cJ19_fixAfterInsertion 244 = .ok (.aload_n 0, 1) := dk_42 (dk_at dksJ19_fixAfterInsertion_10 10 rfl rfl)
theorem dJ19_fixAfterInsertion_245 : decode cJ19_fixAfterInsertion 245 = .ok (.aload_n 1, 1) := dk_43 (dk_at dksJ19_fixAfterInsertion_10 11 rfl rfl)
theorem dJ19_fixAfterInsertion_246 : decode cJ19_fixAfterInsertion 246 = .ok (.invokestatic 294, 3) := dk_184 1 38 (dk_at dksJ19_fixAfterInsertion_10 12 rfl rfl)
theorem dJ19_fixAfterInsertion_249 : decode cJ19_fixAfterInsertion 249 = .ok (.invokestatic 294, 3) := dk_184 1 38 (dk_at dksJ19_fixAfterInsertion_10 15 rfl rfl)
theorem dJ19_fixAfterInsertion_252 : decode cJ19_fixAfterInsertion 252 = .ok (.invokevirtual 311, 3) := dk_182 1 55 (dk_at dksJ19_fixAfterInsertion_10 18 rfl rfl)
theorem dJ19_fixAfterInsertion_255 : decode cJ19_fixAfterInsertion 255 = .ok (.goto (-250), 3) := dk_167 255 6 (dk_at dksJ19_fixAfterInsertion_10 21 rfl rfl)
theorem dJ19_fixAfterInsertion_258 : decode cJ19_fixAfterInsertion 258 = .ok (.aload_n 0, 1) := dk_42 (dk_at dksJ19_fixAfterInsertion_11 0 rfl rfl)
theorem dJ19_fixAfterInsertion_259 : decode cJ19_fixAfterInsertion 259 = .ok (.getfield 101, 3) := dk_180 0 101 (dk_at dksJ19_fixAfterInsertion_11 1 rfl rfl)
theorem dJ19_fixAfterInsertion_262 : decode cJ19_fixAfterInsertion 262 = .ok (.iconst 1, 1) := dk_4 (dk_at dksJ19_fixAfterInsertion_11 4 rfl rfl)
theorem dJ19_fixAfterInsertion_263 : decode cJ19_fixAfterInsertion 263 = .ok (.putfield 290, 3) := dk_181 1 34 (dk_at dksJ19_fixAfterInsertion_11 5 rfl rfl)
theorem dJ19_fixAfterInsertion_266 : decode cJ19_fixAfterInsertion 266 = .ok (.return_, 1) := dk_177 (dk_at dksJ19_fixAfterInsertion_11 8 rfl rfl)
abbrev cJ19_parentOf : ByteArray := prog_75_method_77_code
def yJ19_parentOf : MethodName := ⟨RJ19, "parentOf", "(Ljava/util/TreeMap$Entry;)Ljava/util/TreeMap$Entry;"⟩
def dkwJ19_parentOf_0 : List UInt8 := [42, 199, 0, 7, 1, 167, 0, 7, 42, 180, 0, 124, 176]
abbrev dktJ19_parentOf_0 : List UInt8 := dkwJ19_parentOf_0 ++ []
theorem dksJ19_parentOf_0 : cJ19_parentOf.data.toList.drop 0 = dktJ19_parentOf_0 := by decide +kernel
theorem dJ19_parentOf_0 : decode cJ19_parentOf 0 = .ok (.aload_n 0, 1) := dk_42 (dk_at dksJ19_parentOf_0 0 rfl rfl)
theorem dJ19_parentOf_1 : decode cJ19_parentOf 1 = .ok (.ifnonnull 7, 3) := dk_199 0 7 (dk_at dksJ19_parentOf_0 1 rfl rfl)
theorem dJ19_parentOf_4 : decode cJ19_parentOf 4 = .ok (.aconst_null, 1) := dk_1 (dk_at dksJ19_parentOf_0 4 rfl rfl)
theorem dJ19_parentOf_5 : decode cJ19_parentOf 5 = .ok (.goto 7, 3) := dk_167 0 7 (dk_at dksJ19_parentOf_0 5 rfl rfl)
theorem dJ19_parentOf_8 : decode cJ19_parentOf 8 = .ok (.aload_n 0, 1) := dk_42 (dk_at dksJ19_parentOf_0 8 rfl rfl)
theorem dJ19_parentOf_9 : decode cJ19_parentOf 9 = .ok (.getfield 124, 3) := dk_180 0 124 (dk_at dksJ19_parentOf_0 9 rfl rfl)
theorem dJ19_parentOf_12 : decode cJ19_parentOf 12 = .ok (.areturn, 1) := dk_176 (dk_at dksJ19_parentOf_0 12 rfl rfl)
abbrev cJ19_leftOf : ByteArray := prog_75_method_79_code
def yJ19_leftOf : MethodName := ⟨RJ19, "leftOf", "(Ljava/util/TreeMap$Entry;)Ljava/util/TreeMap$Entry;"⟩
def dkwJ19_leftOf_0 : List UInt8 := [42, 199, 0, 7, 1, 167, 0, 7, 42, 180, 0, 111, 176]
abbrev dktJ19_leftOf_0 : List UInt8 := dkwJ19_leftOf_0 ++ []
theorem dksJ19_leftOf_0 : cJ19_leftOf.data.toList.drop 0 = dktJ19_leftOf_0 := by decide +kernel
theorem dJ19_leftOf_0 : decode cJ19_leftOf 0 = .ok (.aload_n 0, 1) := dk_42 (dk_at dksJ19_leftOf_0 0 rfl rfl)
theorem dJ19_leftOf_1 : decode cJ19_leftOf 1 = .ok (.ifnonnull 7, 3) := dk_199 0 7 (dk_at dksJ19_leftOf_0 1 rfl rfl)
theorem dJ19_leftOf_4 : decode cJ19_leftOf 4 = .ok (.aconst_null, 1) := dk_1 (dk_at dksJ19_leftOf_0 4 rfl rfl)
theorem dJ19_leftOf_5 : decode cJ19_leftOf 5 = .ok (.goto 7, 3) := dk_167 0 7 (dk_at dksJ19_leftOf_0 5 rfl rfl)
theorem dJ19_leftOf_8 : decode cJ19_leftOf 8 = .ok (.aload_n 0, 1) := dk_42 (dk_at dksJ19_leftOf_0 8 rfl rfl)
theorem dJ19_leftOf_9 : decode cJ19_leftOf 9 = .ok (.getfield 111, 3) := dk_180 0 111 (dk_at dksJ19_leftOf_0 9 rfl rfl)
theorem dJ19_leftOf_12 : decode cJ19_leftOf 12 = .ok (.areturn, 1) := dk_176 (dk_at dksJ19_leftOf_0 12 rfl rfl)
abbrev cJ19_rightOf : ByteArray := prog_75_method_80_code
def yJ19_rightOf : MethodName := ⟨RJ19, "rightOf", "(Ljava/util/TreeMap$Entry;)Ljava/util/TreeMap$Entry;"⟩
def dkwJ19_rightOf_0 : List UInt8 := [42, 199, 0, 7, 1, 167, 0, 7, 42, 180, 0, 114, 176]
abbrev dktJ19_rightOf_0 : List UInt8 := dkwJ19_rightOf_0 ++ []
theorem dksJ19_rightOf_0 : cJ19_rightOf.data.toList.drop 0 = dktJ19_rightOf_0 := by decide +kernel
theorem dJ19_rightOf_0 : decode cJ19_rightOf 0 = .ok (.aload_n 0, 1) := dk_42 (dk_at dksJ19_rightOf_0 0 rfl rfl)
theorem dJ19_rightOf_1 : decode cJ19_rightOf 1 = .ok (.ifnonnull 7, 3) := dk_199 0 7 (dk_at dksJ19_rightOf_0 1 rfl rfl)
theorem dJ19_rightOf_4 : decode cJ19_rightOf 4 = .ok (.aconst_null, 1) := dk_1 (dk_at dksJ19_rightOf_0 4 rfl rfl)
theorem dJ19_rightOf_5 : decode cJ19_rightOf 5 = .ok (.goto 7, 3) := dk_167 0 7 (dk_at dksJ19_rightOf_0 5 rfl rfl)
theorem dJ19_rightOf_8 : decode cJ19_rightOf 8 = .ok (.aload_n 0, 1) := dk_42 (dk_at dksJ19_rightOf_0 8 rfl rfl)
theorem dJ19_rightOf_9 : decode cJ19_rightOf 9 = .ok (.getfield 114, 3) := dk_180 0 114 (dk_at dksJ19_rightOf_0 9 rfl rfl)
theorem dJ19_rightOf_12 : decode cJ19_rightOf 12 = .ok (.areturn, 1) := dk_176 (dk_at dksJ19_rightOf_0 12 rfl rfl)
abbrev cJ19_colorOf : ByteArray := prog_75_method_76_code
def yJ19_colorOf : MethodName := ⟨RJ19, "colorOf", "(Ljava/util/TreeMap$Entry;)Z"⟩
def dkwJ19_colorOf_0 : List UInt8 := [42, 199, 0, 7, 4, 167, 0, 7, 42, 180, 1, 34, 172]
abbrev dktJ19_colorOf_0 : List UInt8 := dkwJ19_colorOf_0 ++ []
theorem dksJ19_colorOf_0 : cJ19_colorOf.data.toList.drop 0 = dktJ19_colorOf_0 := by decide +kernel
theorem dJ19_colorOf_0 : decode cJ19_colorOf 0 = .ok (.aload_n 0, 1) := dk_42 (dk_at dksJ19_colorOf_0 0 rfl rfl)
theorem dJ19_colorOf_1 : decode cJ19_colorOf 1 = .ok (.ifnonnull 7, 3) := dk_199 0 7 (dk_at dksJ19_colorOf_0 1 rfl rfl)
theorem dJ19_colorOf_4 : decode cJ19_colorOf 4 = .ok (.iconst 1, 1) := dk_4 (dk_at dksJ19_colorOf_0 4 rfl rfl)
theorem dJ19_colorOf_5 : decode cJ19_colorOf 5 = .ok (.goto 7, 3) := dk_167 0 7 (dk_at dksJ19_colorOf_0 5 rfl rfl)
theorem dJ19_colorOf_8 : decode cJ19_colorOf 8 = .ok (.aload_n 0, 1) := dk_42 (dk_at dksJ19_colorOf_0 8 rfl rfl)
theorem dJ19_colorOf_9 : decode cJ19_colorOf 9 = .ok (.getfield 290, 3) := dk_180 1 34 (dk_at dksJ19_colorOf_0 9 rfl rfl)
theorem dJ19_colorOf_12 : decode cJ19_colorOf 12 = .ok (.ireturn, 1) := dk_172 (dk_at dksJ19_colorOf_0 12 rfl rfl)
abbrev cJ19_setColor : ByteArray := prog_75_method_78_code
def yJ19_setColor : MethodName := ⟨RJ19, "setColor", "(Ljava/util/TreeMap$Entry;Z)V"⟩
def dkwJ19_setColor_0 : List UInt8 := [42, 198, 0, 8, 42, 27, 181, 1, 34, 177]
abbrev dktJ19_setColor_0 : List UInt8 := dkwJ19_setColor_0 ++ []
theorem dksJ19_setColor_0 : cJ19_setColor.data.toList.drop 0 = dktJ19_setColor_0 := by decide +kernel
theorem dJ19_setColor_0 : decode cJ19_setColor 0 = .ok (.aload_n 0, 1) := dk_42 (dk_at dksJ19_setColor_0 0 rfl rfl)
theorem dJ19_setColor_1 : decode cJ19_setColor 1 = .ok (.ifnull 8, 3) := dk_198 0 8 (dk_at dksJ19_setColor_0 1 rfl rfl)
theorem dJ19_setColor_4 : decode cJ19_setColor 4 = .ok (.aload_n 0, 1) := dk_42 (dk_at dksJ19_setColor_0 4 rfl rfl)
theorem dJ19_setColor_5 : decode cJ19_setColor 5 = .ok (.iload_n 1, 1) := dk_27 (dk_at dksJ19_setColor_0 5 rfl rfl)
theorem dJ19_setColor_6 : decode cJ19_setColor 6 = .ok (.putfield 290, 3) := dk_181 1 34 (dk_at dksJ19_setColor_0 6 rfl rfl)
theorem dJ19_setColor_9 : decode cJ19_setColor 9 = .ok (.return_, 1) := dk_177 (dk_at dksJ19_setColor_0 9 rfl rfl)
abbrev cJ19_rotateLeft : ByteArray := prog_75_method_81_code
def yJ19_rotateLeft : MethodName := ⟨RJ19, "rotateLeft", "(Ljava/util/TreeMap$Entry;)V"⟩
def dkwJ19_rotateLeft_4 : List UInt8 := [177]
abbrev dktJ19_rotateLeft_4 : List UInt8 := dkwJ19_rotateLeft_4 ++ []
def dkwJ19_rotateLeft_3 : List UInt8 := [181, 0, 111, 167, 0, 11, 43, 180, 0, 124, 44, 181, 0, 114, 44, 43, 181, 0, 111, 43, 44, 181, 0, 124]
abbrev dktJ19_rotateLeft_3 : List UInt8 := dkwJ19_rotateLeft_3 ++ dktJ19_rotateLeft_4
def dkwJ19_rotateLeft_2 : List UInt8 := [44, 181, 0, 101, 167, 0, 33, 43, 180, 0, 124, 180, 0, 111, 43, 166, 0, 14, 43, 180, 0, 124, 44]
abbrev dktJ19_rotateLeft_2 : List UInt8 := dkwJ19_rotateLeft_2 ++ dktJ19_rotateLeft_3
def dkwJ19_rotateLeft_1 : List UInt8 := [44, 180, 0, 111, 43, 181, 0, 124, 44, 43, 180, 0, 124, 181, 0, 124, 43, 180, 0, 124, 199, 0, 11, 42]
abbrev dktJ19_rotateLeft_1 : List UInt8 := dkwJ19_rotateLeft_1 ++ dktJ19_rotateLeft_2
def dkwJ19_rotateLeft_0 : List UInt8 := [43, 198, 0, 94, 43, 180, 0, 114, 77, 43, 44, 180, 0, 111, 181, 0, 114, 44, 180, 0, 111, 198, 0, 11]
abbrev dktJ19_rotateLeft_0 : List UInt8 := dkwJ19_rotateLeft_0 ++ dktJ19_rotateLeft_1
theorem dksJ19_rotateLeft_0 : cJ19_rotateLeft.data.toList.drop 0 = dktJ19_rotateLeft_0 := by decide +kernel
theorem dksJ19_rotateLeft_1 : cJ19_rotateLeft.data.toList.drop 24 = dktJ19_rotateLeft_1 := dk_seg dksJ19_rotateLeft_0 24 rfl rfl
theorem dksJ19_rotateLeft_2 : cJ19_rotateLeft.data.toList.drop 48 = dktJ19_rotateLeft_2 := dk_seg dksJ19_rotateLeft_1 24 rfl rfl
theorem dksJ19_rotateLeft_3 : cJ19_rotateLeft.data.toList.drop 71 = dktJ19_rotateLeft_3 := dk_seg dksJ19_rotateLeft_2 23 rfl rfl
theorem dksJ19_rotateLeft_4 : cJ19_rotateLeft.data.toList.drop 95 = dktJ19_rotateLeft_4 := dk_seg dksJ19_rotateLeft_3 24 rfl rfl
theorem dJ19_rotateLeft_0 : decode cJ19_rotateLeft 0 = .ok (.aload_n 1, 1) := dk_43 (dk_at dksJ19_rotateLeft_0 0 rfl rfl)
theorem dJ19_rotateLeft_1 : decode cJ19_rotateLeft 1 = .ok (.ifnull 94, 3) := dk_198 0 94 (dk_at dksJ19_rotateLeft_0 1 rfl rfl)
theorem dJ19_rotateLeft_4 : decode cJ19_rotateLeft 4 = .ok (.aload_n 1, 1) := dk_43 (dk_at dksJ19_rotateLeft_0 4 rfl rfl)
theorem dJ19_rotateLeft_5 : decode cJ19_rotateLeft 5 = .ok (.getfield 114, 3) := dk_180 0 114 (dk_at dksJ19_rotateLeft_0 5 rfl rfl)
theorem dJ19_rotateLeft_8 : decode cJ19_rotateLeft 8 = .ok (.astore_n 2, 1) := dk_77 (dk_at dksJ19_rotateLeft_0 8 rfl rfl)
theorem dJ19_rotateLeft_9 : decode cJ19_rotateLeft 9 = .ok (.aload_n 1, 1) := dk_43 (dk_at dksJ19_rotateLeft_0 9 rfl rfl)
theorem dJ19_rotateLeft_10 : decode cJ19_rotateLeft 10 = .ok (.aload_n 2, 1) := dk_44 (dk_at dksJ19_rotateLeft_0 10 rfl rfl)
theorem dJ19_rotateLeft_11 : decode cJ19_rotateLeft 11 = .ok (.getfield 111, 3) := dk_180 0 111 (dk_at dksJ19_rotateLeft_0 11 rfl rfl)
theorem dJ19_rotateLeft_14 : decode cJ19_rotateLeft 14 = .ok (.putfield 114, 3) := dk_181 0 114 (dk_at dksJ19_rotateLeft_0 14 rfl rfl)
theorem dJ19_rotateLeft_17 : decode cJ19_rotateLeft 17 = .ok (.aload_n 2, 1) := dk_44 (dk_at dksJ19_rotateLeft_0 17 rfl rfl)
theorem dJ19_rotateLeft_18 : decode cJ19_rotateLeft 18 = .ok (.getfield 111, 3) := dk_180 0 111 (dk_at dksJ19_rotateLeft_0 18 rfl rfl)
theorem dJ19_rotateLeft_21 : decode cJ19_rotateLeft 21 = .ok (.ifnull 11, 3) := dk_198 0 11 (dk_at dksJ19_rotateLeft_0 21 rfl rfl)
theorem dJ19_rotateLeft_24 : decode cJ19_rotateLeft 24 = .ok (.aload_n 2, 1) := dk_44 (dk_at dksJ19_rotateLeft_1 0 rfl rfl)
theorem dJ19_rotateLeft_25 : decode cJ19_rotateLeft 25 = .ok (.getfield 111, 3) := dk_180 0 111 (dk_at dksJ19_rotateLeft_1 1 rfl rfl)
theorem dJ19_rotateLeft_28 : decode cJ19_rotateLeft 28 = .ok (.aload_n 1, 1) := dk_43 (dk_at dksJ19_rotateLeft_1 4 rfl rfl)
theorem dJ19_rotateLeft_29 : decode cJ19_rotateLeft 29 = .ok (.putfield 124, 3) := dk_181 0 124 (dk_at dksJ19_rotateLeft_1 5 rfl rfl)
theorem dJ19_rotateLeft_32 : decode cJ19_rotateLeft 32 = .ok (.aload_n 2, 1) := dk_44 (dk_at dksJ19_rotateLeft_1 8 rfl rfl)
theorem dJ19_rotateLeft_33 : decode cJ19_rotateLeft 33 = .ok (.aload_n 1, 1) := dk_43 (dk_at dksJ19_rotateLeft_1 9 rfl rfl)
theorem dJ19_rotateLeft_34 : decode cJ19_rotateLeft 34 = .ok (.getfield 124, 3) := dk_180 0 124 (dk_at dksJ19_rotateLeft_1 10 rfl rfl)
theorem dJ19_rotateLeft_37 : decode cJ19_rotateLeft 37 = .ok (.putfield 124, 3) := dk_181 0 124 (dk_at dksJ19_rotateLeft_1 13 rfl rfl)
theorem dJ19_rotateLeft_40 : decode cJ19_rotateLeft 40 = .ok (.aload_n 1, 1) := dk_43 (dk_at dksJ19_rotateLeft_1 16 rfl rfl)
theorem dJ19_rotateLeft_41 : decode cJ19_rotateLeft 41 = .ok (.getfield 124, 3) := dk_180 0 124 (dk_at dksJ19_rotateLeft_1 17 rfl rfl)
theorem dJ19_rotateLeft_44 : decode cJ19_rotateLeft 44 = .ok (.ifnonnull 11, 3) := dk_199 0 11 (dk_at dksJ19_rotateLeft_1 20 rfl rfl)
theorem dJ19_rotateLeft_47 : decode cJ19_rotateLeft 47 = .ok (.aload_n 0, 1) := dk_42 (dk_at dksJ19_rotateLeft_1 23 rfl rfl)
theorem dJ19_rotateLeft_48 : decode cJ19_rotateLeft 48 = .ok (.aload_n 2, 1) := dk_44 (dk_at dksJ19_rotateLeft_2 0 rfl rfl)
theorem dJ19_rotateLeft_49 : decode cJ19_rotateLeft 49 = .ok (.putfield 101, 3) := dk_181 0 101 (dk_at dksJ19_rotateLeft_2 1 rfl rfl)
theorem dJ19_rotateLeft_52 : decode cJ19_rotateLeft 52 = .ok (.goto 33, 3) := dk_167 0 33 (dk_at dksJ19_rotateLeft_2 4 rfl rfl)
theorem dJ19_rotateLeft_55 : decode cJ19_rotateLeft 55 = .ok (.aload_n 1, 1) := dk_43 (dk_at dksJ19_rotateLeft_2 7 rfl rfl)
theorem dJ19_rotateLeft_56 : decode cJ19_rotateLeft 56 = .ok (.getfield 124, 3) := dk_180 0 124 (dk_at dksJ19_rotateLeft_2 8 rfl rfl)
theorem dJ19_rotateLeft_59 : decode cJ19_rotateLeft 59 = .ok (.getfield 111, 3) := dk_180 0 111 (dk_at dksJ19_rotateLeft_2 11 rfl rfl)
theorem dJ19_rotateLeft_62 : decode cJ19_rotateLeft 62 = .ok (.aload_n 1, 1) := dk_43 (dk_at dksJ19_rotateLeft_2 14 rfl rfl)
theorem dJ19_rotateLeft_63 : decode cJ19_rotateLeft 63 = .ok (.if_acmp .ne 14, 3) := dk_166 0 14 (dk_at dksJ19_rotateLeft_2 15 rfl rfl)
theorem dJ19_rotateLeft_66 : decode cJ19_rotateLeft 66 = .ok (.aload_n 1, 1) := dk_43 (dk_at dksJ19_rotateLeft_2 18 rfl rfl)
theorem dJ19_rotateLeft_67 : decode cJ19_rotateLeft 67 = .ok (.getfield 124, 3) := dk_180 0 124 (dk_at dksJ19_rotateLeft_2 19 rfl rfl)
theorem dJ19_rotateLeft_70 : decode cJ19_rotateLeft 70 = .ok (.aload_n 2, 1) := dk_44 (dk_at dksJ19_rotateLeft_2 22 rfl rfl)
theorem dJ19_rotateLeft_71 : decode cJ19_rotateLeft 71 = .ok (.putfield 111, 3) := dk_181 0 111 (dk_at dksJ19_rotateLeft_3 0 rfl rfl)
theorem dJ19_rotateLeft_74 : decode cJ19_rotateLeft 74 = .ok (.goto 11, 3) := dk_167 0 11 (dk_at dksJ19_rotateLeft_3 3 rfl rfl)
theorem dJ19_rotateLeft_77 : decode cJ19_rotateLeft 77 = .ok (.aload_n 1, 1) := dk_43 (dk_at dksJ19_rotateLeft_3 6 rfl rfl)
theorem dJ19_rotateLeft_78 : decode cJ19_rotateLeft 78 = .ok (.getfield 124, 3) := dk_180 0 124 (dk_at dksJ19_rotateLeft_3 7 rfl rfl)
theorem dJ19_rotateLeft_81 : decode cJ19_rotateLeft 81 = .ok (.aload_n 2, 1) := dk_44 (dk_at dksJ19_rotateLeft_3 10 rfl rfl)
theorem dJ19_rotateLeft_82 : decode cJ19_rotateLeft 82 = .ok (.putfield 114, 3) := dk_181 0 114 (dk_at dksJ19_rotateLeft_3 11 rfl rfl)
theorem dJ19_rotateLeft_85 : decode cJ19_rotateLeft 85 = .ok (.aload_n 2, 1) := dk_44 (dk_at dksJ19_rotateLeft_3 14 rfl rfl)
theorem dJ19_rotateLeft_86 : decode cJ19_rotateLeft 86 = .ok (.aload_n 1, 1) := dk_43 (dk_at dksJ19_rotateLeft_3 15 rfl rfl)
theorem dJ19_rotateLeft_87 : decode cJ19_rotateLeft 87 = .ok (.putfield 111, 3) := dk_181 0 111 (dk_at dksJ19_rotateLeft_3 16 rfl rfl)
theorem dJ19_rotateLeft_90 : decode cJ19_rotateLeft 90 = .ok (.aload_n 1, 1) := dk_43 (dk_at dksJ19_rotateLeft_3 19 rfl rfl)
theorem dJ19_rotateLeft_91 : decode cJ19_rotateLeft 91 = .ok (.aload_n 2, 1) := dk_44 (dk_at dksJ19_rotateLeft_3 20 rfl rfl)
theorem dJ19_rotateLeft_92 : decode cJ19_rotateLeft 92 = .ok (.putfield 124, 3) := dk_181 0 124 (dk_at dksJ19_rotateLeft_3 21 rfl rfl)
theorem dJ19_rotateLeft_95 : decode cJ19_rotateLeft 95 = .ok (.return_, 1) := dk_177 (dk_at dksJ19_rotateLeft_4 0 rfl rfl)
abbrev cJ19_rotateRight : ByteArray := prog_75_method_82_code
def yJ19_rotateRight : MethodName := ⟨RJ19, "rotateRight", "(Ljava/util/TreeMap$Entry;)V"⟩
def dkwJ19_rotateRight_4 : List UInt8 := [177]
abbrev dktJ19_rotateRight_4 : List UInt8 := dkwJ19_rotateRight_4 ++ []
def dkwJ19_rotateRight_3 : List UInt8 := [181, 0, 114, 167, 0, 11, 43, 180, 0, 124, 44, 181, 0, 111, 44, 43, 181, 0, 114, 43, 44, 181, 0, 124]
abbrev dktJ19_rotateRight_3 : List UInt8 := dkwJ19_rotateRight_3 ++ dktJ19_rotateRight_4
def dkwJ19_rotateRight_2 : List UInt8 := [44, 181, 0, 101, 167, 0, 33, 43, 180, 0, 124, 180, 0, 114, 43, 166, 0, 14, 43, 180, 0, 124, 44]
abbrev dktJ19_rotateRight_2 : List UInt8 := dkwJ19_rotateRight_2 ++ dktJ19_rotateRight_3
def dkwJ19_rotateRight_1 : List UInt8 := [44, 180, 0, 114, 43, 181, 0, 124, 44, 43, 180, 0, 124, 181, 0, 124, 43, 180, 0, 124, 199, 0, 11, 42]
abbrev dktJ19_rotateRight_1 : List UInt8 := dkwJ19_rotateRight_1 ++ dktJ19_rotateRight_2
def dkwJ19_rotateRight_0 : List UInt8 := [43, 198, 0, 94, 43, 180, 0, 111, 77, 43, 44, 180, 0, 114, 181, 0, 111, 44, 180, 0, 114, 198, 0, 11]
abbrev dktJ19_rotateRight_0 : List UInt8 := dkwJ19_rotateRight_0 ++ dktJ19_rotateRight_1
theorem dksJ19_rotateRight_0 : cJ19_rotateRight.data.toList.drop 0 = dktJ19_rotateRight_0 := by decide +kernel
theorem dksJ19_rotateRight_1 : cJ19_rotateRight.data.toList.drop 24 = dktJ19_rotateRight_1 := dk_seg dksJ19_rotateRight_0 24 rfl rfl
theorem dksJ19_rotateRight_2 : cJ19_rotateRight.data.toList.drop 48 = dktJ19_rotateRight_2 := dk_seg dksJ19_rotateRight_1 24 rfl rfl
theorem dksJ19_rotateRight_3 : cJ19_rotateRight.data.toList.drop 71 = dktJ19_rotateRight_3 := dk_seg dksJ19_rotateRight_2 23 rfl rfl
theorem dksJ19_rotateRight_4 : cJ19_rotateRight.data.toList.drop 95 = dktJ19_rotateRight_4 := dk_seg dksJ19_rotateRight_3 24 rfl rfl
theorem dJ19_rotateRight_0 : decode cJ19_rotateRight 0 = .ok (.aload_n 1, 1) := dk_43 (dk_at dksJ19_rotateRight_0 0 rfl rfl)
theorem dJ19_rotateRight_1 : decode cJ19_rotateRight 1 = .ok (.ifnull 94, 3) := dk_198 0 94 (dk_at dksJ19_rotateRight_0 1 rfl rfl)
theorem dJ19_rotateRight_4 : decode cJ19_rotateRight 4 = .ok (.aload_n 1, 1) := dk_43 (dk_at dksJ19_rotateRight_0 4 rfl rfl)
theorem dJ19_rotateRight_5 : decode cJ19_rotateRight 5 = .ok (.getfield 111, 3) := dk_180 0 111 (dk_at dksJ19_rotateRight_0 5 rfl rfl)
theorem dJ19_rotateRight_8 : decode cJ19_rotateRight 8 = .ok (.astore_n 2, 1) := dk_77 (dk_at dksJ19_rotateRight_0 8 rfl rfl)
theorem dJ19_rotateRight_9 : decode cJ19_rotateRight 9 = .ok (.aload_n 1, 1) := dk_43 (dk_at dksJ19_rotateRight_0 9 rfl rfl)
theorem dJ19_rotateRight_10 : decode cJ19_rotateRight 10 = .ok (.aload_n 2, 1) := dk_44 (dk_at dksJ19_rotateRight_0 10 rfl rfl)
theorem dJ19_rotateRight_11 : decode cJ19_rotateRight 11 = .ok (.getfield 114, 3) := dk_180 0 114 (dk_at dksJ19_rotateRight_0 11 rfl rfl)
theorem dJ19_rotateRight_14 : decode cJ19_rotateRight 14 = .ok (.putfield 111, 3) := dk_181 0 111 (dk_at dksJ19_rotateRight_0 14 rfl rfl)
theorem dJ19_rotateRight_17 : decode cJ19_rotateRight 17 = .ok (.aload_n 2, 1) := dk_44 (dk_at dksJ19_rotateRight_0 17 rfl rfl)
theorem dJ19_rotateRight_18 : decode cJ19_rotateRight 18 = .ok (.getfield 114, 3) := dk_180 0 114 (dk_at dksJ19_rotateRight_0 18 rfl rfl)
theorem dJ19_rotateRight_21 : decode cJ19_rotateRight 21 = .ok (.ifnull 11, 3) := dk_198 0 11 (dk_at dksJ19_rotateRight_0 21 rfl rfl)
theorem dJ19_rotateRight_24 : decode cJ19_rotateRight 24 = .ok (.aload_n 2, 1) := dk_44 (dk_at dksJ19_rotateRight_1 0 rfl rfl)
theorem dJ19_rotateRight_25 : decode cJ19_rotateRight 25 = .ok (.getfield 114, 3) := dk_180 0 114 (dk_at dksJ19_rotateRight_1 1 rfl rfl)
theorem dJ19_rotateRight_28 : decode cJ19_rotateRight 28 = .ok (.aload_n 1, 1) := dk_43 (dk_at dksJ19_rotateRight_1 4 rfl rfl)
theorem dJ19_rotateRight_29 : decode cJ19_rotateRight 29 = .ok (.putfield 124, 3) := dk_181 0 124 (dk_at dksJ19_rotateRight_1 5 rfl rfl)
theorem dJ19_rotateRight_32 : decode cJ19_rotateRight 32 = .ok (.aload_n 2, 1) := dk_44 (dk_at dksJ19_rotateRight_1 8 rfl rfl)
theorem dJ19_rotateRight_33 : decode cJ19_rotateRight 33 = .ok (.aload_n 1, 1) := dk_43 (dk_at dksJ19_rotateRight_1 9 rfl rfl)
theorem dJ19_rotateRight_34 : decode cJ19_rotateRight 34 = .ok (.getfield 124, 3) := dk_180 0 124 (dk_at dksJ19_rotateRight_1 10 rfl rfl)
theorem dJ19_rotateRight_37 : decode cJ19_rotateRight 37 = .ok (.putfield 124, 3) := dk_181 0 124 (dk_at dksJ19_rotateRight_1 13 rfl rfl)
theorem dJ19_rotateRight_40 : decode cJ19_rotateRight 40 = .ok (.aload_n 1, 1) := dk_43 (dk_at dksJ19_rotateRight_1 16 rfl rfl)
theorem dJ19_rotateRight_41 : decode cJ19_rotateRight 41 = .ok (.getfield 124, 3) := dk_180 0 124 (dk_at dksJ19_rotateRight_1 17 rfl rfl)
theorem dJ19_rotateRight_44 : decode cJ19_rotateRight 44 = .ok (.ifnonnull 11, 3) := dk_199 0 11 (dk_at dksJ19_rotateRight_1 20 rfl rfl)
theorem dJ19_rotateRight_47 : decode cJ19_rotateRight 47 = .ok (.aload_n 0, 1) := dk_42 (dk_at dksJ19_rotateRight_1 23 rfl rfl)
theorem dJ19_rotateRight_48 : decode cJ19_rotateRight 48 = .ok (.aload_n 2, 1) := dk_44 (dk_at dksJ19_rotateRight_2 0 rfl rfl)
theorem dJ19_rotateRight_49 : decode cJ19_rotateRight 49 = .ok (.putfield 101, 3) := dk_181 0 101 (dk_at dksJ19_rotateRight_2 1 rfl rfl)
theorem dJ19_rotateRight_52 : decode cJ19_rotateRight 52 = .ok (.goto 33, 3) := dk_167 0 33 (dk_at dksJ19_rotateRight_2 4 rfl rfl)
theorem dJ19_rotateRight_55 : decode cJ19_rotateRight 55 = .ok (.aload_n 1, 1) := dk_43 (dk_at dksJ19_rotateRight_2 7 rfl rfl)
theorem dJ19_rotateRight_56 : decode cJ19_rotateRight 56 = .ok (.getfield 124, 3) := dk_180 0 124 (dk_at dksJ19_rotateRight_2 8 rfl rfl)
theorem dJ19_rotateRight_59 : decode cJ19_rotateRight 59 = .ok (.getfield 114, 3) := dk_180 0 114 (dk_at dksJ19_rotateRight_2 11 rfl rfl)
theorem dJ19_rotateRight_62 : decode cJ19_rotateRight 62 = .ok (.aload_n 1, 1) := dk_43 (dk_at dksJ19_rotateRight_2 14 rfl rfl)
theorem dJ19_rotateRight_63 : decode cJ19_rotateRight 63 = .ok (.if_acmp .ne 14, 3) := dk_166 0 14 (dk_at dksJ19_rotateRight_2 15 rfl rfl)
theorem dJ19_rotateRight_66 : decode cJ19_rotateRight 66 = .ok (.aload_n 1, 1) := dk_43 (dk_at dksJ19_rotateRight_2 18 rfl rfl)
theorem dJ19_rotateRight_67 : decode cJ19_rotateRight 67 = .ok (.getfield 124, 3) := dk_180 0 124 (dk_at dksJ19_rotateRight_2 19 rfl rfl)
theorem dJ19_rotateRight_70 : decode cJ19_rotateRight 70 = .ok (.aload_n 2, 1) := dk_44 (dk_at dksJ19_rotateRight_2 22 rfl rfl)
theorem dJ19_rotateRight_71 : decode cJ19_rotateRight 71 = .ok (.putfield 114, 3) := dk_181 0 114 (dk_at dksJ19_rotateRight_3 0 rfl rfl)
theorem dJ19_rotateRight_74 : decode cJ19_rotateRight 74 = .ok (.goto 11, 3) := dk_167 0 11 (dk_at dksJ19_rotateRight_3 3 rfl rfl)
theorem dJ19_rotateRight_77 : decode cJ19_rotateRight 77 = .ok (.aload_n 1, 1) := dk_43 (dk_at dksJ19_rotateRight_3 6 rfl rfl)
theorem dJ19_rotateRight_78 : decode cJ19_rotateRight 78 = .ok (.getfield 124, 3) := dk_180 0 124 (dk_at dksJ19_rotateRight_3 7 rfl rfl)
theorem dJ19_rotateRight_81 : decode cJ19_rotateRight 81 = .ok (.aload_n 2, 1) := dk_44 (dk_at dksJ19_rotateRight_3 10 rfl rfl)
theorem dJ19_rotateRight_82 : decode cJ19_rotateRight 82 = .ok (.putfield 111, 3) := dk_181 0 111 (dk_at dksJ19_rotateRight_3 11 rfl rfl)
theorem dJ19_rotateRight_85 : decode cJ19_rotateRight 85 = .ok (.aload_n 2, 1) := dk_44 (dk_at dksJ19_rotateRight_3 14 rfl rfl)
theorem dJ19_rotateRight_86 : decode cJ19_rotateRight 86 = .ok (.aload_n 1, 1) := dk_43 (dk_at dksJ19_rotateRight_3 15 rfl rfl)
theorem dJ19_rotateRight_87 : decode cJ19_rotateRight 87 = .ok (.putfield 114, 3) := dk_181 0 114 (dk_at dksJ19_rotateRight_3 16 rfl rfl)
theorem dJ19_rotateRight_90 : decode cJ19_rotateRight 90 = .ok (.aload_n 1, 1) := dk_43 (dk_at dksJ19_rotateRight_3 19 rfl rfl)
theorem dJ19_rotateRight_91 : decode cJ19_rotateRight 91 = .ok (.aload_n 2, 1) := dk_44 (dk_at dksJ19_rotateRight_3 20 rfl rfl)
theorem dJ19_rotateRight_92 : decode cJ19_rotateRight 92 = .ok (.putfield 124, 3) := dk_181 0 124 (dk_at dksJ19_rotateRight_3 21 rfl rfl)
theorem dJ19_rotateRight_95 : decode cJ19_rotateRight 95 = .ok (.return_, 1) := dk_177 (dk_at dksJ19_rotateRight_4 0 rfl rfl)
abbrev cJ19_entrySet : ByteArray := prog_75_method_53_code
def yJ19_entrySet : MethodName := ⟨RJ19, "entrySet", "()Ljava/util/Set;"⟩
def dkwJ19_entrySet_1 : List UInt8 := [181, 0, 188, 176]
abbrev dktJ19_entrySet_1 : List UInt8 := dkwJ19_entrySet_1 ++ []
def dkwJ19_entrySet_0 : List UInt8 := [42, 180, 0, 188, 76, 43, 198, 0, 7, 43, 167, 0, 16, 42, 187, 0, 242, 89, 42, 183, 0, 244, 90]
abbrev dktJ19_entrySet_0 : List UInt8 := dkwJ19_entrySet_0 ++ dktJ19_entrySet_1
theorem dksJ19_entrySet_0 : cJ19_entrySet.data.toList.drop 0 = dktJ19_entrySet_0 := by decide +kernel
theorem dksJ19_entrySet_1 : cJ19_entrySet.data.toList.drop 23 = dktJ19_entrySet_1 := dk_seg dksJ19_entrySet_0 23 rfl rfl
theorem dJ19_entrySet_0 : decode cJ19_entrySet 0 = .ok (.aload_n 0, 1) := dk_42 (dk_at dksJ19_entrySet_0 0 rfl rfl)
theorem dJ19_entrySet_1 : decode cJ19_entrySet 1 = .ok (.getfield 188, 3) := dk_180 0 188 (dk_at dksJ19_entrySet_0 1 rfl rfl)
theorem dJ19_entrySet_4 : decode cJ19_entrySet 4 = .ok (.astore_n 1, 1) := dk_76 (dk_at dksJ19_entrySet_0 4 rfl rfl)
theorem dJ19_entrySet_5 : decode cJ19_entrySet 5 = .ok (.aload_n 1, 1) := dk_43 (dk_at dksJ19_entrySet_0 5 rfl rfl)
theorem dJ19_entrySet_6 : decode cJ19_entrySet 6 = .ok (.ifnull 7, 3) := dk_198 0 7 (dk_at dksJ19_entrySet_0 6 rfl rfl)
theorem dJ19_entrySet_9 : decode cJ19_entrySet 9 = .ok (.aload_n 1, 1) := dk_43 (dk_at dksJ19_entrySet_0 9 rfl rfl)
theorem dJ19_entrySet_10 : decode cJ19_entrySet 10 = .ok (.goto 16, 3) := dk_167 0 16 (dk_at dksJ19_entrySet_0 10 rfl rfl)
theorem dJ19_entrySet_13 : decode cJ19_entrySet 13 = .ok (.aload_n 0, 1) := dk_42 (dk_at dksJ19_entrySet_0 13 rfl rfl)
theorem dJ19_entrySet_14 : decode cJ19_entrySet 14 = .ok (.new 242, 3) := dk_187 0 242 (dk_at dksJ19_entrySet_0 14 rfl rfl)
theorem dJ19_entrySet_17 : decode cJ19_entrySet 17 = .ok (.dup, 1) := dk_89 (dk_at dksJ19_entrySet_0 17 rfl rfl)
theorem dJ19_entrySet_18 : decode cJ19_entrySet 18 = .ok (.aload_n 0, 1) := dk_42 (dk_at dksJ19_entrySet_0 18 rfl rfl)
theorem dJ19_entrySet_19 : decode cJ19_entrySet 19 = .ok (.invokespecial 244, 3) := dk_183 0 244 (dk_at dksJ19_entrySet_0 19 rfl rfl)
theorem dJ19_entrySet_22 : decode cJ19_entrySet 22 = .ok (.dup_x1, 1) := dk_90 (dk_at dksJ19_entrySet_0 22 rfl rfl)
theorem dJ19_entrySet_23 : decode cJ19_entrySet 23 = .ok (.putfield 188, 3) := dk_181 0 188 (dk_at dksJ19_entrySet_1 0 rfl rfl)
theorem dJ19_entrySet_26 : decode cJ19_entrySet 26 = .ok (.areturn, 1) := dk_176 (dk_at dksJ19_entrySet_1 3 rfl rfl)
abbrev cJ19_getFirstEntry : ByteArray := prog_75_method_72_code
def yJ19_getFirstEntry : MethodName := ⟨RJ19, "getFirstEntry", "()Ljava/util/TreeMap$Entry;"⟩
def dkwJ19_getFirstEntry_1 : List UInt8 := [43, 176]
abbrev dktJ19_getFirstEntry_1 : List UInt8 := dkwJ19_getFirstEntry_1 ++ []
def dkwJ19_getFirstEntry_0 : List UInt8 := [42, 180, 0, 101, 76, 43, 198, 0, 18, 43, 180, 0, 111, 198, 0, 11, 43, 180, 0, 111, 76, 167, 255, 244]
abbrev dktJ19_getFirstEntry_0 : List UInt8 := dkwJ19_getFirstEntry_0 ++ dktJ19_getFirstEntry_1
theorem dksJ19_getFirstEntry_0 : cJ19_getFirstEntry.data.toList.drop 0 = dktJ19_getFirstEntry_0 := by decide +kernel
theorem dksJ19_getFirstEntry_1 : cJ19_getFirstEntry.data.toList.drop 24 = dktJ19_getFirstEntry_1 := dk_seg dksJ19_getFirstEntry_0 24 rfl rfl
theorem dJ19_getFirstEntry_0 : decode cJ19_getFirstEntry 0 = .ok (.aload_n 0, 1) := dk_42 (dk_at dksJ19_getFirstEntry_0 0 rfl rfl)
theorem dJ19_getFirstEntry_1 : decode cJ19_getFirstEntry 1 = .ok (.getfield 101, 3) := dk_180 0 101 (dk_at dksJ19_getFirstEntry_0 1 rfl rfl)
theorem dJ19_getFirstEntry_4 : decode cJ19_getFirstEntry 4 = .ok (.astore_n 1, 1) := dk_76 (dk_at dksJ19_getFirstEntry_0 4 rfl rfl)
theorem dJ19_getFirstEntry_5 : decode cJ19_getFirstEntry 5 = .ok (.aload_n 1, 1) := dk_43 (dk_at dksJ19_getFirstEntry_0 5 rfl rfl)
theorem dJ19_getFirstEntry_6 : decode cJ19_getFirstEntry 6 = .ok (.ifnull 18, 3) := dk_198 0 18 (dk_at dksJ19_getFirstEntry_0 6 rfl rfl)
theorem dJ19_getFirstEntry_9 : decode cJ19_getFirstEntry 9 = .ok (.aload_n 1, 1) := dk_43 (dk_at dksJ19_getFirstEntry_0 9 rfl rfl)
theorem dJ19_getFirstEntry_10 : decode cJ19_getFirstEntry 10 = .ok (.getfield 111, 3) := dk_180 0 111 (dk_at dksJ19_getFirstEntry_0 10 rfl rfl)
theorem dJ19_getFirstEntry_13 : decode cJ19_getFirstEntry 13 = .ok (.ifnull 11, 3) := dk_198 0 11 (dk_at dksJ19_getFirstEntry_0 13 rfl rfl)
theorem dJ19_getFirstEntry_16 : decode cJ19_getFirstEntry 16 = .ok (.aload_n 1, 1) := dk_43 (dk_at dksJ19_getFirstEntry_0 16 rfl rfl)
theorem dJ19_getFirstEntry_17 : decode cJ19_getFirstEntry 17 = .ok (.getfield 111, 3) := dk_180 0 111 (dk_at dksJ19_getFirstEntry_0 17 rfl rfl)
theorem dJ19_getFirstEntry_20 : decode cJ19_getFirstEntry 20 = .ok (.astore_n 1, 1) := dk_76 (dk_at dksJ19_getFirstEntry_0 20 rfl rfl)
theorem dJ19_getFirstEntry_21 : decode cJ19_getFirstEntry 21 = .ok (.goto (-12), 3) := dk_167 255 244 (dk_at dksJ19_getFirstEntry_0 21 rfl rfl)
theorem dJ19_getFirstEntry_24 : decode cJ19_getFirstEntry 24 = .ok (.aload_n 1, 1) := dk_43 (dk_at dksJ19_getFirstEntry_1 0 rfl rfl)
theorem dJ19_getFirstEntry_25 : decode cJ19_getFirstEntry 25 = .ok (.areturn, 1) := dk_176 (dk_at dksJ19_getFirstEntry_1 1 rfl rfl)
theorem q118 : (Jvm.Cond.initialized "java/util/TreeMap") ∈ lw_all := lw_g (lw_at lw_m1 25 rfl) rfl
theorem q553 : (Jvm.Cond.static ({ cls := "java/util/TreeMap", name := "successor", desc := "(Ljava/util/TreeMap$Entry;)Ljava/util/TreeMap$Entry;" } : Jvm.MethodName)) ∈ lw_all := lw_g (lw_at lw_m2 220 rfl) rfl
theorem q554 : (Jvm.Cond.code ({ cls := "java/util/TreeMap", name := "successor", desc := "(Ljava/util/TreeMap$Entry;)Ljava/util/TreeMap$Entry;" } : Jvm.MethodName) prog_75_method_74_code (3 : Nat) (Option.some (Jvm.ClassFile.FieldType.object "java/util/TreeMap$Entry"))) ∈ lw_all := lw_g (lw_at lw_m2 221 rfl) rfl
theorem q737 : (Jvm.Cond.selects "java/util/TreeMap" ({ cls := "java/lang/Object", name := "getClass", desc := "()Ljava/lang/Class;" } : Jvm.MethodName) ({ cls := "java/lang/Object", name := "getClass", desc := "()Ljava/lang/Class;" } : Jvm.MethodName)) ∈ lw_all := lw_g (lw_at lw_m3 164 rfl) rfl
theorem q1028 : (Jvm.Cond.instanceMethod ({ cls := "java/util/TreeMap", name := "size", desc := "()I" } : Jvm.MethodName)) ∈ lw_all := lw_g (lw_at lw_m4 215 rfl) rfl
theorem q1029 : (Jvm.Cond.selects "java/util/TreeMap" ({ cls := "java/util/TreeMap", name := "size", desc := "()I" } : Jvm.MethodName) ({ cls := "java/util/TreeMap", name := "size", desc := "()I" } : Jvm.MethodName)) ∈ lw_all := lw_g (lw_at lw_m4 216 rfl) rfl
theorem q1030 : (Jvm.Cond.code ({ cls := "java/util/TreeMap", name := "size", desc := "()I" } : Jvm.MethodName) prog_75_method_5_code (1 : Nat) (Option.some Jvm.ClassFile.FieldType.int)) ∈ lw_all := lw_g (lw_at lw_m4 217 rfl) rfl
theorem q1062 : (Jvm.Cond.instantiable "java/util/TreeMap" (9 : Nat)) ∈ lw_all := lw_g (lw_at lw_m5 9 rfl) rfl
theorem q1064 : (Jvm.Cond.instanceMethod ({ cls := "java/util/TreeMap", name := "<init>", desc := "()V" } : Jvm.MethodName)) ∈ lw_all := lw_g (lw_at lw_m5 11 rfl) rfl
theorem q1065 : (Jvm.Cond.code ({ cls := "java/util/TreeMap", name := "<init>", desc := "()V" } : Jvm.MethodName) prog_75_method_1_code (1 : Nat) (Option.none : Option Jvm.ClassFile.FieldType)) ∈ lw_all := lw_g (lw_at lw_m5 12 rfl) rfl
theorem q1066 : (Jvm.Cond.methodLink "java/util/TreeMap" (1 : Nat) ({ cls := "java/util/AbstractMap", name := "<init>", desc := "()V" } : Jvm.MethodName)) ∈ lw_all := lw_g (lw_at lw_m5 13 rfl) rfl
theorem q1070 : (Jvm.Cond.fieldLink "java/util/TreeMap" (16 : Nat) "java/util/TreeMap" "comparator" "Ljava/util/Comparator;") ∈ lw_all := lw_g (lw_at lw_m5 17 rfl) rfl
theorem q1071 : (Jvm.Cond.fieldLink "java/util/TreeMap" (101 : Nat) "java/util/TreeMap" "root" "Ljava/util/TreeMap$Entry;") ∈ lw_all := lw_g (lw_at lw_m5 18 rfl) rfl
theorem q1072 : (Jvm.Cond.fieldLink "java/util/TreeMap" (7 : Nat) "java/util/TreeMap" "size" "I") ∈ lw_all := lw_g (lw_at lw_m5 19 rfl) rfl
theorem q1074 : (Jvm.Cond.fieldLink "java/util/TreeMap" (13 : Nat) "java/util/TreeMap" "modCount" "I") ∈ lw_all := lw_g (lw_at lw_m5 21 rfl) rfl
theorem q1075 : (Jvm.Cond.fieldLink "java/util/TreeMap" (188 : Nat) "java/util/TreeMap" "entrySet" "Ljava/util/TreeMap$EntrySet;") ∈ lw_all := lw_g (lw_at lw_m5 22 rfl) rfl
theorem q1076 : (Jvm.Cond.laysFinal "java/util/TreeMap" "java/util/TreeMap" "comparator" "Ljava/util/Comparator;") ∈ lw_all := lw_g (lw_at lw_m5 23 rfl) rfl
theorem q1077 : (Jvm.Cond.soleField "java/util/TreeMap" "comparator") ∈ lw_all := lw_g (lw_at lw_m5 24 rfl) rfl
theorem q1078 : (Jvm.Cond.lays "java/util/TreeMap" "java/util/TreeMap" "root" "Ljava/util/TreeMap$Entry;") ∈ lw_all := lw_g (lw_at lw_m5 25 rfl) rfl
theorem q1079 : (Jvm.Cond.soleField "java/util/TreeMap" "root") ∈ lw_all := lw_g (lw_at lw_m5 26 rfl) rfl
theorem q1080 : (Jvm.Cond.lays "java/util/TreeMap" "java/util/TreeMap" "size" "I") ∈ lw_all := lw_g (lw_at lw_m5 27 rfl) rfl
theorem q1081 : (Jvm.Cond.soleField "java/util/TreeMap" "size") ∈ lw_all := lw_g (lw_at lw_m5 28 rfl) rfl
theorem q1082 : (Jvm.Cond.lays "java/util/TreeMap" "java/util/TreeMap" "modCount" "I") ∈ lw_all := lw_g (lw_at lw_m5 29 rfl) rfl
theorem q1083 : (Jvm.Cond.soleField "java/util/TreeMap" "modCount") ∈ lw_all := lw_g (lw_at lw_m5 30 rfl) rfl
theorem q1084 : (Jvm.Cond.lays "java/util/TreeMap" "java/util/TreeMap" "entrySet" "Ljava/util/TreeMap$EntrySet;") ∈ lw_all := lw_g (lw_at lw_m5 31 rfl) rfl
theorem q1085 : (Jvm.Cond.soleField "java/util/TreeMap" "entrySet") ∈ lw_all := lw_g (lw_at lw_m5 32 rfl) rfl
theorem q1086 : (Jvm.Cond.lays "java/util/TreeMap" "java/util/TreeMap" "navigableKeySet" "Ljava/util/TreeMap$KeySet;") ∈ lw_all := lw_g (lw_at lw_m5 33 rfl) rfl
theorem q1087 : (Jvm.Cond.soleField "java/util/TreeMap" "navigableKeySet") ∈ lw_all := lw_g (lw_at lw_m5 34 rfl) rfl
theorem q1088 : (Jvm.Cond.lays "java/util/TreeMap" "java/util/TreeMap" "descendingMap" "Ljava/util/NavigableMap;") ∈ lw_all := lw_g (lw_at lw_m5 35 rfl) rfl
theorem q1089 : (Jvm.Cond.soleField "java/util/TreeMap" "descendingMap") ∈ lw_all := lw_g (lw_at lw_m5 36 rfl) rfl
theorem q1090 : (Jvm.Cond.lays "java/util/TreeMap" "java/util/AbstractMap" "keySet" "Ljava/util/Set;") ∈ lw_all := lw_g (lw_at lw_m5 37 rfl) rfl
theorem q1092 : (Jvm.Cond.lays "java/util/TreeMap" "java/util/AbstractMap" "values" "Ljava/util/Collection;") ∈ lw_all := lw_g (lw_at lw_m5 39 rfl) rfl
theorem q1094 : (Jvm.Cond.superclass "java/util/TreeMap" "java/util/AbstractMap") ∈ lw_all := lw_g (lw_at lw_m5 41 rfl) rfl
theorem q1115 : (Jvm.Cond.instanceMethod ({ cls := "java/util/TreeMap", name := "containsKey", desc := "(Ljava/lang/Object;)Z" } : Jvm.MethodName)) ∈ lw_all := lw_g (lw_at lw_m5 62 rfl) rfl
theorem q1116 : (Jvm.Cond.selects "java/util/TreeMap" ({ cls := "java/util/TreeMap", name := "containsKey", desc := "(Ljava/lang/Object;)Z" } : Jvm.MethodName) ({ cls := "java/util/TreeMap", name := "containsKey", desc := "(Ljava/lang/Object;)Z" } : Jvm.MethodName)) ∈ lw_all := lw_g (lw_at lw_m5 63 rfl) rfl
theorem q1117 : (Jvm.Cond.code ({ cls := "java/util/TreeMap", name := "containsKey", desc := "(Ljava/lang/Object;)Z" } : Jvm.MethodName) prog_75_method_6_code (2 : Nat) (Option.some Jvm.ClassFile.FieldType.boolean)) ∈ lw_all := lw_g (lw_at lw_m5 64 rfl) rfl
theorem q1118 : (Jvm.Cond.methodLink "java/util/TreeMap" (50 : Nat) ({ cls := "java/util/TreeMap", name := "getEntry", desc := "(Ljava/lang/Object;)Ljava/util/TreeMap$Entry;" } : Jvm.MethodName)) ∈ lw_all := lw_g (lw_at lw_m5 65 rfl) rfl
theorem q1119 : (Jvm.Cond.instanceMethod ({ cls := "java/util/TreeMap", name := "getEntry", desc := "(Ljava/lang/Object;)Ljava/util/TreeMap$Entry;" } : Jvm.MethodName)) ∈ lw_all := lw_g (lw_at lw_m5 66 rfl) rfl
theorem q1120 : (Jvm.Cond.selects "java/util/TreeMap" ({ cls := "java/util/TreeMap", name := "getEntry", desc := "(Ljava/lang/Object;)Ljava/util/TreeMap$Entry;" } : Jvm.MethodName) ({ cls := "java/util/TreeMap", name := "getEntry", desc := "(Ljava/lang/Object;)Ljava/util/TreeMap$Entry;" } : Jvm.MethodName)) ∈ lw_all := lw_g (lw_at lw_m5 67 rfl) rfl
theorem q1121 : (Jvm.Cond.code ({ cls := "java/util/TreeMap", name := "getEntry", desc := "(Ljava/lang/Object;)Ljava/util/TreeMap$Entry;" } : Jvm.MethodName) prog_75_method_15_code (5 : Nat) (Option.some (Jvm.ClassFile.FieldType.object "java/util/TreeMap$Entry"))) ∈ lw_all := lw_g (lw_at lw_m5 68 rfl) rfl
theorem q1122 : (Jvm.Cond.methodLink "java/util/TreeMap" (92 : Nat) ({ cls := "java/util/TreeMap", name := "getEntryUsingComparator", desc := "(Ljava/lang/Object;)Ljava/util/TreeMap$Entry;" } : Jvm.MethodName)) ∈ lw_all := lw_g (lw_at lw_m5 69 rfl) rfl
theorem q1123 : (Jvm.Cond.instanceMethod ({ cls := "java/util/TreeMap", name := "getEntryUsingComparator", desc := "(Ljava/lang/Object;)Ljava/util/TreeMap$Entry;" } : Jvm.MethodName)) ∈ lw_all := lw_g (lw_at lw_m5 70 rfl) rfl
theorem q1124 : (Jvm.Cond.selects "java/util/TreeMap" ({ cls := "java/util/TreeMap", name := "getEntryUsingComparator", desc := "(Ljava/lang/Object;)Ljava/util/TreeMap$Entry;" } : Jvm.MethodName) ({ cls := "java/util/TreeMap", name := "getEntryUsingComparator", desc := "(Ljava/lang/Object;)Ljava/util/TreeMap$Entry;" } : Jvm.MethodName)) ∈ lw_all := lw_g (lw_at lw_m5 71 rfl) rfl
theorem q1125 : (Jvm.Cond.code ({ cls := "java/util/TreeMap", name := "getEntryUsingComparator", desc := "(Ljava/lang/Object;)Ljava/util/TreeMap$Entry;" } : Jvm.MethodName) prog_75_method_16_code (6 : Nat) (Option.some (Jvm.ClassFile.FieldType.object "java/util/TreeMap$Entry"))) ∈ lw_all := lw_g (lw_at lw_m5 72 rfl) rfl
theorem q1126 : (Jvm.Cond.interfaceEntry "java/util/TreeMap" (117 : Nat)) ∈ lw_tbl := lw_at lw_m5 73 rfl
theorem q1127 : (Jvm.Cond.methodLink "java/util/TreeMap" (117 : Nat) ({ cls := "java/util/Comparator", name := "compare", desc := "(Ljava/lang/Object;Ljava/lang/Object;)I" } : Jvm.MethodName)) ∈ lw_all := lw_g (lw_at lw_m5 74 rfl) rfl
theorem q1128 : (Jvm.Cond.methodLink "java/util/TreeMap" (95 : Nat) ({ cls := "java/util/Objects", name := "requireNonNull", desc := "(Ljava/lang/Object;)Ljava/lang/Object;" } : Jvm.MethodName)) ∈ lw_all := lw_g (lw_at lw_m5 75 rfl) rfl
theorem q1131 : (Jvm.Cond.classLink "java/util/TreeMap" (99 : Nat) "java/lang/Comparable") ∈ lw_all := lw_g (lw_at lw_m5 78 rfl) rfl
theorem q1132 : (Jvm.Cond.interfaceEntry "java/util/TreeMap" (107 : Nat)) ∈ lw_tbl := lw_at lw_m5 79 rfl
theorem q1133 : (Jvm.Cond.methodLink "java/util/TreeMap" (107 : Nat) ({ cls := "java/lang/Comparable", name := "compareTo", desc := "(Ljava/lang/Object;)I" } : Jvm.MethodName)) ∈ lw_all := lw_g (lw_at lw_m5 80 rfl) rfl
theorem q1135 : (Jvm.Cond.instanceMethod ({ cls := "java/util/TreeMap", name := "get", desc := "(Ljava/lang/Object;)Ljava/lang/Object;" } : Jvm.MethodName)) ∈ lw_all := lw_g (lw_at lw_m5 82 rfl) rfl
theorem q1136 : (Jvm.Cond.selects "java/util/TreeMap" ({ cls := "java/util/TreeMap", name := "get", desc := "(Ljava/lang/Object;)Ljava/lang/Object;" } : Jvm.MethodName) ({ cls := "java/util/TreeMap", name := "get", desc := "(Ljava/lang/Object;)Ljava/lang/Object;" } : Jvm.MethodName)) ∈ lw_all := lw_g (lw_at lw_m5 83 rfl) rfl
theorem q1137 : (Jvm.Cond.code ({ cls := "java/util/TreeMap", name := "get", desc := "(Ljava/lang/Object;)Ljava/lang/Object;" } : Jvm.MethodName) prog_75_method_8_code (3 : Nat) (Option.some (Jvm.ClassFile.FieldType.object "java/lang/Object"))) ∈ lw_all := lw_g (lw_at lw_m5 84 rfl) rfl
theorem q1144 : (Jvm.Cond.instanceMethod ({ cls := "java/util/TreeMap", name := "put", desc := "(Ljava/lang/Object;Ljava/lang/Object;)Ljava/lang/Object;" } : Jvm.MethodName)) ∈ lw_all := lw_g (lw_at lw_m5 91 rfl) rfl
theorem q1145 : (Jvm.Cond.selects "java/util/TreeMap" ({ cls := "java/util/TreeMap", name := "put", desc := "(Ljava/lang/Object;Ljava/lang/Object;)Ljava/lang/Object;" } : Jvm.MethodName) ({ cls := "java/util/TreeMap", name := "put", desc := "(Ljava/lang/Object;Ljava/lang/Object;)Ljava/lang/Object;" } : Jvm.MethodName)) ∈ lw_all := lw_g (lw_at lw_m5 92 rfl) rfl
theorem q1146 : (Jvm.Cond.code ({ cls := "java/util/TreeMap", name := "put", desc := "(Ljava/lang/Object;Ljava/lang/Object;)Ljava/lang/Object;" } : Jvm.MethodName) prog_75_method_21_code (3 : Nat) (Option.some (Jvm.ClassFile.FieldType.object "java/lang/Object"))) ∈ lw_all := lw_g (lw_at lw_m5 93 rfl) rfl
theorem q1147 : (Jvm.Cond.methodLink "java/util/TreeMap" (127 : Nat) ({ cls := "java/util/TreeMap", name := "put", desc := "(Ljava/lang/Object;Ljava/lang/Object;Z)Ljava/lang/Object;" } : Jvm.MethodName)) ∈ lw_all := lw_g (lw_at lw_m5 94 rfl) rfl
theorem q1148 : (Jvm.Cond.privateMethod ({ cls := "java/util/TreeMap", name := "put", desc := "(Ljava/lang/Object;Ljava/lang/Object;Z)Ljava/lang/Object;" } : Jvm.MethodName)) ∈ lw_tbl := lw_at lw_m5 95 rfl
theorem q1149 : (Jvm.Cond.instanceMethod ({ cls := "java/util/TreeMap", name := "put", desc := "(Ljava/lang/Object;Ljava/lang/Object;Z)Ljava/lang/Object;" } : Jvm.MethodName)) ∈ lw_all := lw_g (lw_at lw_m5 96 rfl) rfl
theorem q1150 : (Jvm.Cond.code ({ cls := "java/util/TreeMap", name := "put", desc := "(Ljava/lang/Object;Ljava/lang/Object;Z)Ljava/lang/Object;" } : Jvm.MethodName) prog_75_method_31_code (10 : Nat) (Option.some (Jvm.ClassFile.FieldType.object "java/lang/Object"))) ∈ lw_all := lw_g (lw_at lw_m5 97 rfl) rfl
theorem q1151 : (Jvm.Cond.methodLink "java/util/TreeMap" (135 : Nat) ({ cls := "java/util/TreeMap", name := "addEntryToEmptyMap", desc := "(Ljava/lang/Object;Ljava/lang/Object;)V" } : Jvm.MethodName)) ∈ lw_all := lw_g (lw_at lw_m5 98 rfl) rfl
theorem q1152 : (Jvm.Cond.privateMethod ({ cls := "java/util/TreeMap", name := "addEntryToEmptyMap", desc := "(Ljava/lang/Object;Ljava/lang/Object;)V" } : Jvm.MethodName)) ∈ lw_tbl := lw_at lw_m5 99 rfl
theorem q1153 : (Jvm.Cond.instanceMethod ({ cls := "java/util/TreeMap", name := "addEntryToEmptyMap", desc := "(Ljava/lang/Object;Ljava/lang/Object;)V" } : Jvm.MethodName)) ∈ lw_all := lw_g (lw_at lw_m5 100 rfl) rfl
theorem q1154 : (Jvm.Cond.code ({ cls := "java/util/TreeMap", name := "addEntryToEmptyMap", desc := "(Ljava/lang/Object;Ljava/lang/Object;)V" } : Jvm.MethodName) prog_75_method_30_code (3 : Nat) (Option.none : Option Jvm.ClassFile.FieldType)) ∈ lw_all := lw_g (lw_at lw_m5 101 rfl) rfl
theorem q1155 : (Jvm.Cond.methodLink "java/util/TreeMap" (123 : Nat) ({ cls := "java/util/TreeMap", name := "compare", desc := "(Ljava/lang/Object;Ljava/lang/Object;)I" } : Jvm.MethodName)) ∈ lw_all := lw_g (lw_at lw_m5 102 rfl) rfl
theorem q1156 : (Jvm.Cond.instanceMethod ({ cls := "java/util/TreeMap", name := "compare", desc := "(Ljava/lang/Object;Ljava/lang/Object;)I" } : Jvm.MethodName)) ∈ lw_all := lw_g (lw_at lw_m5 103 rfl) rfl
theorem q1157 : (Jvm.Cond.selects "java/util/TreeMap" ({ cls := "java/util/TreeMap", name := "compare", desc := "(Ljava/lang/Object;Ljava/lang/Object;)I" } : Jvm.MethodName) ({ cls := "java/util/TreeMap", name := "compare", desc := "(Ljava/lang/Object;Ljava/lang/Object;)I" } : Jvm.MethodName)) ∈ lw_all := lw_g (lw_at lw_m5 104 rfl) rfl
theorem q1158 : (Jvm.Cond.code ({ cls := "java/util/TreeMap", name := "compare", desc := "(Ljava/lang/Object;Ljava/lang/Object;)I" } : Jvm.MethodName) prog_75_method_67_code (3 : Nat) (Option.some Jvm.ClassFile.FieldType.int)) ∈ lw_all := lw_g (lw_at lw_m5 105 rfl) rfl
theorem q1159 : (Jvm.Cond.classLink "java/util/TreeMap" (59 : Nat) "java/util/TreeMap$Entry") ∈ lw_all := lw_g (lw_at lw_m5 106 rfl) rfl
theorem q1161 : (Jvm.Cond.methodLink "java/util/TreeMap" (167 : Nat) ({ cls := "java/util/TreeMap$Entry", name := "<init>", desc := "(Ljava/lang/Object;Ljava/lang/Object;Ljava/util/TreeMap$Entry;)V" } : Jvm.MethodName)) ∈ lw_all := lw_g (lw_at lw_m5 108 rfl) rfl
theorem q1166 : (Jvm.Cond.fieldLink "java/util/TreeMap" (105 : Nat) "java/util/TreeMap$Entry" "key" "Ljava/lang/Object;") ∈ lw_all := lw_g (lw_at lw_m5 113 rfl) rfl
theorem q1168 : (Jvm.Cond.fieldLink "java/util/TreeMap" (58 : Nat) "java/util/TreeMap$Entry" "value" "Ljava/lang/Object;") ∈ lw_all := lw_g (lw_at lw_m5 115 rfl) rfl
theorem q1169 : (Jvm.Cond.fieldLink "java/util/TreeMap" (111 : Nat) "java/util/TreeMap$Entry" "left" "Ljava/util/TreeMap$Entry;") ∈ lw_all := lw_g (lw_at lw_m5 116 rfl) rfl
theorem q1170 : (Jvm.Cond.fieldLink "java/util/TreeMap" (114 : Nat) "java/util/TreeMap$Entry" "right" "Ljava/util/TreeMap$Entry;") ∈ lw_all := lw_g (lw_at lw_m5 117 rfl) rfl
theorem q1172 : (Jvm.Cond.fieldLink "java/util/TreeMap" (124 : Nat) "java/util/TreeMap$Entry" "parent" "Ljava/util/TreeMap$Entry;") ∈ lw_all := lw_g (lw_at lw_m5 119 rfl) rfl
theorem q1174 : (Jvm.Cond.fieldLink "java/util/TreeMap" (290 : Nat) "java/util/TreeMap$Entry" "color" "Z") ∈ lw_all := lw_g (lw_at lw_m5 121 rfl) rfl
theorem q1188 : (Jvm.Cond.methodLink "java/util/TreeMap" (139 : Nat) ({ cls := "java/util/TreeMap", name := "addEntry", desc := "(Ljava/lang/Object;Ljava/lang/Object;Ljava/util/TreeMap$Entry;Z)V" } : Jvm.MethodName)) ∈ lw_all := lw_g (lw_at lw_m5 135 rfl) rfl
theorem q1189 : (Jvm.Cond.privateMethod ({ cls := "java/util/TreeMap", name := "addEntry", desc := "(Ljava/lang/Object;Ljava/lang/Object;Ljava/util/TreeMap$Entry;Z)V" } : Jvm.MethodName)) ∈ lw_tbl := lw_at lw_m5 136 rfl
theorem q1190 : (Jvm.Cond.instanceMethod ({ cls := "java/util/TreeMap", name := "addEntry", desc := "(Ljava/lang/Object;Ljava/lang/Object;Ljava/util/TreeMap$Entry;Z)V" } : Jvm.MethodName)) ∈ lw_all := lw_g (lw_at lw_m5 137 rfl) rfl
theorem q1191 : (Jvm.Cond.code ({ cls := "java/util/TreeMap", name := "addEntry", desc := "(Ljava/lang/Object;Ljava/lang/Object;Ljava/util/TreeMap$Entry;Z)V" } : Jvm.MethodName) prog_75_method_29_code (6 : Nat) (Option.none : Option Jvm.ClassFile.FieldType)) ∈ lw_all := lw_g (lw_at lw_m5 138 rfl) rfl
theorem q1192 : (Jvm.Cond.methodLink "java/util/TreeMap" (170 : Nat) ({ cls := "java/util/TreeMap", name := "fixAfterInsertion", desc := "(Ljava/util/TreeMap$Entry;)V" } : Jvm.MethodName)) ∈ lw_all := lw_g (lw_at lw_m5 139 rfl) rfl
theorem q1193 : (Jvm.Cond.privateMethod ({ cls := "java/util/TreeMap", name := "fixAfterInsertion", desc := "(Ljava/util/TreeMap$Entry;)V" } : Jvm.MethodName)) ∈ lw_tbl := lw_at lw_m5 140 rfl
theorem q1194 : (Jvm.Cond.instanceMethod ({ cls := "java/util/TreeMap", name := "fixAfterInsertion", desc := "(Ljava/util/TreeMap$Entry;)V" } : Jvm.MethodName)) ∈ lw_all := lw_g (lw_at lw_m5 141 rfl) rfl
theorem q1195 : (Jvm.Cond.code ({ cls := "java/util/TreeMap", name := "fixAfterInsertion", desc := "(Ljava/util/TreeMap$Entry;)V" } : Jvm.MethodName) prog_75_method_83_code (3 : Nat) (Option.none : Option Jvm.ClassFile.FieldType)) ∈ lw_all := lw_g (lw_at lw_m5 142 rfl) rfl
theorem q1196 : (Jvm.Cond.methodLink "java/util/TreeMap" (294 : Nat) ({ cls := "java/util/TreeMap", name := "parentOf", desc := "(Ljava/util/TreeMap$Entry;)Ljava/util/TreeMap$Entry;" } : Jvm.MethodName)) ∈ lw_all := lw_g (lw_at lw_m5 143 rfl) rfl
theorem q1197 : (Jvm.Cond.static ({ cls := "java/util/TreeMap", name := "parentOf", desc := "(Ljava/util/TreeMap$Entry;)Ljava/util/TreeMap$Entry;" } : Jvm.MethodName)) ∈ lw_all := lw_g (lw_at lw_m5 144 rfl) rfl
theorem q1198 : (Jvm.Cond.code ({ cls := "java/util/TreeMap", name := "parentOf", desc := "(Ljava/util/TreeMap$Entry;)Ljava/util/TreeMap$Entry;" } : Jvm.MethodName) prog_75_method_77_code (1 : Nat) (Option.some (Jvm.ClassFile.FieldType.object "java/util/TreeMap$Entry"))) ∈ lw_all := lw_g (lw_at lw_m5 145 rfl) rfl
theorem q1199 : (Jvm.Cond.methodLink "java/util/TreeMap" (297 : Nat) ({ cls := "java/util/TreeMap", name := "leftOf", desc := "(Ljava/util/TreeMap$Entry;)Ljava/util/TreeMap$Entry;" } : Jvm.MethodName)) ∈ lw_all := lw_g (lw_at lw_m5 146 rfl) rfl
theorem q1200 : (Jvm.Cond.static ({ cls := "java/util/TreeMap", name := "leftOf", desc := "(Ljava/util/TreeMap$Entry;)Ljava/util/TreeMap$Entry;" } : Jvm.MethodName)) ∈ lw_all := lw_g (lw_at lw_m5 147 rfl) rfl
theorem q1201 : (Jvm.Cond.code ({ cls := "java/util/TreeMap", name := "leftOf", desc := "(Ljava/util/TreeMap$Entry;)Ljava/util/TreeMap$Entry;" } : Jvm.MethodName) prog_75_method_79_code (1 : Nat) (Option.some (Jvm.ClassFile.FieldType.object "java/util/TreeMap$Entry"))) ∈ lw_all := lw_g (lw_at lw_m5 148 rfl) rfl
theorem q1202 : (Jvm.Cond.methodLink "java/util/TreeMap" (300 : Nat) ({ cls := "java/util/TreeMap", name := "rightOf", desc := "(Ljava/util/TreeMap$Entry;)Ljava/util/TreeMap$Entry;" } : Jvm.MethodName)) ∈ lw_all := lw_g (lw_at lw_m5 149 rfl) rfl
theorem q1203 : (Jvm.Cond.static ({ cls := "java/util/TreeMap", name := "rightOf", desc := "(Ljava/util/TreeMap$Entry;)Ljava/util/TreeMap$Entry;" } : Jvm.MethodName)) ∈ lw_all := lw_g (lw_at lw_m5 150 rfl) rfl
theorem q1204 : (Jvm.Cond.code ({ cls := "java/util/TreeMap", name := "rightOf", desc := "(Ljava/util/TreeMap$Entry;)Ljava/util/TreeMap$Entry;" } : Jvm.MethodName) prog_75_method_80_code (1 : Nat) (Option.some (Jvm.ClassFile.FieldType.object "java/util/TreeMap$Entry"))) ∈ lw_all := lw_g (lw_at lw_m5 151 rfl) rfl
theorem q1205 : (Jvm.Cond.methodLink "java/util/TreeMap" (303 : Nat) ({ cls := "java/util/TreeMap", name := "colorOf", desc := "(Ljava/util/TreeMap$Entry;)Z" } : Jvm.MethodName)) ∈ lw_all := lw_g (lw_at lw_m5 152 rfl) rfl
theorem q1206 : (Jvm.Cond.static ({ cls := "java/util/TreeMap", name := "colorOf", desc := "(Ljava/util/TreeMap$Entry;)Z" } : Jvm.MethodName)) ∈ lw_all := lw_g (lw_at lw_m5 153 rfl) rfl
theorem q1207 : (Jvm.Cond.code ({ cls := "java/util/TreeMap", name := "colorOf", desc := "(Ljava/util/TreeMap$Entry;)Z" } : Jvm.MethodName) prog_75_method_76_code (1 : Nat) (Option.some Jvm.ClassFile.FieldType.boolean)) ∈ lw_all := lw_g (lw_at lw_m5 154 rfl) rfl
theorem q1208 : (Jvm.Cond.methodLink "java/util/TreeMap" (307 : Nat) ({ cls := "java/util/TreeMap", name := "setColor", desc := "(Ljava/util/TreeMap$Entry;Z)V" } : Jvm.MethodName)) ∈ lw_all := lw_g (lw_at lw_m5 155 rfl) rfl
theorem q1209 : (Jvm.Cond.static ({ cls := "java/util/TreeMap", name := "setColor", desc := "(Ljava/util/TreeMap$Entry;Z)V" } : Jvm.MethodName)) ∈ lw_all := lw_g (lw_at lw_m5 156 rfl) rfl
theorem q1210 : (Jvm.Cond.code ({ cls := "java/util/TreeMap", name := "setColor", desc := "(Ljava/util/TreeMap$Entry;Z)V" } : Jvm.MethodName) prog_75_method_78_code (2 : Nat) (Option.none : Option Jvm.ClassFile.FieldType)) ∈ lw_all := lw_g (lw_at lw_m5 157 rfl) rfl
theorem q1211 : (Jvm.Cond.methodLink "java/util/TreeMap" (311 : Nat) ({ cls := "java/util/TreeMap", name := "rotateLeft", desc := "(Ljava/util/TreeMap$Entry;)V" } : Jvm.MethodName)) ∈ lw_all := lw_g (lw_at lw_m5 158 rfl) rfl
theorem q1212 : (Jvm.Cond.privateMethod ({ cls := "java/util/TreeMap", name := "rotateLeft", desc := "(Ljava/util/TreeMap$Entry;)V" } : Jvm.MethodName)) ∈ lw_tbl := lw_at lw_m5 159 rfl
theorem q1213 : (Jvm.Cond.instanceMethod ({ cls := "java/util/TreeMap", name := "rotateLeft", desc := "(Ljava/util/TreeMap$Entry;)V" } : Jvm.MethodName)) ∈ lw_all := lw_g (lw_at lw_m5 160 rfl) rfl
theorem q1214 : (Jvm.Cond.code ({ cls := "java/util/TreeMap", name := "rotateLeft", desc := "(Ljava/util/TreeMap$Entry;)V" } : Jvm.MethodName) prog_75_method_81_code (3 : Nat) (Option.none : Option Jvm.ClassFile.FieldType)) ∈ lw_all := lw_g (lw_at lw_m5 161 rfl) rfl
theorem q1215 : (Jvm.Cond.methodLink "java/util/TreeMap" (314 : Nat) ({ cls := "java/util/TreeMap", name := "rotateRight", desc := "(Ljava/util/TreeMap$Entry;)V" } : Jvm.MethodName)) ∈ lw_all := lw_g (lw_at lw_m5 162 rfl) rfl
theorem q1216 : (Jvm.Cond.privateMethod ({ cls := "java/util/TreeMap", name := "rotateRight", desc := "(Ljava/util/TreeMap$Entry;)V" } : Jvm.MethodName)) ∈ lw_tbl := lw_at lw_m5 163 rfl
theorem q1217 : (Jvm.Cond.instanceMethod ({ cls := "java/util/TreeMap", name := "rotateRight", desc := "(Ljava/util/TreeMap$Entry;)V" } : Jvm.MethodName)) ∈ lw_all := lw_g (lw_at lw_m5 164 rfl) rfl
theorem q1218 : (Jvm.Cond.code ({ cls := "java/util/TreeMap", name := "rotateRight", desc := "(Ljava/util/TreeMap$Entry;)V" } : Jvm.MethodName) prog_75_method_82_code (3 : Nat) (Option.none : Option Jvm.ClassFile.FieldType)) ∈ lw_all := lw_g (lw_at lw_m5 165 rfl) rfl
theorem q1220 : (Jvm.Cond.instanceMethod ({ cls := "java/util/TreeMap", name := "entrySet", desc := "()Ljava/util/Set;" } : Jvm.MethodName)) ∈ lw_all := lw_g (lw_at lw_m5 167 rfl) rfl
theorem q1221 : (Jvm.Cond.selects "java/util/TreeMap" ({ cls := "java/util/TreeMap", name := "entrySet", desc := "()Ljava/util/Set;" } : Jvm.MethodName) ({ cls := "java/util/TreeMap", name := "entrySet", desc := "()Ljava/util/Set;" } : Jvm.MethodName)) ∈ lw_all := lw_g (lw_at lw_m5 168 rfl) rfl
theorem q1222 : (Jvm.Cond.code ({ cls := "java/util/TreeMap", name := "entrySet", desc := "()Ljava/util/Set;" } : Jvm.MethodName) prog_75_method_53_code (2 : Nat) (Option.some (Jvm.ClassFile.FieldType.object "java/util/Set"))) ∈ lw_all := lw_g (lw_at lw_m5 169 rfl) rfl
theorem q1223 : (Jvm.Cond.classLink "java/util/TreeMap" (242 : Nat) "java/util/TreeMap$EntrySet") ∈ lw_all := lw_g (lw_at lw_m5 170 rfl) rfl
theorem q1225 : (Jvm.Cond.methodLink "java/util/TreeMap" (244 : Nat) ({ cls := "java/util/TreeMap$EntrySet", name := "<init>", desc := "(Ljava/util/TreeMap;)V" } : Jvm.MethodName)) ∈ lw_all := lw_g (lw_at lw_m5 172 rfl) rfl
theorem q1249 : (Jvm.Cond.instanceMethod ({ cls := "java/util/TreeMap", name := "getFirstEntry", desc := "()Ljava/util/TreeMap$Entry;" } : Jvm.MethodName)) ∈ lw_all := lw_g (lw_at lw_m5 196 rfl) rfl
theorem q1250 : (Jvm.Cond.selects "java/util/TreeMap" ({ cls := "java/util/TreeMap", name := "getFirstEntry", desc := "()Ljava/util/TreeMap$Entry;" } : Jvm.MethodName) ({ cls := "java/util/TreeMap", name := "getFirstEntry", desc := "()Ljava/util/TreeMap$Entry;" } : Jvm.MethodName)) ∈ lw_all := lw_g (lw_at lw_m5 197 rfl) rfl
theorem q1251 : (Jvm.Cond.code ({ cls := "java/util/TreeMap", name := "getFirstEntry", desc := "()Ljava/util/TreeMap$Entry;" } : Jvm.MethodName) prog_75_method_72_code (2 : Nat) (Option.some (Jvm.ClassFile.FieldType.object "java/util/TreeMap$Entry"))) ∈ lw_all := lw_g (lw_at lw_m5 198 rfl) rfl
theorem q3242 : (Jvm.Cond.castable "java/util/TreeMap" "java/lang/Object") ∈ lw_tbl := lw_at lw_m14 29 rfl
theorem in_J19 : ∀ w ∈ wsJ190, w ∈ lw_all := lw_in wsJ190 [1090, 1092, 1076, 1078, 1080, 1082, 1084, 1086, 1088] (by decide +kernel) (by decide +kernel)
/-! java/lang/Number -/
set_option maxRecDepth 100000
def RJ20 : String := "java/lang/Number"
abbrev cJ20_init : ByteArray := prog_34_method_1_code
def yJ20_init : MethodName := ⟨RJ20, "<init>", "()V"⟩
theorem dJ20_init_0 : decode cJ20_init 0 = .ok (.aload_n 0, 1) := by decide +kernel
theorem dJ20_init_1 : decode cJ20_init 1 = .ok (.invokespecial 1, 3) := by decide +kernel
theorem dJ20_init_4 : decode cJ20_init 4 = .ok (.return_, 1) := by decide +kernel
theorem q120 : (Jvm.Cond.initialized "java/lang/Number") ∈ lw_all := lw_g (lw_at lw_m1 27 rfl) rfl
theorem q1107 : (Jvm.Cond.instanceMethod ({ cls := "java/lang/Number", name := "<init>", desc := "()V" } : Jvm.MethodName)) ∈ lw_all := lw_g (lw_at lw_m5 54 rfl) rfl
theorem q1108 : (Jvm.Cond.code ({ cls := "java/lang/Number", name := "<init>", desc := "()V" } : Jvm.MethodName) prog_34_method_1_code (1 : Nat) (Option.none : Option Jvm.ClassFile.FieldType)) ∈ lw_all := lw_g (lw_at lw_m5 55 rfl) rfl
theorem q1109 : (Jvm.Cond.methodLink "java/lang/Number" (1 : Nat) ({ cls := "java/lang/Object", name := "<init>", desc := "()V" } : Jvm.MethodName)) ∈ lw_all := lw_g (lw_at lw_m5 56 rfl) rfl
/-! java/lang/Integer -/
set_option maxRecDepth 100000
def RJ21 : String := "java/lang/Integer"
def TJ21 : u_T := fun k => match k with
  | _ => ("java/lang/Integer", "value", "I", true)
def tyJ21 : Nat → FieldType := fun k => match k with
  | _ => .int
abbrev wsJ210 : List Cond := u_ws RJ21 TJ21 1
theorem nmJ21 : ∀ a, a < 1 → ∀ b, b < 1 → a ≠ b → (TJ21 a).2.1 ≠ (TJ21 b).2.1 := by decide +kernel
theorem tyJ21_ok : ∀ k, k < 1 → parseFieldDescriptor (TJ21 k).2.2.1 = some (tyJ21 k) := by decide +kernel
abbrev cJ21_compare : ByteArray := prog_29_method_40_code
def yJ21_compare : MethodName := ⟨RJ21, "compare", "(II)I"⟩
def dkwJ21_compare_0 : List UInt8 := [26, 27, 162, 0, 7, 2, 167, 0, 13, 26, 27, 160, 0, 7, 3, 167, 0, 4, 4, 172]
abbrev dktJ21_compare_0 : List UInt8 := dkwJ21_compare_0 ++ []
theorem dksJ21_compare_0 : cJ21_compare.data.toList.drop 0 = dktJ21_compare_0 := by decide +kernel
theorem dJ21_compare_0 : decode cJ21_compare 0 = .ok (.iload_n 0, 1) := dk_26 (dk_at dksJ21_compare_0 0 rfl rfl)
theorem dJ21_compare_1 : decode cJ21_compare 1 = .ok (.iload_n 1, 1) := dk_27 (dk_at dksJ21_compare_0 1 rfl rfl)
theorem dJ21_compare_2 : decode cJ21_compare 2 = .ok (.if_icmp .ge 7, 3) := dk_162 0 7 (dk_at dksJ21_compare_0 2 rfl rfl)
theorem dJ21_compare_5 : decode cJ21_compare 5 = .ok (.iconst (-1), 1) := dk_2 (dk_at dksJ21_compare_0 5 rfl rfl)
theorem dJ21_compare_6 : decode cJ21_compare 6 = .ok (.goto 13, 3) := dk_167 0 13 (dk_at dksJ21_compare_0 6 rfl rfl)
theorem dJ21_compare_9 : decode cJ21_compare 9 = .ok (.iload_n 0, 1) := dk_26 (dk_at dksJ21_compare_0 9 rfl rfl)
theorem dJ21_compare_10 : decode cJ21_compare 10 = .ok (.iload_n 1, 1) := dk_27 (dk_at dksJ21_compare_0 10 rfl rfl)
theorem dJ21_compare_11 : decode cJ21_compare 11 = .ok (.if_icmp .ne 7, 3) := dk_160 0 7 (dk_at dksJ21_compare_0 11 rfl rfl)
theorem dJ21_compare_14 : decode cJ21_compare 14 = .ok (.iconst 0, 1) := dk_3 (dk_at dksJ21_compare_0 14 rfl rfl)
theorem dJ21_compare_15 : decode cJ21_compare 15 = .ok (.goto 4, 3) := dk_167 0 4 (dk_at dksJ21_compare_0 15 rfl rfl)
theorem dJ21_compare_18 : decode cJ21_compare 18 = .ok (.iconst 1, 1) := dk_4 (dk_at dksJ21_compare_0 18 rfl rfl)
theorem dJ21_compare_19 : decode cJ21_compare 19 = .ok (.ireturn, 1) := dk_172 (dk_at dksJ21_compare_0 19 rfl rfl)
abbrev cJ21_compareTo : ByteArray := prog_29_method_63_code
def yJ21_compareTo : MethodName := ⟨RJ21, "compareTo", "(Ljava/lang/Object;)I"⟩
def dkwJ21_compareTo_0 : List UInt8 := [42, 43, 192, 0, 1, 182, 1, 28, 172]
abbrev dktJ21_compareTo_0 : List UInt8 := dkwJ21_compareTo_0 ++ []
theorem dksJ21_compareTo_0 : cJ21_compareTo.data.toList.drop 0 = dktJ21_compareTo_0 := by decide +kernel
theorem dJ21_compareTo_0 : decode cJ21_compareTo 0 = .ok (.aload_n 0, 1) := dk_42 (dk_at dksJ21_compareTo_0 0 rfl rfl)
theorem dJ21_compareTo_1 : decode cJ21_compareTo 1 = .ok (.aload_n 1, 1) := dk_43 (dk_at dksJ21_compareTo_0 1 rfl rfl)
theorem dJ21_compareTo_2 : decode cJ21_compareTo 2 = .ok (.checkcast 1, 3) := dk_192 0 1 (dk_at dksJ21_compareTo_0 2 rfl rfl)
theorem dJ21_compareTo_5 : decode cJ21_compareTo 5 = .ok (.invokevirtual 284, 3) := dk_182 1 28 (dk_at dksJ21_compareTo_0 5 rfl rfl)
theorem dJ21_compareTo_8 : decode cJ21_compareTo 8 = .ok (.ireturn, 1) := dk_172 (dk_at dksJ21_compareTo_0 8 rfl rfl)
abbrev cJ21_compareTo_2 : ByteArray := prog_29_method_39_code
def yJ21_compareTo_2 : MethodName := ⟨RJ21, "compareTo", "(Ljava/lang/Integer;)I"⟩
def dkwJ21_compareTo_2_0 : List UInt8 := [42, 180, 0, 205, 43, 180, 0, 205, 184, 1, 3, 172]
abbrev dktJ21_compareTo_2_0 : List UInt8 := dkwJ21_compareTo_2_0 ++ []
theorem dksJ21_compareTo_2_0 : cJ21_compareTo_2.data.toList.drop 0 = dktJ21_compareTo_2_0 := by decide +kernel
theorem dJ21_compareTo_2_0 : decode cJ21_compareTo_2 0 = .ok (.aload_n 0, 1) := dk_42 (dk_at dksJ21_compareTo_2_0 0 rfl rfl)
theorem dJ21_compareTo_2_1 : decode cJ21_compareTo_2 1 = .ok (.getfield 205, 3) := dk_180 0 205 (dk_at dksJ21_compareTo_2_0 1 rfl rfl)
theorem dJ21_compareTo_2_4 : decode cJ21_compareTo_2 4 = .ok (.aload_n 1, 1) := dk_43 (dk_at dksJ21_compareTo_2_0 4 rfl rfl)
theorem dJ21_compareTo_2_5 : decode cJ21_compareTo_2 5 = .ok (.getfield 205, 3) := dk_180 0 205 (dk_at dksJ21_compareTo_2_0 5 rfl rfl)
theorem dJ21_compareTo_2_8 : decode cJ21_compareTo_2 8 = .ok (.invokestatic 259, 3) := dk_184 1 3 (dk_at dksJ21_compareTo_2_0 8 rfl rfl)
theorem dJ21_compareTo_2_11 : decode cJ21_compareTo_2 11 = .ok (.ireturn, 1) := dk_172 (dk_at dksJ21_compareTo_2_0 11 rfl rfl)
abbrev cJ21_numberOfLeadingZeros : ByteArray := prog_29_method_47_code
def yJ21_numberOfLeadingZeros : MethodName := ⟨RJ21, "numberOfLeadingZeros", "(I)I"⟩
def dkwJ21_numberOfLeadingZeros_3 : List UInt8 := [5, 124, 59, 27, 26, 4, 124, 100, 172]
abbrev dktJ21_numberOfLeadingZeros_3 : List UInt8 := dkwJ21_numberOfLeadingZeros_3 ++ []
def dkwJ21_numberOfLeadingZeros_2 : List UInt8 := [124, 59, 26, 16, 16, 161, 0, 10, 132, 1, 252, 26, 7, 124, 59, 26, 7, 161, 0, 10, 132, 1, 254, 26]
abbrev dktJ21_numberOfLeadingZeros_2 : List UInt8 := dkwJ21_numberOfLeadingZeros_2 ++ dktJ21_numberOfLeadingZeros_3
def dkwJ21_numberOfLeadingZeros_1 : List UInt8 := [161, 0, 11, 132, 1, 240, 26, 16, 16, 124, 59, 26, 17, 1, 0, 161, 0, 11, 132, 1, 248, 26, 16, 8]
abbrev dktJ21_numberOfLeadingZeros_1 : List UInt8 := dkwJ21_numberOfLeadingZeros_1 ++ dktJ21_numberOfLeadingZeros_2
def dkwJ21_numberOfLeadingZeros_0 : List UInt8 := [26, 157, 0, 14, 26, 154, 0, 8, 16, 32, 167, 0, 4, 3, 172, 16, 31, 60, 26, 19, 1, 8]
abbrev dktJ21_numberOfLeadingZeros_0 : List UInt8 := dkwJ21_numberOfLeadingZeros_0 ++ dktJ21_numberOfLeadingZeros_1
theorem dksJ21_numberOfLeadingZeros_0 : cJ21_numberOfLeadingZeros.data.toList.drop 0 = dktJ21_numberOfLeadingZeros_0 := by decide +kernel
theorem dksJ21_numberOfLeadingZeros_1 : cJ21_numberOfLeadingZeros.data.toList.drop 22 = dktJ21_numberOfLeadingZeros_1 := dk_seg dksJ21_numberOfLeadingZeros_0 22 rfl rfl
theorem dksJ21_numberOfLeadingZeros_2 : cJ21_numberOfLeadingZeros.data.toList.drop 46 = dktJ21_numberOfLeadingZeros_2 := dk_seg dksJ21_numberOfLeadingZeros_1 24 rfl rfl
theorem dksJ21_numberOfLeadingZeros_3 : cJ21_numberOfLeadingZeros.data.toList.drop 70 = dktJ21_numberOfLeadingZeros_3 := dk_seg dksJ21_numberOfLeadingZeros_2 24 rfl rfl
theorem dJ21_numberOfLeadingZeros_0 : decode cJ21_numberOfLeadingZeros 0 = .ok (.iload_n 0, 1) := dk_26 (dk_at dksJ21_numberOfLeadingZeros_0 0 rfl rfl)
theorem dJ21_numberOfLeadingZeros_1 : decode cJ21_numberOfLeadingZeros 1 = .ok (.ifCond .gt 14, 3) := dk_157 0 14 (dk_at dksJ21_numberOfLeadingZeros_0 1 rfl rfl)
theorem dJ21_numberOfLeadingZeros_4 : decode cJ21_numberOfLeadingZeros 4 = .ok (.iload_n 0, 1) := dk_26 (dk_at dksJ21_numberOfLeadingZeros_0 4 rfl rfl)
theorem dJ21_numberOfLeadingZeros_5 : decode cJ21_numberOfLeadingZeros 5 = .ok (.ifCond .ne 8, 3) := dk_154 0 8 (dk_at dksJ21_numberOfLeadingZeros_0 5 rfl rfl)
theorem dJ21_numberOfLeadingZeros_8 : decode cJ21_numberOfLeadingZeros 8 = .ok (.bipush 32, 2) := dk_16 32 (dk_at dksJ21_numberOfLeadingZeros_0 8 rfl rfl)
theorem dJ21_numberOfLeadingZeros_10 : decode cJ21_numberOfLeadingZeros 10 = .ok (.goto 4, 3) := dk_167 0 4 (dk_at dksJ21_numberOfLeadingZeros_0 10 rfl rfl)
theorem dJ21_numberOfLeadingZeros_13 : decode cJ21_numberOfLeadingZeros 13 = .ok (.iconst 0, 1) := dk_3 (dk_at dksJ21_numberOfLeadingZeros_0 13 rfl rfl)
theorem dJ21_numberOfLeadingZeros_14 : decode cJ21_numberOfLeadingZeros 14 = .ok (.ireturn, 1) := dk_172 (dk_at dksJ21_numberOfLeadingZeros_0 14 rfl rfl)
theorem dJ21_numberOfLeadingZeros_15 : decode cJ21_numberOfLeadingZeros 15 = .ok (.bipush 31, 2) := dk_16 31 (dk_at dksJ21_numberOfLeadingZeros_0 15 rfl rfl)
theorem dJ21_numberOfLeadingZeros_17 : decode cJ21_numberOfLeadingZeros 17 = .ok (.istore_n 1, 1) := dk_60 (dk_at dksJ21_numberOfLeadingZeros_0 17 rfl rfl)
theorem dJ21_numberOfLeadingZeros_18 : decode cJ21_numberOfLeadingZeros 18 = .ok (.iload_n 0, 1) := dk_26 (dk_at dksJ21_numberOfLeadingZeros_0 18 rfl rfl)
theorem dJ21_numberOfLeadingZeros_19 : decode cJ21_numberOfLeadingZeros 19 = .ok (.ldc_w 264, 3) := dk_19 1 8 (dk_at dksJ21_numberOfLeadingZeros_0 19 rfl rfl)
theorem dJ21_numberOfLeadingZeros_22 : decode cJ21_numberOfLeadingZeros 22 = .ok (.if_icmp .lt 11, 3) := dk_161 0 11 (dk_at dksJ21_numberOfLeadingZeros_1 0 rfl rfl)
theorem dJ21_numberOfLeadingZeros_25 : decode cJ21_numberOfLeadingZeros 25 = .ok (.iinc 1 (-16), 3) := dk_132 1 240 (dk_at dksJ21_numberOfLeadingZeros_1 3 rfl rfl)
theorem dJ21_numberOfLeadingZeros_28 : decode cJ21_numberOfLeadingZeros 28 = .ok (.iload_n 0, 1) := dk_26 (dk_at dksJ21_numberOfLeadingZeros_1 6 rfl rfl)
theorem dJ21_numberOfLeadingZeros_29 : decode cJ21_numberOfLeadingZeros 29 = .ok (.bipush 16, 2) := dk_16 16 (dk_at dksJ21_numberOfLeadingZeros_1 7 rfl rfl)
theorem dJ21_numberOfLeadingZeros_31 : decode cJ21_numberOfLeadingZeros 31 = .ok (.iushr, 1) := dk_124 (dk_at dksJ21_numberOfLeadingZeros_1 9 rfl rfl)
theorem dJ21_numberOfLeadingZeros_32 : decode cJ21_numberOfLeadingZeros 32 = .ok (.istore_n 0, 1) := dk_59 (dk_at dksJ21_numberOfLeadingZeros_1 10 rfl rfl)
theorem dJ21_numberOfLeadingZeros_33 : decode cJ21_numberOfLeadingZeros 33 = .ok (.iload_n 0, 1) := dk_26 (dk_at dksJ21_numberOfLeadingZeros_1 11 rfl rfl)
theorem dJ21_numberOfLeadingZeros_34 : decode cJ21_numberOfLeadingZeros 34 = .ok (.sipush 256, 3) := dk_17 1 0 (dk_at dksJ21_numberOfLeadingZeros_1 12 rfl rfl)
theorem dJ21_numberOfLeadingZeros_37 : decode cJ21_numberOfLeadingZeros 37 = .ok (.if_icmp .lt 11, 3) := dk_161 0 11 (dk_at dksJ21_numberOfLeadingZeros_1 15 rfl rfl)
theorem dJ21_numberOfLeadingZeros_40 : decode cJ21_numberOfLeadingZeros 40 = .ok (.iinc 1 (-8), 3) := dk_132 1 248 (dk_at dksJ21_numberOfLeadingZeros_1 18 rfl rfl)
theorem dJ21_numberOfLeadingZeros_43 : decode cJ21_numberOfLeadingZeros 43 = .ok (.iload_n 0, 1) := dk_26 (dk_at dksJ21_numberOfLeadingZeros_1 21 rfl rfl)
theorem dJ21_numberOfLeadingZeros_44 : decode cJ21_numberOfLeadingZeros 44 = .ok (.bipush 8, 2) := dk_16 8 (dk_at dksJ21_numberOfLeadingZeros_1 22 rfl rfl)
theorem dJ21_numberOfLeadingZeros_46 : decode cJ21_numberOfLeadingZeros 46 = .ok (.iushr, 1) := dk_124 (dk_at dksJ21_numberOfLeadingZeros_2 0 rfl rfl)
theorem dJ21_numberOfLeadingZeros_47 : decode cJ21_numberOfLeadingZeros 47 = .ok (.istore_n 0, 1) := dk_59 (dk_at dksJ21_numberOfLeadingZeros_2 1 rfl rfl)
theorem dJ21_numberOfLeadingZeros_48 : decode cJ21_numberOfLeadingZeros 48 = .ok (.iload_n 0, 1) := dk_26 (dk_at dksJ21_numberOfLeadingZeros_2 2 rfl rfl)
theorem dJ21_numberOfLeadingZeros_49 : decode cJ21_numberOfLeadingZeros 49 = .ok (.bipush 16, 2) := dk_16 16 (dk_at dksJ21_numberOfLeadingZeros_2 3 rfl rfl)
theorem dJ21_numberOfLeadingZeros_51 : decode cJ21_numberOfLeadingZeros 51 = .ok (.if_icmp .lt 10, 3) := dk_161 0 10 (dk_at dksJ21_numberOfLeadingZeros_2 5 rfl rfl)
theorem dJ21_numberOfLeadingZeros_54 : decode cJ21_numberOfLeadingZeros 54 = .ok (.iinc 1 (-4), 3) := dk_132 1 252 (dk_at dksJ21_numberOfLeadingZeros_2 8 rfl rfl)
theorem dJ21_numberOfLeadingZeros_57 : decode cJ21_numberOfLeadingZeros 57 = .ok (.iload_n 0, 1) := dk_26 (dk_at dksJ21_numberOfLeadingZeros_2 11 rfl rfl)
theorem dJ21_numberOfLeadingZeros_58 : decode cJ21_numberOfLeadingZeros 58 = .ok (.iconst 4, 1) := dk_7 (dk_at dksJ21_numberOfLeadingZeros_2 12 rfl rfl)
theorem dJ21_numberOfLeadingZeros_59 : decode cJ21_numberOfLeadingZeros 59 = .ok (.iushr, 1) := dk_124 (dk_at dksJ21_numberOfLeadingZeros_2 13 rfl rfl)
theorem dJ21_numberOfLeadingZeros_60 : decode cJ21_numberOfLeadingZeros 60 = .ok (.istore_n 0, 1) := dk_59 (dk_at dksJ21_numberOfLeadingZeros_2 14 rfl rfl)
theorem dJ21_numberOfLeadingZeros_61 : decode cJ21_numberOfLeadingZeros 61 = .ok (.iload_n 0, 1) := dk_26 (dk_at dksJ21_numberOfLeadingZeros_2 15 rfl rfl)
theorem dJ21_numberOfLeadingZeros_62 : decode cJ21_numberOfLeadingZeros 62 = .ok (.iconst 4, 1) := dk_7 (dk_at dksJ21_numberOfLeadingZeros_2 16 rfl rfl)
theorem dJ21_numberOfLeadingZeros_63 : decode cJ21_numberOfLeadingZeros 63 = .ok (.if_icmp .lt 10, 3) := dk_161 0 10 (dk_at dksJ21_numberOfLeadingZeros_2 17 rfl rfl)
theorem dJ21_numberOfLeadingZeros_66 : decode cJ21_numberOfLeadingZeros 66 = .ok (.iinc 1 (-2), 3) := dk_132 1 254 (dk_at dksJ21_numberOfLeadingZeros_2 20 rfl rfl)
theorem dJ21_numberOfLeadingZeros_69 : decode cJ21_numberOfLeadingZeros 69 = .ok (.iload_n 0, 1) := dk_26 (dk_at dksJ21_numberOfLeadingZeros_2 23 rfl rfl)
theorem dJ21_numberOfLeadingZeros_70 : decode cJ21_numberOfLeadingZeros 70 = .ok (.iconst 2, 1) := dk_5 (dk_at dksJ21_numberOfLeadingZeros_3 0 rfl rfl)
theorem dJ21_numberOfLeadingZeros_71 : decode cJ21_numberOfLeadingZeros 71 = .ok (.iushr, 1) := dk_124 (dk_at dksJ21_numberOfLeadingZeros_3 1 rfl rfl)
theorem dJ21_numberOfLeadingZeros_72 : decode cJ21_numberOfLeadingZeros 72 = .ok (.istore_n 0, 1) := dk_59 (dk_at dksJ21_numberOfLeadingZeros_3 2 rfl rfl)
theorem dJ21_numberOfLeadingZeros_73 : decode cJ21_numberOfLeadingZeros 73 = .ok (.iload_n 1, 1) := dk_27 (dk_at dksJ21_numberOfLeadingZeros_3 3 rfl rfl)
theorem dJ21_numberOfLeadingZeros_74 : decode cJ21_numberOfLeadingZeros 74 = .ok (.iload_n 0, 1) := dk_26 (dk_at dksJ21_numberOfLeadingZeros_3 4 rfl rfl)
theorem dJ21_numberOfLeadingZeros_75 : decode cJ21_numberOfLeadingZeros 75 = .ok (.iconst 1, 1) := dk_4 (dk_at dksJ21_numberOfLeadingZeros_3 5 rfl rfl)
theorem dJ21_numberOfLeadingZeros_76 : decode cJ21_numberOfLeadingZeros 76 = .ok (.iushr, 1) := dk_124 (dk_at dksJ21_numberOfLeadingZeros_3 6 rfl rfl)
theorem dJ21_numberOfLeadingZeros_77 : decode cJ21_numberOfLeadingZeros 77 = .ok (.isub, 1) := dk_100 (dk_at dksJ21_numberOfLeadingZeros_3 7 rfl rfl)
theorem dJ21_numberOfLeadingZeros_78 : decode cJ21_numberOfLeadingZeros 78 = .ok (.ireturn, 1) := dk_172 (dk_at dksJ21_numberOfLeadingZeros_3 8 rfl rfl)
abbrev cJ21_numberOfTrailingZeros : ByteArray := prog_29_method_48_code
def yJ21_numberOfTrailingZeros : MethodName := ⟨RJ21, "numberOfTrailingZeros", "(I)I"⟩
def dkwJ21_numberOfTrailingZeros_3 : List UInt8 := [5, 124, 59, 27, 26, 4, 124, 96, 172]
abbrev dktJ21_numberOfTrailingZeros_3 : List UInt8 := dkwJ21_numberOfTrailingZeros_3 ++ []
def dkwJ21_numberOfTrailingZeros_2 : List UInt8 := [124, 59, 26, 16, 16, 164, 0, 10, 132, 1, 4, 26, 7, 124, 59, 26, 7, 164, 0, 10, 132, 1, 2, 26]
abbrev dktJ21_numberOfTrailingZeros_2 : List UInt8 := dkwJ21_numberOfTrailingZeros_2 ++ dktJ21_numberOfTrailingZeros_3
def dkwJ21_numberOfTrailingZeros_1 : List UInt8 := [164, 0, 11, 132, 1, 16, 26, 16, 16, 124, 59, 26, 17, 1, 0, 164, 0, 11, 132, 1, 8, 26, 16, 8]
abbrev dktJ21_numberOfTrailingZeros_1 : List UInt8 := dkwJ21_numberOfTrailingZeros_1 ++ dktJ21_numberOfTrailingZeros_2
def dkwJ21_numberOfTrailingZeros_0 : List UInt8 := [26, 2, 130, 26, 4, 100, 126, 59, 26, 157, 0, 8, 26, 16, 32, 126, 172, 4, 60, 26, 19, 1, 8]
abbrev dktJ21_numberOfTrailingZeros_0 : List UInt8 := dkwJ21_numberOfTrailingZeros_0 ++ dktJ21_numberOfTrailingZeros_1
theorem dksJ21_numberOfTrailingZeros_0 : cJ21_numberOfTrailingZeros.data.toList.drop 0 = dktJ21_numberOfTrailingZeros_0 := by decide +kernel
theorem dksJ21_numberOfTrailingZeros_1 : cJ21_numberOfTrailingZeros.data.toList.drop 23 = dktJ21_numberOfTrailingZeros_1 := dk_seg dksJ21_numberOfTrailingZeros_0 23 rfl rfl
theorem dksJ21_numberOfTrailingZeros_2 : cJ21_numberOfTrailingZeros.data.toList.drop 47 = dktJ21_numberOfTrailingZeros_2 := dk_seg dksJ21_numberOfTrailingZeros_1 24 rfl rfl
theorem dksJ21_numberOfTrailingZeros_3 : cJ21_numberOfTrailingZeros.data.toList.drop 71 = dktJ21_numberOfTrailingZeros_3 := dk_seg dksJ21_numberOfTrailingZeros_2 24 rfl rfl
theorem dJ21_numberOfTrailingZeros_0 : decode cJ21_numberOfTrailingZeros 0 = .ok (.iload_n 0, 1) := dk_26 (dk_at dksJ21_numberOfTrailingZeros_0 0 rfl rfl)
theorem dJ21_numberOfTrailingZeros_1 : decode cJ21_numberOfTrailingZeros 1 = .ok (.iconst (-1), 1) := dk_2 (dk_at dksJ21_numberOfTrailingZeros_0 1 rfl rfl)
theorem dJ21_numberOfTrailingZeros_2 : decode cJ21_numberOfTrailingZeros 2 = .ok (.ixor, 1) := dk_130 (dk_at dksJ21_numberOfTrailingZeros_0 2 rfl rfl)
theorem dJ21_numberOfTrailingZeros_3 : decode cJ21_numberOfTrailingZeros 3 = .ok (.iload_n 0, 1) := dk_26 (dk_at dksJ21_numberOfTrailingZeros_0 3 rfl rfl)
theorem dJ21_numberOfTrailingZeros_4 : decode cJ21_numberOfTrailingZeros 4 = .ok (.iconst 1, 1) := dk_4 (dk_at dksJ21_numberOfTrailingZeros_0 4 rfl rfl)
theorem dJ21_numberOfTrailingZeros_5 : decode cJ21_numberOfTrailingZeros 5 = .ok (.isub, 1) := dk_100 (dk_at dksJ21_numberOfTrailingZeros_0 5 rfl rfl)
theorem dJ21_numberOfTrailingZeros_6 : decode cJ21_numberOfTrailingZeros 6 = .ok (.iand, 1) := dk_126 (dk_at dksJ21_numberOfTrailingZeros_0 6 rfl rfl)
theorem dJ21_numberOfTrailingZeros_7 : decode cJ21_numberOfTrailingZeros 7 = .ok (.istore_n 0, 1) := dk_59 (dk_at dksJ21_numberOfTrailingZeros_0 7 rfl rfl)
theorem dJ21_numberOfTrailingZeros_8 : decode cJ21_numberOfTrailingZeros 8 = .ok (.iload_n 0, 1) := dk_26 (dk_at dksJ21_numberOfTrailingZeros_0 8 rfl rfl)
theorem dJ21_numberOfTrailingZeros_9 : decode cJ21_numberOfTrailingZeros 9 = .ok (.ifCond .gt 8, 3) := dk_157 0 8 (dk_at dksJ21_numberOfTrailingZeros_0 9 rfl rfl)
theorem dJ21_numberOfTrailingZeros_12 : decode cJ21_numberOfTrailingZeros 12 = .ok (.iload_n 0, 1) := dk_26 (dk_at dksJ21_numberOfTrailingZeros_0 12 rfl rfl)
theorem dJ21_numberOfTrailingZeros_13 : decode cJ21_numberOfTrailingZeros 13 = .ok (.bipush 32, 2) := dk_16 32 (dk_at dksJ21_numberOfTrailingZeros_0 13 rfl rfl)
theorem dJ21_numberOfTrailingZeros_15 : decode cJ21_numberOfTrailingZeros 15 = .ok (.iand, 1) := dk_126 (dk_at dksJ21_numberOfTrailingZeros_0 15 rfl rfl)
theorem dJ21_numberOfTrailingZeros_16 : decode cJ21_numberOfTrailingZeros 16 = .ok (.ireturn, 1) := dk_172 (dk_at dksJ21_numberOfTrailingZeros_0 16 rfl rfl)
theorem dJ21_numberOfTrailingZeros_17 : decode cJ21_numberOfTrailingZeros 17 = .ok (.iconst 1, 1) := dk_4 (dk_at dksJ21_numberOfTrailingZeros_0 17 rfl rfl)
theorem dJ21_numberOfTrailingZeros_18 : decode cJ21_numberOfTrailingZeros 18 = .ok (.istore_n 1, 1) := dk_60 (dk_at dksJ21_numberOfTrailingZeros_0 18 rfl rfl)
theorem dJ21_numberOfTrailingZeros_19 : decode cJ21_numberOfTrailingZeros 19 = .ok (.iload_n 0, 1) := dk_26 (dk_at dksJ21_numberOfTrailingZeros_0 19 rfl rfl)
theorem dJ21_numberOfTrailingZeros_20 : decode cJ21_numberOfTrailingZeros 20 = .ok (.ldc_w 264, 3) := dk_19 1 8 (dk_at dksJ21_numberOfTrailingZeros_0 20 rfl rfl)
theorem dJ21_numberOfTrailingZeros_23 : decode cJ21_numberOfTrailingZeros 23 = .ok (.if_icmp .le 11, 3) := dk_164 0 11 (dk_at dksJ21_numberOfTrailingZeros_1 0 rfl rfl)
theorem dJ21_numberOfTrailingZeros_26 : decode cJ21_numberOfTrailingZeros 26 = .ok (.iinc 1 16, 3) := dk_132 1 16 (dk_at dksJ21_numberOfTrailingZeros_1 3 rfl rfl)
theorem dJ21_numberOfTrailingZeros_29 : decode cJ21_numberOfTrailingZeros 29 = .ok (.iload_n 0, 1) := dk_26 (dk_at dksJ21_numberOfTrailingZeros_1 6 rfl rfl)
theorem dJ21_numberOfTrailingZeros_30 : decode cJ21_numberOfTrailingZeros 30 = .ok (.bipush 16, 2) := dk_16 16 (dk_at dksJ21_numberOfTrailingZeros_1 7 rfl rfl)
theorem dJ21_numberOfTrailingZeros_32 : decode cJ21_numberOfTrailingZeros 32 = .ok (.iushr, 1) := dk_124 (dk_at dksJ21_numberOfTrailingZeros_1 9 rfl rfl)
theorem dJ21_numberOfTrailingZeros_33 : decode cJ21_numberOfTrailingZeros 33 = .ok (.istore_n 0, 1) := dk_59 (dk_at dksJ21_numberOfTrailingZeros_1 10 rfl rfl)
theorem dJ21_numberOfTrailingZeros_34 : decode cJ21_numberOfTrailingZeros 34 = .ok (.iload_n 0, 1) := dk_26 (dk_at dksJ21_numberOfTrailingZeros_1 11 rfl rfl)
theorem dJ21_numberOfTrailingZeros_35 : decode cJ21_numberOfTrailingZeros 35 = .ok (.sipush 256, 3) := dk_17 1 0 (dk_at dksJ21_numberOfTrailingZeros_1 12 rfl rfl)
theorem dJ21_numberOfTrailingZeros_38 : decode cJ21_numberOfTrailingZeros 38 = .ok (.if_icmp .le 11, 3) := dk_164 0 11 (dk_at dksJ21_numberOfTrailingZeros_1 15 rfl rfl)
theorem dJ21_numberOfTrailingZeros_41 : decode cJ21_numberOfTrailingZeros 41 = .ok (.iinc 1 8, 3) := dk_132 1 8 (dk_at dksJ21_numberOfTrailingZeros_1 18 rfl rfl)
theorem dJ21_numberOfTrailingZeros_44 : decode cJ21_numberOfTrailingZeros 44 = .ok (.iload_n 0, 1) := dk_26 (dk_at dksJ21_numberOfTrailingZeros_1 21 rfl rfl)
theorem dJ21_numberOfTrailingZeros_45 : decode cJ21_numberOfTrailingZeros 45 = .ok (.bipush 8, 2) := dk_16 8 (dk_at dksJ21_numberOfTrailingZeros_1 22 rfl rfl)
theorem dJ21_numberOfTrailingZeros_47 : decode cJ21_numberOfTrailingZeros 47 = .ok (.iushr, 1) := dk_124 (dk_at dksJ21_numberOfTrailingZeros_2 0 rfl rfl)
theorem dJ21_numberOfTrailingZeros_48 : decode cJ21_numberOfTrailingZeros 48 = .ok (.istore_n 0, 1) := dk_59 (dk_at dksJ21_numberOfTrailingZeros_2 1 rfl rfl)
theorem dJ21_numberOfTrailingZeros_49 : decode cJ21_numberOfTrailingZeros 49 = .ok (.iload_n 0, 1) := dk_26 (dk_at dksJ21_numberOfTrailingZeros_2 2 rfl rfl)
theorem dJ21_numberOfTrailingZeros_50 : decode cJ21_numberOfTrailingZeros 50 = .ok (.bipush 16, 2) := dk_16 16 (dk_at dksJ21_numberOfTrailingZeros_2 3 rfl rfl)
theorem dJ21_numberOfTrailingZeros_52 : decode cJ21_numberOfTrailingZeros 52 = .ok (.if_icmp .le 10, 3) := dk_164 0 10 (dk_at dksJ21_numberOfTrailingZeros_2 5 rfl rfl)
theorem dJ21_numberOfTrailingZeros_55 : decode cJ21_numberOfTrailingZeros 55 = .ok (.iinc 1 4, 3) := dk_132 1 4 (dk_at dksJ21_numberOfTrailingZeros_2 8 rfl rfl)
theorem dJ21_numberOfTrailingZeros_58 : decode cJ21_numberOfTrailingZeros 58 = .ok (.iload_n 0, 1) := dk_26 (dk_at dksJ21_numberOfTrailingZeros_2 11 rfl rfl)
theorem dJ21_numberOfTrailingZeros_59 : decode cJ21_numberOfTrailingZeros 59 = .ok (.iconst 4, 1) := dk_7 (dk_at dksJ21_numberOfTrailingZeros_2 12 rfl rfl)
theorem dJ21_numberOfTrailingZeros_60 : decode cJ21_numberOfTrailingZeros 60 = .ok (.iushr, 1) := dk_124 (dk_at dksJ21_numberOfTrailingZeros_2 13 rfl rfl)
theorem dJ21_numberOfTrailingZeros_61 : decode cJ21_numberOfTrailingZeros 61 = .ok (.istore_n 0, 1) := dk_59 (dk_at dksJ21_numberOfTrailingZeros_2 14 rfl rfl)
theorem dJ21_numberOfTrailingZeros_62 : decode cJ21_numberOfTrailingZeros 62 = .ok (.iload_n 0, 1) := dk_26 (dk_at dksJ21_numberOfTrailingZeros_2 15 rfl rfl)
theorem dJ21_numberOfTrailingZeros_63 : decode cJ21_numberOfTrailingZeros 63 = .ok (.iconst 4, 1) := dk_7 (dk_at dksJ21_numberOfTrailingZeros_2 16 rfl rfl)
theorem dJ21_numberOfTrailingZeros_64 : decode cJ21_numberOfTrailingZeros 64 = .ok (.if_icmp .le 10, 3) := dk_164 0 10 (dk_at dksJ21_numberOfTrailingZeros_2 17 rfl rfl)
theorem dJ21_numberOfTrailingZeros_67 : decode cJ21_numberOfTrailingZeros 67 = .ok (.iinc 1 2, 3) := dk_132 1 2 (dk_at dksJ21_numberOfTrailingZeros_2 20 rfl rfl)
theorem dJ21_numberOfTrailingZeros_70 : decode cJ21_numberOfTrailingZeros 70 = .ok (.iload_n 0, 1) := dk_26 (dk_at dksJ21_numberOfTrailingZeros_2 23 rfl rfl)
theorem dJ21_numberOfTrailingZeros_71 : decode cJ21_numberOfTrailingZeros 71 = .ok (.iconst 2, 1) := dk_5 (dk_at dksJ21_numberOfTrailingZeros_3 0 rfl rfl)
theorem dJ21_numberOfTrailingZeros_72 : decode cJ21_numberOfTrailingZeros 72 = .ok (.iushr, 1) := dk_124 (dk_at dksJ21_numberOfTrailingZeros_3 1 rfl rfl)
theorem dJ21_numberOfTrailingZeros_73 : decode cJ21_numberOfTrailingZeros 73 = .ok (.istore_n 0, 1) := dk_59 (dk_at dksJ21_numberOfTrailingZeros_3 2 rfl rfl)
theorem dJ21_numberOfTrailingZeros_74 : decode cJ21_numberOfTrailingZeros 74 = .ok (.iload_n 1, 1) := dk_27 (dk_at dksJ21_numberOfTrailingZeros_3 3 rfl rfl)
theorem dJ21_numberOfTrailingZeros_75 : decode cJ21_numberOfTrailingZeros 75 = .ok (.iload_n 0, 1) := dk_26 (dk_at dksJ21_numberOfTrailingZeros_3 4 rfl rfl)
theorem dJ21_numberOfTrailingZeros_76 : decode cJ21_numberOfTrailingZeros 76 = .ok (.iconst 1, 1) := dk_4 (dk_at dksJ21_numberOfTrailingZeros_3 5 rfl rfl)
theorem dJ21_numberOfTrailingZeros_77 : decode cJ21_numberOfTrailingZeros 77 = .ok (.iushr, 1) := dk_124 (dk_at dksJ21_numberOfTrailingZeros_3 6 rfl rfl)
theorem dJ21_numberOfTrailingZeros_78 : decode cJ21_numberOfTrailingZeros 78 = .ok (.iadd, 1) := dk_96 (dk_at dksJ21_numberOfTrailingZeros_3 7 rfl rfl)
theorem dJ21_numberOfTrailingZeros_79 : decode cJ21_numberOfTrailingZeros 79 = .ok (.ireturn, 1) := dk_172 (dk_at dksJ21_numberOfTrailingZeros_3 8 rfl rfl)
abbrev cJ21_valueOf : ByteArray := prog_29_method_22_code
def yJ21_valueOf : MethodName := ⟨RJ21, "valueOf", "(I)Ljava/lang/Integer;"⟩
def dkwJ21_valueOf_1 : List UInt8 := [187, 0, 1, 89, 26, 183, 0, 199, 176]
abbrev dktJ21_valueOf_1 : List UInt8 := dkwJ21_valueOf_1 ++ []
def dkwJ21_valueOf_0 : List UInt8 := [26, 16, 128, 161, 0, 20, 26, 178, 0, 191, 163, 0, 13, 178, 0, 195, 26, 17, 0, 128, 96, 50, 176]
abbrev dktJ21_valueOf_0 : List UInt8 := dkwJ21_valueOf_0 ++ dktJ21_valueOf_1
theorem dksJ21_valueOf_0 : cJ21_valueOf.data.toList.drop 0 = dktJ21_valueOf_0 := by decide +kernel
theorem dksJ21_valueOf_1 : cJ21_valueOf.data.toList.drop 23 = dktJ21_valueOf_1 := dk_seg dksJ21_valueOf_0 23 rfl rfl
theorem dJ21_valueOf_0 : decode cJ21_valueOf 0 = .ok (.iload_n 0, 1) := dk_26 (dk_at dksJ21_valueOf_0 0 rfl rfl)
theorem dJ21_valueOf_1 : decode cJ21_valueOf 1 = .ok (.bipush (-128), 2) := dk_16 128 (dk_at dksJ21_valueOf_0 1 rfl rfl)
theorem dJ21_valueOf_3 : decode cJ21_valueOf 3 = .ok (.if_icmp .lt 20, 3) := dk_161 0 20 (dk_at dksJ21_valueOf_0 3 rfl rfl)
theorem dJ21_valueOf_6 : decode cJ21_valueOf 6 = .ok (.iload_n 0, 1) := dk_26 (dk_at dksJ21_valueOf_0 6 rfl rfl)
theorem dJ21_valueOf_7 : decode cJ21_valueOf 7 = .ok (.getstatic 191, 3) := dk_178 0 191 (dk_at dksJ21_valueOf_0 7 rfl rfl)
theorem dJ21_valueOf_10 : decode cJ21_valueOf 10 = .ok (.if_icmp .gt 13, 3) := dk_163 0 13 (dk_at dksJ21_valueOf_0 10 rfl rfl)
theorem dJ21_valueOf_13 : decode cJ21_valueOf 13 = .ok (.getstatic 195, 3) := dk_178 0 195 (dk_at dksJ21_valueOf_0 13 rfl rfl)
theorem dJ21_valueOf_16 : decode cJ21_valueOf 16 = .ok (.iload_n 0, 1) := dk_26 (dk_at dksJ21_valueOf_0 16 rfl rfl)
theorem dJ21_valueOf_17 : decode cJ21_valueOf 17 = .ok (.sipush 128, 3) := dk_17 0 128 (dk_at dksJ21_valueOf_0 17 rfl rfl)
theorem dJ21_valueOf_20 : decode cJ21_valueOf 20 = .ok (.iadd, 1) := dk_96 (dk_at dksJ21_valueOf_0 20 rfl rfl)
theorem dJ21_valueOf_21 : decode cJ21_valueOf 21 = .ok (.aaload, 1) := dk_50 (dk_at dksJ21_valueOf_0 21 rfl rfl)
theorem dJ21_valueOf_22 : decode cJ21_valueOf 22 = .ok (.areturn, 1) := dk_176 (dk_at dksJ21_valueOf_0 22 rfl rfl)
theorem dJ21_valueOf_23 : decode cJ21_valueOf 23 = .ok (.new 1, 3) := dk_187 0 1 (dk_at dksJ21_valueOf_1 0 rfl rfl)
theorem dJ21_valueOf_26 : decode cJ21_valueOf 26 = .ok (.dup, 1) := dk_89 (dk_at dksJ21_valueOf_1 3 rfl rfl)
theorem dJ21_valueOf_27 : decode cJ21_valueOf 27 = .ok (.iload_n 0, 1) := dk_26 (dk_at dksJ21_valueOf_1 4 rfl rfl)
theorem dJ21_valueOf_28 : decode cJ21_valueOf 28 = .ok (.invokespecial 199, 3) := dk_183 0 199 (dk_at dksJ21_valueOf_1 5 rfl rfl)
theorem dJ21_valueOf_31 : decode cJ21_valueOf 31 = .ok (.areturn, 1) := dk_176 (dk_at dksJ21_valueOf_1 8 rfl rfl)
abbrev cJ21_init : ByteArray := prog_29_method_23_code
def yJ21_init : MethodName := ⟨RJ21, "<init>", "(I)V"⟩
def dkwJ21_init_0 : List UInt8 := [42, 183, 0, 202, 42, 27, 181, 0, 205, 177]
abbrev dktJ21_init_0 : List UInt8 := dkwJ21_init_0 ++ []
theorem dksJ21_init_0 : cJ21_init.data.toList.drop 0 = dktJ21_init_0 := by decide +kernel
theorem dJ21_init_0 : decode cJ21_init 0 = .ok (.aload_n 0, 1) := dk_42 (dk_at dksJ21_init_0 0 rfl rfl)
theorem dJ21_init_1 : decode cJ21_init 1 = .ok (.invokespecial 202, 3) := dk_183 0 202 (dk_at dksJ21_init_0 1 rfl rfl)
theorem dJ21_init_4 : decode cJ21_init 4 = .ok (.aload_n 0, 1) := dk_42 (dk_at dksJ21_init_0 4 rfl rfl)
theorem dJ21_init_5 : decode cJ21_init 5 = .ok (.iload_n 1, 1) := dk_27 (dk_at dksJ21_init_0 5 rfl rfl)
theorem dJ21_init_6 : decode cJ21_init 6 = .ok (.putfield 205, 3) := dk_181 0 205 (dk_at dksJ21_init_0 6 rfl rfl)
theorem dJ21_init_9 : decode cJ21_init 9 = .ok (.return_, 1) := dk_177 (dk_at dksJ21_init_0 9 rfl rfl)
abbrev cJ21_intValue : ByteArray := prog_29_method_27_code
def yJ21_intValue : MethodName := ⟨RJ21, "intValue", "()I"⟩
theorem dJ21_intValue_0 : decode cJ21_intValue 0 = .ok (.aload_n 0, 1) := by decide +kernel
theorem dJ21_intValue_1 : decode cJ21_intValue 1 = .ok (.getfield 205, 3) := by decide +kernel
theorem dJ21_intValue_4 : decode cJ21_intValue 4 = .ok (.ireturn, 1) := by decide +kernel
abbrev cJ21_stringSize : ByteArray := prog_29_method_13_code
def yJ21_stringSize : MethodName := ⟨RJ21, "stringSize", "(I)I"⟩
def dkwJ21_stringSize_1 : List UInt8 := [164, 0, 7, 29, 27, 96, 172, 16, 10, 28, 104, 61, 132, 3, 1, 167, 255, 233, 16, 10, 27, 96, 172]
abbrev dktJ21_stringSize_1 : List UInt8 := dkwJ21_stringSize_1 ++ []
def dkwJ21_stringSize_0 : List UInt8 := [4, 60, 26, 155, 0, 8, 3, 60, 26, 116, 59, 16, 246, 61, 4, 62, 29, 16, 10, 162, 0, 23, 26, 28]
abbrev dktJ21_stringSize_0 : List UInt8 := dkwJ21_stringSize_0 ++ dktJ21_stringSize_1
theorem dksJ21_stringSize_0 : cJ21_stringSize.data.toList.drop 0 = dktJ21_stringSize_0 := by decide +kernel
theorem dksJ21_stringSize_1 : cJ21_stringSize.data.toList.drop 24 = dktJ21_stringSize_1 := dk_seg dksJ21_stringSize_0 24 rfl rfl
theorem dJ21_stringSize_0 : decode cJ21_stringSize 0 = .ok (.iconst 1, 1) := dk_4 (dk_at dksJ21_stringSize_0 0 rfl rfl)
theorem dJ21_stringSize_1 : decode cJ21_stringSize 1 = .ok (.istore_n 1, 1) := dk_60 (dk_at dksJ21_stringSize_0 1 rfl rfl)
theorem dJ21_stringSize_2 : decode cJ21_stringSize 2 = .ok (.iload_n 0, 1) := dk_26 (dk_at dksJ21_stringSize_0 2 rfl rfl)
theorem dJ21_stringSize_3 : decode cJ21_stringSize 3 = .ok (.ifCond .lt 8, 3) := dk_155 0 8 (dk_at dksJ21_stringSize_0 3 rfl rfl)
theorem dJ21_stringSize_6 : decode cJ21_stringSize 6 = .ok (.iconst 0, 1) := dk_3 (dk_at dksJ21_stringSize_0 6 rfl rfl)
theorem dJ21_stringSize_7 : decode cJ21_stringSize 7 = .ok (.istore_n 1, 1) := dk_60 (dk_at dksJ21_stringSize_0 7 rfl rfl)
theorem dJ21_stringSize_8 : decode cJ21_stringSize 8 = .ok (.iload_n 0, 1) := dk_26 (dk_at dksJ21_stringSize_0 8 rfl rfl)
theorem dJ21_stringSize_9 : decode cJ21_stringSize 9 = .ok (.ineg, 1) := dk_116 (dk_at dksJ21_stringSize_0 9 rfl rfl)
theorem dJ21_stringSize_10 : decode cJ21_stringSize 10 = .ok (.istore_n 0, 1) := dk_59 (dk_at dksJ21_stringSize_0 10 rfl rfl)
theorem dJ21_stringSize_11 : decode cJ21_stringSize 11 = .ok (.bipush (-10), 2) := dk_16 246 (dk_at dksJ21_stringSize_0 11 rfl rfl)
theorem dJ21_stringSize_13 : decode cJ21_stringSize 13 = .ok (.istore_n 2, 1) := dk_61 (dk_at dksJ21_stringSize_0 13 rfl rfl)
theorem dJ21_stringSize_14 : decode cJ21_stringSize 14 = .ok (.iconst 1, 1) := dk_4 (dk_at dksJ21_stringSize_0 14 rfl rfl)
theorem dJ21_stringSize_15 : decode cJ21_stringSize 15 = .ok (.istore_n 3, 1) := dk_62 (dk_at dksJ21_stringSize_0 15 rfl rfl)
theorem dJ21_stringSize_16 : decode cJ21_stringSize 16 = .ok (.iload_n 3, 1) := dk_29 (dk_at dksJ21_stringSize_0 16 rfl rfl)
theorem dJ21_stringSize_17 : decode cJ21_stringSize 17 = .ok (.bipush 10, 2) := dk_16 10 (dk_at dksJ21_stringSize_0 17 rfl rfl)
theorem dJ21_stringSize_19 : decode cJ21_stringSize 19 = .ok (.if_icmp .ge 23, 3) := dk_162 0 23 (dk_at dksJ21_stringSize_0 19 rfl rfl)
theorem dJ21_stringSize_22 : decode cJ21_stringSize 22 = .ok (.iload_n 0, 1) := dk_26 (dk_at dksJ21_stringSize_0 22 rfl rfl)
theorem dJ21_stringSize_23 : decode cJ21_stringSize 23 = .ok (.iload_n 2, 1) := dk_28 (dk_at dksJ21_stringSize_0 23 rfl rfl)
theorem dJ21_stringSize_24 : decode cJ21_stringSize 24 = .ok (.if_icmp .le 7, 3) := dk_164 0 7 (dk_at dksJ21_stringSize_1 0 rfl rfl)
theorem dJ21_stringSize_27 : decode cJ21_stringSize 27 = .ok (.iload_n 3, 1) := dk_29 (dk_at dksJ21_stringSize_1 3 rfl rfl)
theorem dJ21_stringSize_28 : decode cJ21_stringSize 28 = .ok (.iload_n 1, 1) := dk_27 (dk_at dksJ21_stringSize_1 4 rfl rfl)
theorem dJ21_stringSize_29 : decode cJ21_stringSize 29 = .ok (.iadd, 1) := dk_96 (dk_at dksJ21_stringSize_1 5 rfl rfl)
theorem dJ21_stringSize_30 : decode cJ21_stringSize 30 = .ok (.ireturn, 1) := dk_172 (dk_at dksJ21_stringSize_1 6 rfl rfl)
theorem dJ21_stringSize_31 : decode cJ21_stringSize 31 = .ok (.bipush 10, 2) := dk_16 10 (dk_at dksJ21_stringSize_1 7 rfl rfl)
theorem dJ21_stringSize_33 : decode cJ21_stringSize 33 = .ok (.iload_n 2, 1) := dk_28 (dk_at dksJ21_stringSize_1 9 rfl rfl)
theorem dJ21_stringSize_34 : decode cJ21_stringSize 34 = .ok (.imul, 1) := dk_104 (dk_at dksJ21_stringSize_1 10 rfl rfl)
theorem dJ21_stringSize_35 : decode cJ21_stringSize 35 = .ok (.istore_n 2, 1) := dk_61 (dk_at dksJ21_stringSize_1 11 rfl rfl)
theorem dJ21_stringSize_36 : decode cJ21_stringSize 36 = .ok (.iinc 3 1, 3) := dk_132 3 1 (dk_at dksJ21_stringSize_1 12 rfl rfl)
theorem dJ21_stringSize_39 : decode cJ21_stringSize 39 = .ok (.goto (-23), 3) := dk_167 255 233 (dk_at dksJ21_stringSize_1 15 rfl rfl)
theorem dJ21_stringSize_42 : decode cJ21_stringSize 42 = .ok (.bipush 10, 2) := dk_16 10 (dk_at dksJ21_stringSize_1 18 rfl rfl)
theorem dJ21_stringSize_44 : decode cJ21_stringSize 44 = .ok (.iload_n 1, 1) := dk_27 (dk_at dksJ21_stringSize_1 20 rfl rfl)
theorem dJ21_stringSize_45 : decode cJ21_stringSize 45 = .ok (.iadd, 1) := dk_96 (dk_at dksJ21_stringSize_1 21 rfl rfl)
theorem dJ21_stringSize_46 : decode cJ21_stringSize 46 = .ok (.ireturn, 1) := dk_172 (dk_at dksJ21_stringSize_1 22 rfl rfl)
abbrev cJ21_getChars : ByteArray := prog_29_method_12_code
def yJ21_getChars : MethodName := ⟨RJ21, "getChars", "(II[B)I"⟩
def dkwJ21_getChars_5 : List UInt8 := [16, 45, 84, 21, 5, 172]
abbrev dktJ21_getChars_5 : List UInt8 := dkwJ21_getChars_5 ++ []
def dkwJ21_getChars_4 : List UInt8 := [132, 5, 255, 21, 5, 178, 0, 87, 26, 116, 51, 84, 21, 6, 153, 0, 12, 44, 132, 5, 255, 21, 5]
abbrev dktJ21_getChars_4 : List UInt8 := dkwJ21_getChars_4 ++ dktJ21_getChars_5
def dkwJ21_getChars_3 : List UInt8 := [167, 255, 209, 44, 132, 5, 255, 21, 5, 178, 0, 83, 26, 116, 51, 84, 26, 16, 247, 162, 0, 16, 44]
abbrev dktJ21_getChars_3 : List UInt8 := dkwJ21_getChars_3 ++ dktJ21_getChars_4
def dkwJ21_getChars_2 : List UInt8 := [21, 5, 178, 0, 83, 21, 4, 51, 84, 44, 132, 5, 255, 21, 5, 178, 0, 87, 21, 4, 51, 84]
abbrev dktJ21_getChars_2 : List UInt8 := dkwJ21_getChars_2 ++ dktJ21_getChars_3
def dkwJ21_getChars_1 : List UInt8 := [16, 156, 163, 0, 47, 26, 16, 100, 108, 62, 29, 16, 100, 104, 26, 100, 54, 4, 29, 59, 44, 132, 5, 255]
abbrev dktJ21_getChars_1 : List UInt8 := dkwJ21_getChars_1 ++ dktJ21_getChars_2
def dkwJ21_getChars_0 : List UInt8 := [27, 54, 5, 26, 156, 0, 7, 4, 167, 0, 4, 3, 54, 6, 21, 6, 154, 0, 6, 26, 116, 59, 26]
abbrev dktJ21_getChars_0 : List UInt8 := dkwJ21_getChars_0 ++ dktJ21_getChars_1
theorem dksJ21_getChars_0 : cJ21_getChars.data.toList.drop 0 = dktJ21_getChars_0 := by decide +kernel
theorem dksJ21_getChars_1 : cJ21_getChars.data.toList.drop 23 = dktJ21_getChars_1 := dk_seg dksJ21_getChars_0 23 rfl rfl
theorem dksJ21_getChars_2 : cJ21_getChars.data.toList.drop 47 = dktJ21_getChars_2 := dk_seg dksJ21_getChars_1 24 rfl rfl
theorem dksJ21_getChars_3 : cJ21_getChars.data.toList.drop 69 = dktJ21_getChars_3 := dk_seg dksJ21_getChars_2 22 rfl rfl
theorem dksJ21_getChars_4 : cJ21_getChars.data.toList.drop 92 = dktJ21_getChars_4 := dk_seg dksJ21_getChars_3 23 rfl rfl
theorem dksJ21_getChars_5 : cJ21_getChars.data.toList.drop 115 = dktJ21_getChars_5 := dk_seg dksJ21_getChars_4 23 rfl rfl
theorem dJ21_getChars_0 : decode cJ21_getChars 0 = .ok (.iload_n 1, 1) := dk_27 (dk_at dksJ21_getChars_0 0 rfl rfl)
theorem dJ21_getChars_1 : decode cJ21_getChars 1 = .ok (.istore 5, 2) := dk_54 5 (dk_at dksJ21_getChars_0 1 rfl rfl)
theorem dJ21_getChars_3 : decode cJ21_getChars 3 = .ok (.iload_n 0, 1) := dk_26 (dk_at dksJ21_getChars_0 3 rfl rfl)
theorem dJ21_getChars_4 : decode cJ21_getChars 4 = .ok (.ifCond .ge 7, 3) := dk_156 0 7 (dk_at dksJ21_getChars_0 4 rfl rfl)
theorem dJ21_getChars_7 : decode cJ21_getChars 7 = .ok (.iconst 1, 1) := dk_4 (dk_at dksJ21_getChars_0 7 rfl rfl)
theorem dJ21_getChars_8 : decode cJ21_getChars 8 = .ok (.goto 4, 3) := dk_167 0 4 (dk_at dksJ21_getChars_0 8 rfl rfl)
theorem dJ21_getChars_11 : decode cJ21_getChars 11 = .ok (.iconst 0, 1) := dk_3 (dk_at dksJ21_getChars_0 11 rfl rfl)
theorem dJ21_getChars_12 : decode cJ21_getChars 12 = .ok (.istore 6, 2) := dk_54 6 (dk_at dksJ21_getChars_0 12 rfl rfl)
theorem dJ21_getChars_14 : decode cJ21_getChars 14 = .ok (.iload 6, 2) := dk_21 6 (dk_at dksJ21_getChars_0 14 rfl rfl)
theorem dJ21_getChars_16 : decode cJ21_getChars 16 = .ok (.ifCond .ne 6, 3) := dk_154 0 6 (dk_at dksJ21_getChars_0 16 rfl rfl)
theorem dJ21_getChars_19 : decode cJ21_getChars 19 = .ok (.iload_n 0, 1) := dk_26 (dk_at dksJ21_getChars_0 19 rfl rfl)
theorem dJ21_getChars_20 : decode cJ21_getChars 20 = .ok (.ineg, 1) := dk_116 (dk_at dksJ21_getChars_0 20 rfl rfl)
theorem dJ21_getChars_21 : decode cJ21_getChars 21 = .ok (.istore_n 0, 1) := dk_59 (dk_at dksJ21_getChars_0 21 rfl rfl)
theorem dJ21_getChars_22 : decode cJ21_getChars 22 = .ok (.iload_n 0, 1) := dk_26 (dk_at dksJ21_getChars_0 22 rfl rfl)
theorem dJ21_getChars_23 : decode cJ21_getChars 23 = .ok (.bipush (-100), 2) := dk_16 156 (dk_at dksJ21_getChars_1 0 rfl rfl)
theorem dJ21_getChars_25 : decode cJ21_getChars 25 = .ok (.if_icmp .gt 47, 3) := dk_163 0 47 (dk_at dksJ21_getChars_1 2 rfl rfl)
theorem dJ21_getChars_28 : decode cJ21_getChars 28 = .ok (.iload_n 0, 1) := dk_26 (dk_at dksJ21_getChars_1 5 rfl rfl)
theorem dJ21_getChars_29 : decode cJ21_getChars 29 = .ok (.bipush 100, 2) := dk_16 100 (dk_at dksJ21_getChars_1 6 rfl rfl)
theorem dJ21_getChars_31 : decode cJ21_getChars 31 = .ok (.idiv, 1) := dk_108 (dk_at dksJ21_getChars_1 8 rfl rfl)
theorem dJ21_getChars_32 : decode cJ21_getChars 32 = .ok (.istore_n 3, 1) := dk_62 (dk_at dksJ21_getChars_1 9 rfl rfl)
theorem dJ21_getChars_33 : decode cJ21_getChars 33 = .ok (.iload_n 3, 1) := dk_29 (dk_at dksJ21_getChars_1 10 rfl rfl)
theorem dJ21_getChars_34 : decode cJ21_getChars 34 = .ok (.bipush 100, 2) := dk_16 100 (dk_at dksJ21_getChars_1 11 rfl rfl)
theorem dJ21_getChars_36 : decode cJ21_getChars 36 = .ok (.imul, 1) := dk_104 (dk_at dksJ21_getChars_1 13 rfl rfl)
theorem dJ21_getChars_37 : decode cJ21_getChars 37 = .ok (.iload_n 0, 1) := dk_26 (dk_at dksJ21_getChars_1 14 rfl rfl)
theorem dJ21_getChars_38 : decode cJ21_getChars 38 = .ok (.isub, 1) := dk_100 (dk_at dksJ21_getChars_1 15 rfl rfl)
theorem dJ21_getChars_39 : decode cJ21_getChars 39 = .ok (.istore 4, 2) := dk_54 4 (dk_at dksJ21_getChars_1 16 rfl rfl)
theorem dJ21_getChars_41 : decode cJ21_getChars 41 = .ok (.iload_n 3, 1) := dk_29 (dk_at dksJ21_getChars_1 18 rfl rfl)
theorem dJ21_getChars_42 : decode cJ21_getChars 42 = .ok (.istore_n 0, 1) := dk_59 (dk_at dksJ21_getChars_1 19 rfl rfl)
theorem dJ21_getChars_43 : decode cJ21_getChars 43 = .ok (.aload_n 2, 1) := dk_44 (dk_at dksJ21_getChars_1 20 rfl rfl)
theorem dJ21_getChars_44 : decode cJ21_getChars 44 = .ok (.iinc 5 (-1), 3) := dk_132 5 255 (dk_at dksJ21_getChars_1 21 rfl rfl)
theorem dJ21_getChars_47 : decode cJ21_getChars 47 = .ok (.iload 5, 2) := dk_21 5 (dk_at dksJ21_getChars_2 0 rfl rfl)
theorem dJ21_getChars_49 : decode cJ21_getChars 49 = .ok (.getstatic 83, 3) := dk_178 0 83 (dk_at dksJ21_getChars_2 2 rfl rfl)
theorem dJ21_getChars_52 : decode cJ21_getChars 52 = .ok (.iload 4, 2) := dk_21 4 (dk_at dksJ21_getChars_2 5 rfl rfl)
theorem dJ21_getChars_54 : decode cJ21_getChars 54 = .ok (.baload, 1) := dk_51 (dk_at dksJ21_getChars_2 7 rfl rfl)
theorem dJ21_getChars_55 : decode cJ21_getChars 55 = .ok (.bastore, 1) := dk_84 (dk_at dksJ21_getChars_2 8 rfl rfl)
theorem dJ21_getChars_56 : decode cJ21_getChars 56 = .ok (.aload_n 2, 1) := dk_44 (dk_at dksJ21_getChars_2 9 rfl rfl)
theorem dJ21_getChars_57 : decode cJ21_getChars 57 = .ok (.iinc 5 (-1), 3) := dk_132 5 255 (dk_at dksJ21_getChars_2 10 rfl rfl)
theorem dJ21_getChars_60 : decode cJ21_getChars 60 = .ok (.iload 5, 2) := dk_21 5 (dk_at dksJ21_getChars_2 13 rfl rfl)
theorem dJ21_getChars_62 : decode cJ21_getChars 62 = .ok (.getstatic 87, 3) := dk_178 0 87 (dk_at dksJ21_getChars_2 15 rfl rfl)
theorem dJ21_getChars_65 : decode cJ21_getChars 65 = .ok (.iload 4, 2) := dk_21 4 (dk_at dksJ21_getChars_2 18 rfl rfl)
theorem dJ21_getChars_67 : decode cJ21_getChars 67 = .ok (.baload, 1) := dk_51 (dk_at dksJ21_getChars_2 20 rfl rfl)
theorem dJ21_getChars_68 : decode cJ21_getChars 68 = .ok (.bastore, 1) := dk_84 (dk_at dksJ21_getChars_2 21 rfl rfl)
theorem dJ21_getChars_69 : decode cJ21_getChars 69 = .ok (.goto (-47), 3) := dk_167 255 209 (dk_at dksJ21_getChars_3 0 rfl rfl)
theorem dJ21_getChars_72 : decode cJ21_getChars 72 = .ok (.aload_n 2, 1) := dk_44 (dk_at dksJ21_getChars_3 3 rfl rfl)
theorem dJ21_getChars_73 : decode cJ21_getChars 73 = .ok (.iinc 5 (-1), 3) := dk_132 5 255 (dk_at dksJ21_getChars_3 4 rfl rfl)
theorem dJ21_getChars_76 : decode cJ21_getChars 76 = .ok (.iload 5, 2) := dk_21 5 (dk_at dksJ21_getChars_3 7 rfl rfl)
theorem dJ21_getChars_78 : decode cJ21_getChars 78 = .ok (.getstatic 83, 3) := dk_178 0 83 (dk_at dksJ21_getChars_3 9 rfl rfl)
theorem dJ21_getChars_81 : decode cJ21_getChars 81 = .ok (.iload_n 0, 1) := dk_26 (dk_at dksJ21_getChars_3 12 rfl rfl)
theorem dJ21_getChars_82 : decode cJ21_getChars 82 = .ok (.ineg, 1) := dk_116 (dk_at dksJ21_getChars_3 13 rfl rfl)
theorem dJ21_getChars_83 : decode cJ21_getChars 83 = .ok (.baload, 1) := dk_51 (dk_at dksJ21_getChars_3 14 rfl rfl)
theorem dJ21_getChars_84 : decode cJ21_getChars 84 = .ok (.bastore, 1) := dk_84 (dk_at dksJ21_getChars_3 15 rfl rfl)
theorem dJ21_getChars_85 : decode cJ21_getChars 85 = .ok (.iload_n 0, 1) := dk_26 (dk_at dksJ21_getChars_3 16 rfl rfl)
theorem dJ21_getChars_86 : decode cJ21_getChars 86 = .ok (.bipush (-9), 2) := dk_16 247 (dk_at dksJ21_getChars_3 17 rfl rfl)
theorem dJ21_getChars_88 : decode cJ21_getChars 88 = .ok (.if_icmp .ge 16, 3) := dk_162 0 16 (dk_at dksJ21_getChars_3 19 rfl rfl)
theorem dJ21_getChars_91 : decode cJ21_getChars 91 = .ok (.aload_n 2, 1) := dk_44 (dk_at dksJ21_getChars_3 22 rfl rfl)
theorem dJ21_getChars_92 : decode cJ21_getChars 92 = .ok (.iinc 5 (-1), 3) := dk_132 5 255 (dk_at dksJ21_getChars_4 0 rfl rfl)
theorem dJ21_getChars_95 : decode cJ21_getChars 95 = .ok (.iload 5, 2) := dk_21 5 (dk_at dksJ21_getChars_4 3 rfl rfl)
theorem dJ21_getChars_97 : decode cJ21_getChars 97 = .ok (.getstatic 87, 3) := dk_178 0 87 (dk_at dksJ21_getChars_4 5 rfl rfl)
theorem dJ21_getChars_100 : decode cJ21_getChars 100 = .ok (.iload_n 0, 1) := dk_26 (dk_at dksJ21_getChars_4 8 rfl rfl)
theorem dJ21_getChars_101 : decode cJ21_getChars 101 = .ok (.ineg, 1) := dk_116 (dk_at dksJ21_getChars_4 9 rfl rfl)
theorem dJ21_getChars_102 : decode cJ21_getChars 102 = .ok (.baload, 1) := dk_51 (dk_at dksJ21_getChars_4 10 rfl rfl)
theorem dJ21_getChars_103 : decode cJ21_getChars 103 = .ok (.bastore, 1) := dk_84 (dk_at dksJ21_getChars_4 11 rfl rfl)
theorem dJ21_getChars_104 : decode cJ21_getChars 104 = .ok (.iload 6, 2) := dk_21 6 (dk_at dksJ21_getChars_4 12 rfl rfl)
theorem dJ21_getChars_106 : decode cJ21_getChars 106 = .ok (.ifCond .eq 12, 3) := dk_153 0 12 (dk_at dksJ21_getChars_4 14 rfl rfl)
theorem dJ21_getChars_109 : decode cJ21_getChars 109 = .ok (.aload_n 2, 1) := dk_44 (dk_at dksJ21_getChars_4 17 rfl rfl)
theorem dJ21_getChars_110 : decode cJ21_getChars 110 = .ok (.iinc 5 (-1), 3) := dk_132 5 255 (dk_at dksJ21_getChars_4 18 rfl rfl)
theorem dJ21_getChars_113 : decode cJ21_getChars 113 = .ok (.iload 5, 2) := dk_21 5 (dk_at dksJ21_getChars_4 21 rfl rfl)
theorem dJ21_getChars_115 : decode cJ21_getChars 115 = .ok (.bipush 45, 2) := dk_16 45 (dk_at dksJ21_getChars_5 0 rfl rfl)
theorem dJ21_getChars_117 : decode cJ21_getChars 117 = .ok (.bastore, 1) := dk_84 (dk_at dksJ21_getChars_5 2 rfl rfl)
theorem dJ21_getChars_118 : decode cJ21_getChars 118 = .ok (.iload 5, 2) := dk_21 5 (dk_at dksJ21_getChars_5 3 rfl rfl)
theorem dJ21_getChars_120 : decode cJ21_getChars 120 = .ok (.ireturn, 1) := dk_172 (dk_at dksJ21_getChars_5 5 rfl rfl)
theorem q121 : (Jvm.Cond.initialized "java/lang/Integer") ∈ lw_all := lw_g (lw_at lw_m1 28 rfl) rfl
theorem q725 : (Jvm.Cond.selects "java/lang/Integer" ({ cls := "java/lang/Object", name := "getClass", desc := "()Ljava/lang/Class;" } : Jvm.MethodName) ({ cls := "java/lang/Object", name := "getClass", desc := "()Ljava/lang/Class;" } : Jvm.MethodName)) ∈ lw_all := lw_g (lw_at lw_m3 152 rfl) rfl
theorem q777 : (Jvm.Cond.static ({ cls := "java/lang/Integer", name := "compare", desc := "(II)I" } : Jvm.MethodName)) ∈ lw_all := lw_g (lw_at lw_m3 204 rfl) rfl
theorem q778 : (Jvm.Cond.code ({ cls := "java/lang/Integer", name := "compare", desc := "(II)I" } : Jvm.MethodName) prog_29_method_40_code (2 : Nat) (Option.some Jvm.ClassFile.FieldType.int)) ∈ lw_all := lw_g (lw_at lw_m3 205 rfl) rfl
theorem q787 : (Jvm.Cond.castable "java/lang/Integer" "java/lang/Comparable") ∈ lw_tbl := lw_at lw_m3 214 rfl
theorem q788 : (Jvm.Cond.selects "java/lang/Integer" ({ cls := "java/lang/Comparable", name := "compareTo", desc := "(Ljava/lang/Object;)I" } : Jvm.MethodName) ({ cls := "java/lang/Integer", name := "compareTo", desc := "(Ljava/lang/Object;)I" } : Jvm.MethodName)) ∈ lw_all := lw_g (lw_at lw_m3 215 rfl) rfl
theorem q789 : (Jvm.Cond.unhidden "java/lang/Integer" "compareTo" "(Ljava/lang/Object;)I") ∈ lw_tbl := lw_at lw_m3 216 rfl
theorem q790 : (Jvm.Cond.instanceMethod ({ cls := "java/lang/Integer", name := "compareTo", desc := "(Ljava/lang/Object;)I" } : Jvm.MethodName)) ∈ lw_all := lw_g (lw_at lw_m3 217 rfl) rfl
theorem q791 : (Jvm.Cond.publicMethod ({ cls := "java/lang/Integer", name := "compareTo", desc := "(Ljava/lang/Object;)I" } : Jvm.MethodName)) ∈ lw_tbl := lw_at lw_m3 218 rfl
theorem q792 : (Jvm.Cond.code ({ cls := "java/lang/Integer", name := "compareTo", desc := "(Ljava/lang/Object;)I" } : Jvm.MethodName) prog_29_method_63_code (2 : Nat) (Option.some Jvm.ClassFile.FieldType.int)) ∈ lw_all := lw_g (lw_at lw_m3 219 rfl) rfl
theorem q793 : (Jvm.Cond.classLink "java/lang/Integer" (1 : Nat) "java/lang/Integer") ∈ lw_all := lw_g (lw_at lw_m3 220 rfl) rfl
theorem q794 : (Jvm.Cond.methodLink "java/lang/Integer" (284 : Nat) ({ cls := "java/lang/Integer", name := "compareTo", desc := "(Ljava/lang/Integer;)I" } : Jvm.MethodName)) ∈ lw_all := lw_g (lw_at lw_m3 221 rfl) rfl
theorem q795 : (Jvm.Cond.instanceMethod ({ cls := "java/lang/Integer", name := "compareTo", desc := "(Ljava/lang/Integer;)I" } : Jvm.MethodName)) ∈ lw_all := lw_g (lw_at lw_m3 222 rfl) rfl
theorem q796 : (Jvm.Cond.selects "java/lang/Integer" ({ cls := "java/lang/Integer", name := "compareTo", desc := "(Ljava/lang/Integer;)I" } : Jvm.MethodName) ({ cls := "java/lang/Integer", name := "compareTo", desc := "(Ljava/lang/Integer;)I" } : Jvm.MethodName)) ∈ lw_all := lw_g (lw_at lw_m3 223 rfl) rfl
theorem q797 : (Jvm.Cond.code ({ cls := "java/lang/Integer", name := "compareTo", desc := "(Ljava/lang/Integer;)I" } : Jvm.MethodName) prog_29_method_39_code (2 : Nat) (Option.some Jvm.ClassFile.FieldType.int)) ∈ lw_all := lw_g (lw_at lw_m3 224 rfl) rfl
theorem q798 : (Jvm.Cond.methodLink "java/lang/Integer" (259 : Nat) ({ cls := "java/lang/Integer", name := "compare", desc := "(II)I" } : Jvm.MethodName)) ∈ lw_all := lw_g (lw_at lw_m3 225 rfl) rfl
theorem q894 : (Jvm.Cond.static ({ cls := "java/lang/Integer", name := "numberOfLeadingZeros", desc := "(I)I" } : Jvm.MethodName)) ∈ lw_all := lw_g (lw_at lw_m4 81 rfl) rfl
theorem q895 : (Jvm.Cond.code ({ cls := "java/lang/Integer", name := "numberOfLeadingZeros", desc := "(I)I" } : Jvm.MethodName) prog_29_method_47_code (2 : Nat) (Option.some Jvm.ClassFile.FieldType.int)) ∈ lw_all := lw_g (lw_at lw_m4 82 rfl) rfl
theorem q896 : (Jvm.Cond.constant "java/lang/Integer" (264 : Nat) (65536 : Int32)) ∈ lw_all := lw_g (lw_at lw_m4 83 rfl) rfl
theorem q903 : (Jvm.Cond.static ({ cls := "java/lang/Integer", name := "numberOfTrailingZeros", desc := "(I)I" } : Jvm.MethodName)) ∈ lw_all := lw_g (lw_at lw_m4 90 rfl) rfl
theorem q904 : (Jvm.Cond.code ({ cls := "java/lang/Integer", name := "numberOfTrailingZeros", desc := "(I)I" } : Jvm.MethodName) prog_29_method_48_code (2 : Nat) (Option.some Jvm.ClassFile.FieldType.int)) ∈ lw_all := lw_g (lw_at lw_m4 91 rfl) rfl
theorem q1096 : (Jvm.Cond.static ({ cls := "java/lang/Integer", name := "valueOf", desc := "(I)Ljava/lang/Integer;" } : Jvm.MethodName)) ∈ lw_all := lw_g (lw_at lw_m5 43 rfl) rfl
theorem q1097 : (Jvm.Cond.code ({ cls := "java/lang/Integer", name := "valueOf", desc := "(I)Ljava/lang/Integer;" } : Jvm.MethodName) prog_29_method_22_code (1 : Nat) (Option.some (Jvm.ClassFile.FieldType.object "java/lang/Integer"))) ∈ lw_all := lw_g (lw_at lw_m5 44 rfl) rfl
theorem q1098 : (Jvm.Cond.fieldLink "java/lang/Integer" (191 : Nat) "java/lang/Integer$IntegerCache" "high" "I") ∈ lw_all := lw_g (lw_at lw_m5 45 rfl) rfl
theorem q1100 : (Jvm.Cond.fieldLink "java/lang/Integer" (195 : Nat) "java/lang/Integer$IntegerCache" "cache" "[Ljava/lang/Integer;") ∈ lw_all := lw_g (lw_at lw_m5 47 rfl) rfl
theorem q1102 : (Jvm.Cond.instantiable "java/lang/Integer" (1 : Nat)) ∈ lw_all := lw_g (lw_at lw_m5 49 rfl) rfl
theorem q1103 : (Jvm.Cond.methodLink "java/lang/Integer" (199 : Nat) ({ cls := "java/lang/Integer", name := "<init>", desc := "(I)V" } : Jvm.MethodName)) ∈ lw_all := lw_g (lw_at lw_m5 50 rfl) rfl
theorem q1104 : (Jvm.Cond.instanceMethod ({ cls := "java/lang/Integer", name := "<init>", desc := "(I)V" } : Jvm.MethodName)) ∈ lw_all := lw_g (lw_at lw_m5 51 rfl) rfl
theorem q1105 : (Jvm.Cond.code ({ cls := "java/lang/Integer", name := "<init>", desc := "(I)V" } : Jvm.MethodName) prog_29_method_23_code (2 : Nat) (Option.none : Option Jvm.ClassFile.FieldType)) ∈ lw_all := lw_g (lw_at lw_m5 52 rfl) rfl
theorem q1106 : (Jvm.Cond.methodLink "java/lang/Integer" (202 : Nat) ({ cls := "java/lang/Number", name := "<init>", desc := "()V" } : Jvm.MethodName)) ∈ lw_all := lw_g (lw_at lw_m5 53 rfl) rfl
theorem q1110 : (Jvm.Cond.fieldLink "java/lang/Integer" (205 : Nat) "java/lang/Integer" "value" "I") ∈ lw_all := lw_g (lw_at lw_m5 57 rfl) rfl
theorem q1111 : (Jvm.Cond.laysFinal "java/lang/Integer" "java/lang/Integer" "value" "I") ∈ lw_all := lw_g (lw_at lw_m5 58 rfl) rfl
theorem q1112 : (Jvm.Cond.soleField "java/lang/Integer" "value") ∈ lw_all := lw_g (lw_at lw_m5 59 rfl) rfl
theorem q1113 : (Jvm.Cond.superclass "java/lang/Integer" "java/lang/Number") ∈ lw_all := lw_g (lw_at lw_m5 60 rfl) rfl
theorem q1140 : (Jvm.Cond.instanceMethod ({ cls := "java/lang/Integer", name := "intValue", desc := "()I" } : Jvm.MethodName)) ∈ lw_all := lw_g (lw_at lw_m5 87 rfl) rfl
theorem q1141 : (Jvm.Cond.selects "java/lang/Integer" ({ cls := "java/lang/Integer", name := "intValue", desc := "()I" } : Jvm.MethodName) ({ cls := "java/lang/Integer", name := "intValue", desc := "()I" } : Jvm.MethodName)) ∈ lw_all := lw_g (lw_at lw_m5 88 rfl) rfl
theorem q1142 : (Jvm.Cond.code ({ cls := "java/lang/Integer", name := "intValue", desc := "()I" } : Jvm.MethodName) prog_29_method_27_code (1 : Nat) (Option.some Jvm.ClassFile.FieldType.int)) ∈ lw_all := lw_g (lw_at lw_m5 89 rfl) rfl
theorem q1442 : (Jvm.Cond.static ({ cls := "java/lang/Integer", name := "stringSize", desc := "(I)I" } : Jvm.MethodName)) ∈ lw_all := lw_g (lw_at lw_m6 149 rfl) rfl
theorem q1443 : (Jvm.Cond.code ({ cls := "java/lang/Integer", name := "stringSize", desc := "(I)I" } : Jvm.MethodName) prog_29_method_13_code (4 : Nat) (Option.some Jvm.ClassFile.FieldType.int)) ∈ lw_all := lw_g (lw_at lw_m6 150 rfl) rfl
theorem q1445 : (Jvm.Cond.static ({ cls := "java/lang/Integer", name := "getChars", desc := "(II[B)I" } : Jvm.MethodName)) ∈ lw_all := lw_g (lw_at lw_m6 152 rfl) rfl
theorem q1446 : (Jvm.Cond.code ({ cls := "java/lang/Integer", name := "getChars", desc := "(II[B)I" } : Jvm.MethodName) prog_29_method_12_code (7 : Nat) (Option.some Jvm.ClassFile.FieldType.int)) ∈ lw_all := lw_g (lw_at lw_m6 153 rfl) rfl
theorem q1447 : (Jvm.Cond.fieldLink "java/lang/Integer" (83 : Nat) "java/lang/Integer" "DigitOnes" "[B") ∈ lw_all := lw_g (lw_at lw_m6 154 rfl) rfl
theorem q1448 : (Jvm.Cond.laysStatic "java/lang/Integer" "DigitOnes" "[B") ∈ lw_tbl := lw_at lw_m6 155 rfl
theorem q1449 : (Jvm.Cond.fieldLink "java/lang/Integer" (87 : Nat) "java/lang/Integer" "DigitTens" "[B") ∈ lw_all := lw_g (lw_at lw_m6 156 rfl) rfl
theorem q1450 : (Jvm.Cond.laysStatic "java/lang/Integer" "DigitTens" "[B") ∈ lw_tbl := lw_at lw_m6 157 rfl
theorem q3243 : (Jvm.Cond.castable "java/lang/Integer" "java/lang/Object") ∈ lw_tbl := lw_at lw_m14 30 rfl
theorem in_J21 : ∀ w ∈ wsJ210, w ∈ lw_all := lw_in wsJ210 [1111] (by decide +kernel) (by decide +kernel)
/-! jdk/internal/util/Preconditions -/
set_option maxRecDepth 100000
def RJ22 : String := "jdk/internal/util/Preconditions"
abbrev cJ22_checkIndex : ByteArray := prog_83_method_11_code
def yJ22_checkIndex : MethodName := ⟨RJ22, "checkIndex", "(IILjava/util/function/BiFunction;)I"⟩
def dkwJ22_checkIndex_0 : List UInt8 := [26, 155, 0, 8, 26, 27, 161, 0, 10, 44, 26, 27, 184, 0, 95, 191, 26, 172]
abbrev dktJ22_checkIndex_0 : List UInt8 := dkwJ22_checkIndex_0 ++ []
theorem dksJ22_checkIndex_0 : cJ22_checkIndex.data.toList.drop 0 = dktJ22_checkIndex_0 := by decide +kernel
theorem dJ22_checkIndex_0 : decode cJ22_checkIndex 0 = .ok (.iload_n 0, 1) := dk_26 (dk_at dksJ22_checkIndex_0 0 rfl rfl)
theorem dJ22_checkIndex_1 : decode cJ22_checkIndex 1 = .ok (.ifCond .lt 8, 3) := dk_155 0 8 (dk_at dksJ22_checkIndex_0 1 rfl rfl)
theorem dJ22_checkIndex_4 : decode cJ22_checkIndex 4 = .ok (.iload_n 0, 1) := dk_26 (dk_at dksJ22_checkIndex_0 4 rfl rfl)
theorem dJ22_checkIndex_5 : decode cJ22_checkIndex 5 = .ok (.iload_n 1, 1) := dk_27 (dk_at dksJ22_checkIndex_0 5 rfl rfl)
theorem dJ22_checkIndex_6 : decode cJ22_checkIndex 6 = .ok (.if_icmp .lt 10, 3) := dk_161 0 10 (dk_at dksJ22_checkIndex_0 6 rfl rfl)
theorem dJ22_checkIndex_9 : decode cJ22_checkIndex 9 = .ok (.aload_n 2, 1) := dk_44 (dk_at dksJ22_checkIndex_0 9 rfl rfl)
theorem dJ22_checkIndex_10 : decode cJ22_checkIndex 10 = .ok (.iload_n 0, 1) := dk_26 (dk_at dksJ22_checkIndex_0 10 rfl rfl)
theorem dJ22_checkIndex_11 : decode cJ22_checkIndex 11 = .ok (.iload_n 1, 1) := dk_27 (dk_at dksJ22_checkIndex_0 11 rfl rfl)
theorem dJ22_checkIndex_12 : decode cJ22_checkIndex 12 = .ok (.invokestatic 95, 3) := dk_184 0 95 (dk_at dksJ22_checkIndex_0 12 rfl rfl)
theorem dJ22_checkIndex_15 : decode cJ22_checkIndex 15 = .ok (.athrow, 1) := dk_191 (dk_at dksJ22_checkIndex_0 15 rfl rfl)
theorem dJ22_checkIndex_16 : decode cJ22_checkIndex 16 = .ok (.iload_n 0, 1) := dk_26 (dk_at dksJ22_checkIndex_0 16 rfl rfl)
theorem dJ22_checkIndex_17 : decode cJ22_checkIndex 17 = .ok (.ireturn, 1) := dk_172 (dk_at dksJ22_checkIndex_0 17 rfl rfl)
abbrev cJ22_checkFromToIndex : ByteArray := prog_83_method_12_code
def yJ22_checkFromToIndex : MethodName := ⟨RJ22, "checkFromToIndex", "(IIILjava/util/function/BiFunction;)I"⟩
def dkwJ22_checkFromToIndex_0 : List UInt8 := [26, 155, 0, 13, 26, 27, 163, 0, 8, 27, 28, 164, 0, 11, 45, 26, 27, 28, 184, 0, 99, 191, 26, 172]
abbrev dktJ22_checkFromToIndex_0 : List UInt8 := dkwJ22_checkFromToIndex_0 ++ []
theorem dksJ22_checkFromToIndex_0 : cJ22_checkFromToIndex.data.toList.drop 0 = dktJ22_checkFromToIndex_0 := by decide +kernel
theorem dJ22_checkFromToIndex_0 : decode cJ22_checkFromToIndex 0 = .ok (.iload_n 0, 1) := dk_26 (dk_at dksJ22_checkFromToIndex_0 0 rfl rfl)
theorem dJ22_checkFromToIndex_1 : decode cJ22_checkFromToIndex 1 = .ok (.ifCond .lt 13, 3) := dk_155 0 13 (dk_at dksJ22_checkFromToIndex_0 1 rfl rfl)
theorem dJ22_checkFromToIndex_4 : decode cJ22_checkFromToIndex 4 = .ok (.iload_n 0, 1) := dk_26 (dk_at dksJ22_checkFromToIndex_0 4 rfl rfl)
theorem dJ22_checkFromToIndex_5 : decode cJ22_checkFromToIndex 5 = .ok (.iload_n 1, 1) := dk_27 (dk_at dksJ22_checkFromToIndex_0 5 rfl rfl)
theorem dJ22_checkFromToIndex_6 : decode cJ22_checkFromToIndex 6 = .ok (.if_icmp .gt 8, 3) := dk_163 0 8 (dk_at dksJ22_checkFromToIndex_0 6 rfl rfl)
theorem dJ22_checkFromToIndex_9 : decode cJ22_checkFromToIndex 9 = .ok (.iload_n 1, 1) := dk_27 (dk_at dksJ22_checkFromToIndex_0 9 rfl rfl)
theorem dJ22_checkFromToIndex_10 : decode cJ22_checkFromToIndex 10 = .ok (.iload_n 2, 1) := dk_28 (dk_at dksJ22_checkFromToIndex_0 10 rfl rfl)
theorem dJ22_checkFromToIndex_11 : decode cJ22_checkFromToIndex 11 = .ok (.if_icmp .le 11, 3) := dk_164 0 11 (dk_at dksJ22_checkFromToIndex_0 11 rfl rfl)
theorem dJ22_checkFromToIndex_14 : decode cJ22_checkFromToIndex 14 = .ok (.aload_n 3, 1) := dk_45 (dk_at dksJ22_checkFromToIndex_0 14 rfl rfl)
theorem dJ22_checkFromToIndex_15 : decode cJ22_checkFromToIndex 15 = .ok (.iload_n 0, 1) := dk_26 (dk_at dksJ22_checkFromToIndex_0 15 rfl rfl)
theorem dJ22_checkFromToIndex_16 : decode cJ22_checkFromToIndex 16 = .ok (.iload_n 1, 1) := dk_27 (dk_at dksJ22_checkFromToIndex_0 16 rfl rfl)
theorem dJ22_checkFromToIndex_17 : decode cJ22_checkFromToIndex 17 = .ok (.iload_n 2, 1) := dk_28 (dk_at dksJ22_checkFromToIndex_0 17 rfl rfl)
theorem dJ22_checkFromToIndex_18 : decode cJ22_checkFromToIndex 18 = .ok (.invokestatic 99, 3) := dk_184 0 99 (dk_at dksJ22_checkFromToIndex_0 18 rfl rfl)
theorem dJ22_checkFromToIndex_21 : decode cJ22_checkFromToIndex 21 = .ok (.athrow, 1) := dk_191 (dk_at dksJ22_checkFromToIndex_0 21 rfl rfl)
theorem dJ22_checkFromToIndex_22 : decode cJ22_checkFromToIndex 22 = .ok (.iload_n 0, 1) := dk_26 (dk_at dksJ22_checkFromToIndex_0 22 rfl rfl)
theorem dJ22_checkFromToIndex_23 : decode cJ22_checkFromToIndex 23 = .ok (.ireturn, 1) := dk_172 (dk_at dksJ22_checkFromToIndex_0 23 rfl rfl)
abbrev cJ22_checkFromIndexSize : ByteArray := prog_83_method_13_code
def yJ22_checkFromIndexSize : MethodName := ⟨RJ22, "checkFromIndexSize", "(IIILjava/util/function/BiFunction;)I"⟩
def dkwJ22_checkFromIndexSize_1 : List UInt8 := [172]
abbrev dktJ22_checkFromIndexSize_1 : List UInt8 := dkwJ22_checkFromIndexSize_1 ++ []
def dkwJ22_checkFromIndexSize_0 : List UInt8 := [28, 26, 128, 27, 128, 155, 0, 10, 27, 28, 26, 100, 164, 0, 11, 45, 26, 27, 28, 184, 0, 103, 191, 26]
abbrev dktJ22_checkFromIndexSize_0 : List UInt8 := dkwJ22_checkFromIndexSize_0 ++ dktJ22_checkFromIndexSize_1
theorem dksJ22_checkFromIndexSize_0 : cJ22_checkFromIndexSize.data.toList.drop 0 = dktJ22_checkFromIndexSize_0 := by decide +kernel
theorem dksJ22_checkFromIndexSize_1 : cJ22_checkFromIndexSize.data.toList.drop 24 = dktJ22_checkFromIndexSize_1 := dk_seg dksJ22_checkFromIndexSize_0 24 rfl rfl
theorem dJ22_checkFromIndexSize_0 : decode cJ22_checkFromIndexSize 0 = .ok (.iload_n 2, 1) := dk_28 (dk_at dksJ22_checkFromIndexSize_0 0 rfl rfl)
theorem dJ22_checkFromIndexSize_1 : decode cJ22_checkFromIndexSize 1 = .ok (.iload_n 0, 1) := dk_26 (dk_at dksJ22_checkFromIndexSize_0 1 rfl rfl)
theorem dJ22_checkFromIndexSize_2 : decode cJ22_checkFromIndexSize 2 = .ok (.ior, 1) := dk_128 (dk_at dksJ22_checkFromIndexSize_0 2 rfl rfl)
theorem dJ22_checkFromIndexSize_3 : decode cJ22_checkFromIndexSize 3 = .ok (.iload_n 1, 1) := dk_27 (dk_at dksJ22_checkFromIndexSize_0 3 rfl rfl)
theorem dJ22_checkFromIndexSize_4 : decode cJ22_checkFromIndexSize 4 = .ok (.ior, 1) := dk_128 (dk_at dksJ22_checkFromIndexSize_0 4 rfl rfl)
theorem dJ22_checkFromIndexSize_5 : decode cJ22_checkFromIndexSize 5 = .ok (.ifCond .lt 10, 3) := dk_155 0 10 (dk_at dksJ22_checkFromIndexSize_0 5 rfl rfl)
theorem dJ22_checkFromIndexSize_8 : decode cJ22_checkFromIndexSize 8 = .ok (.iload_n 1, 1) := dk_27 (dk_at dksJ22_checkFromIndexSize_0 8 rfl rfl)
theorem dJ22_checkFromIndexSize_9 : decode cJ22_checkFromIndexSize 9 = .ok (.iload_n 2, 1) := dk_28 (dk_at dksJ22_checkFromIndexSize_0 9 rfl rfl)
theorem dJ22_checkFromIndexSize_10 : decode cJ22_checkFromIndexSize 10 = .ok (.iload_n 0, 1) := dk_26 (dk_at dksJ22_checkFromIndexSize_0 10 rfl rfl)
theorem dJ22_checkFromIndexSize_11 : decode cJ22_checkFromIndexSize 11 = .ok (.isub, 1) := dk_100 (dk_at dksJ22_checkFromIndexSize_0 11 rfl rfl)
theorem dJ22_checkFromIndexSize_12 : decode cJ22_checkFromIndexSize 12 = .ok (.if_icmp .le 11, 3) := dk_164 0 11 (dk_at dksJ22_checkFromIndexSize_0 12 rfl rfl)
theorem dJ22_checkFromIndexSize_15 : decode cJ22_checkFromIndexSize 15 = .ok (.aload_n 3, 1) := dk_45 (dk_at dksJ22_checkFromIndexSize_0 15 rfl rfl)
theorem dJ22_checkFromIndexSize_16 : decode cJ22_checkFromIndexSize 16 = .ok (.iload_n 0, 1) := dk_26 (dk_at dksJ22_checkFromIndexSize_0 16 rfl rfl)
theorem dJ22_checkFromIndexSize_17 : decode cJ22_checkFromIndexSize 17 = .ok (.iload_n 1, 1) := dk_27 (dk_at dksJ22_checkFromIndexSize_0 17 rfl rfl)
theorem dJ22_checkFromIndexSize_18 : decode cJ22_checkFromIndexSize 18 = .ok (.iload_n 2, 1) := dk_28 (dk_at dksJ22_checkFromIndexSize_0 18 rfl rfl)
theorem dJ22_checkFromIndexSize_19 : decode cJ22_checkFromIndexSize 19 = .ok (.invokestatic 103, 3) := dk_184 0 103 (dk_at dksJ22_checkFromIndexSize_0 19 rfl rfl)
theorem dJ22_checkFromIndexSize_22 : decode cJ22_checkFromIndexSize 22 = .ok (.athrow, 1) := dk_191 (dk_at dksJ22_checkFromIndexSize_0 22 rfl rfl)
theorem dJ22_checkFromIndexSize_23 : decode cJ22_checkFromIndexSize 23 = .ok (.iload_n 0, 1) := dk_26 (dk_at dksJ22_checkFromIndexSize_0 23 rfl rfl)
theorem dJ22_checkFromIndexSize_24 : decode cJ22_checkFromIndexSize 24 = .ok (.ireturn, 1) := dk_172 (dk_at dksJ22_checkFromIndexSize_1 0 rfl rfl)
theorem q122 : (Jvm.Cond.initialized "jdk/internal/util/Preconditions") ∈ lw_all := lw_g (lw_at lw_m1 29 rfl) rfl
theorem q600 : (Jvm.Cond.static ({ cls := "jdk/internal/util/Preconditions", name := "checkIndex", desc := "(IILjava/util/function/BiFunction;)I" } : Jvm.MethodName)) ∈ lw_all := lw_g (lw_at lw_m3 27 rfl) rfl
theorem q601 : (Jvm.Cond.code ({ cls := "jdk/internal/util/Preconditions", name := "checkIndex", desc := "(IILjava/util/function/BiFunction;)I" } : Jvm.MethodName) prog_83_method_11_code (3 : Nat) (Option.some Jvm.ClassFile.FieldType.int)) ∈ lw_all := lw_g (lw_at lw_m3 28 rfl) rfl
theorem q993 : (Jvm.Cond.laysStatic "jdk/internal/util/Preconditions" "SIOOBE_FORMATTER" "Ljava/util/function/BiFunction;") ∈ lw_tbl := lw_at lw_m4 180 rfl
theorem q995 : (Jvm.Cond.static ({ cls := "jdk/internal/util/Preconditions", name := "checkFromToIndex", desc := "(IIILjava/util/function/BiFunction;)I" } : Jvm.MethodName)) ∈ lw_all := lw_g (lw_at lw_m4 182 rfl) rfl
theorem q996 : (Jvm.Cond.code ({ cls := "jdk/internal/util/Preconditions", name := "checkFromToIndex", desc := "(IIILjava/util/function/BiFunction;)I" } : Jvm.MethodName) prog_83_method_12_code (4 : Nat) (Option.some Jvm.ClassFile.FieldType.int)) ∈ lw_all := lw_g (lw_at lw_m4 183 rfl) rfl
theorem q1426 : (Jvm.Cond.static ({ cls := "jdk/internal/util/Preconditions", name := "checkFromIndexSize", desc := "(IIILjava/util/function/BiFunction;)I" } : Jvm.MethodName)) ∈ lw_all := lw_g (lw_at lw_m6 133 rfl) rfl
theorem q1427 : (Jvm.Cond.code ({ cls := "jdk/internal/util/Preconditions", name := "checkFromIndexSize", desc := "(IIILjava/util/function/BiFunction;)I" } : Jvm.MethodName) prog_83_method_13_code (4 : Nat) (Option.some Jvm.ClassFile.FieldType.int)) ∈ lw_all := lw_g (lw_at lw_m6 134 rfl) rfl
/-! java/lang/StringLatin1 -/
set_option maxRecDepth 100000
def RJ23 : String := "java/lang/StringLatin1"
abbrev cJ23_compareTo : ByteArray := prog_40_method_14_code
def yJ23_compareTo : MethodName := ⟨RJ23, "compareTo", "([B[B)I"⟩
def dkwJ23_compareTo_0 : List UInt8 := [42, 190, 61, 43, 190, 62, 42, 43, 28, 29, 184, 0, 34, 172]
abbrev dktJ23_compareTo_0 : List UInt8 := dkwJ23_compareTo_0 ++ []
theorem dksJ23_compareTo_0 : cJ23_compareTo.data.toList.drop 0 = dktJ23_compareTo_0 := by decide +kernel
theorem dJ23_compareTo_0 : decode cJ23_compareTo 0 = .ok (.aload_n 0, 1) := dk_42 (dk_at dksJ23_compareTo_0 0 rfl rfl)
theorem dJ23_compareTo_1 : decode cJ23_compareTo 1 = .ok (.arraylength, 1) := dk_190 (dk_at dksJ23_compareTo_0 1 rfl rfl)
theorem dJ23_compareTo_2 : decode cJ23_compareTo 2 = .ok (.istore_n 2, 1) := dk_61 (dk_at dksJ23_compareTo_0 2 rfl rfl)
theorem dJ23_compareTo_3 : decode cJ23_compareTo 3 = .ok (.aload_n 1, 1) := dk_43 (dk_at dksJ23_compareTo_0 3 rfl rfl)
theorem dJ23_compareTo_4 : decode cJ23_compareTo 4 = .ok (.arraylength, 1) := dk_190 (dk_at dksJ23_compareTo_0 4 rfl rfl)
theorem dJ23_compareTo_5 : decode cJ23_compareTo 5 = .ok (.istore_n 3, 1) := dk_62 (dk_at dksJ23_compareTo_0 5 rfl rfl)
theorem dJ23_compareTo_6 : decode cJ23_compareTo 6 = .ok (.aload_n 0, 1) := dk_42 (dk_at dksJ23_compareTo_0 6 rfl rfl)
theorem dJ23_compareTo_7 : decode cJ23_compareTo 7 = .ok (.aload_n 1, 1) := dk_43 (dk_at dksJ23_compareTo_0 7 rfl rfl)
theorem dJ23_compareTo_8 : decode cJ23_compareTo 8 = .ok (.iload_n 2, 1) := dk_28 (dk_at dksJ23_compareTo_0 8 rfl rfl)
theorem dJ23_compareTo_9 : decode cJ23_compareTo 9 = .ok (.iload_n 3, 1) := dk_29 (dk_at dksJ23_compareTo_0 9 rfl rfl)
theorem dJ23_compareTo_10 : decode cJ23_compareTo 10 = .ok (.invokestatic 34, 3) := dk_184 0 34 (dk_at dksJ23_compareTo_0 10 rfl rfl)
theorem dJ23_compareTo_13 : decode cJ23_compareTo 13 = .ok (.ireturn, 1) := dk_172 (dk_at dksJ23_compareTo_0 13 rfl rfl)
abbrev cJ23_compareTo_2 : ByteArray := prog_40_method_15_code
def yJ23_compareTo_2 : MethodName := ⟨RJ23, "compareTo", "([B[BII)I"⟩
def dkwJ23_compareTo_2_1 : List UInt8 := [167, 0, 16, 42, 21, 5, 184, 0, 50, 43, 21, 5, 184, 0, 50, 100, 172]
abbrev dktJ23_compareTo_2_1 : List UInt8 := dkwJ23_compareTo_2_1 ++ []
def dkwJ23_compareTo_2_0 : List UInt8 := [28, 29, 184, 0, 38, 54, 4, 42, 43, 21, 4, 184, 0, 44, 54, 5, 21, 5, 156, 0, 9, 28, 29, 100]
abbrev dktJ23_compareTo_2_0 : List UInt8 := dkwJ23_compareTo_2_0 ++ dktJ23_compareTo_2_1
theorem dksJ23_compareTo_2_0 : cJ23_compareTo_2.data.toList.drop 0 = dktJ23_compareTo_2_0 := by decide +kernel
theorem dksJ23_compareTo_2_1 : cJ23_compareTo_2.data.toList.drop 24 = dktJ23_compareTo_2_1 := dk_seg dksJ23_compareTo_2_0 24 rfl rfl
theorem dJ23_compareTo_2_0 : decode cJ23_compareTo_2 0 = .ok (.iload_n 2, 1) := dk_28 (dk_at dksJ23_compareTo_2_0 0 rfl rfl)
theorem dJ23_compareTo_2_1 : decode cJ23_compareTo_2 1 = .ok (.iload_n 3, 1) := dk_29 (dk_at dksJ23_compareTo_2_0 1 rfl rfl)
theorem dJ23_compareTo_2_2 : decode cJ23_compareTo_2 2 = .ok (.invokestatic 38, 3) := dk_184 0 38 (dk_at dksJ23_compareTo_2_0 2 rfl rfl)
theorem dJ23_compareTo_2_5 : decode cJ23_compareTo_2 5 = .ok (.istore 4, 2) := dk_54 4 (dk_at dksJ23_compareTo_2_0 5 rfl rfl)
theorem dJ23_compareTo_2_7 : decode cJ23_compareTo_2 7 = .ok (.aload_n 0, 1) := dk_42 (dk_at dksJ23_compareTo_2_0 7 rfl rfl)
theorem dJ23_compareTo_2_8 : decode cJ23_compareTo_2 8 = .ok (.aload_n 1, 1) := dk_43 (dk_at dksJ23_compareTo_2_0 8 rfl rfl)
theorem dJ23_compareTo_2_9 : decode cJ23_compareTo_2 9 = .ok (.iload 4, 2) := dk_21 4 (dk_at dksJ23_compareTo_2_0 9 rfl rfl)
theorem dJ23_compareTo_2_11 : decode cJ23_compareTo_2 11 = .ok (.invokestatic 44, 3) := dk_184 0 44 (dk_at dksJ23_compareTo_2_0 11 rfl rfl)
theorem dJ23_compareTo_2_14 : decode cJ23_compareTo_2 14 = .ok (.istore 5, 2) := dk_54 5 (dk_at dksJ23_compareTo_2_0 14 rfl rfl)
theorem dJ23_compareTo_2_16 : decode cJ23_compareTo_2 16 = .ok (.iload 5, 2) := dk_21 5 (dk_at dksJ23_compareTo_2_0 16 rfl rfl)
theorem dJ23_compareTo_2_18 : decode cJ23_compareTo_2 18 = .ok (.ifCond .ge 9, 3) := dk_156 0 9 (dk_at dksJ23_compareTo_2_0 18 rfl rfl)
theorem dJ23_compareTo_2_21 : decode cJ23_compareTo_2 21 = .ok (.iload_n 2, 1) := dk_28 (dk_at dksJ23_compareTo_2_0 21 rfl rfl)
theorem dJ23_compareTo_2_22 : decode cJ23_compareTo_2 22 = .ok (.iload_n 3, 1) := dk_29 (dk_at dksJ23_compareTo_2_0 22 rfl rfl)
theorem dJ23_compareTo_2_23 : decode cJ23_compareTo_2 23 = .ok (.isub, 1) := dk_100 (dk_at dksJ23_compareTo_2_0 23 rfl rfl)
theorem dJ23_compareTo_2_24 : decode cJ23_compareTo_2 24 = .ok (.goto 16, 3) := dk_167 0 16 (dk_at dksJ23_compareTo_2_1 0 rfl rfl)
theorem dJ23_compareTo_2_27 : decode cJ23_compareTo_2 27 = .ok (.aload_n 0, 1) := dk_42 (dk_at dksJ23_compareTo_2_1 3 rfl rfl)
theorem dJ23_compareTo_2_28 : decode cJ23_compareTo_2 28 = .ok (.iload 5, 2) := dk_21 5 (dk_at dksJ23_compareTo_2_1 4 rfl rfl)
theorem dJ23_compareTo_2_30 : decode cJ23_compareTo_2 30 = .ok (.invokestatic 50, 3) := dk_184 0 50 (dk_at dksJ23_compareTo_2_1 6 rfl rfl)
theorem dJ23_compareTo_2_33 : decode cJ23_compareTo_2 33 = .ok (.aload_n 1, 1) := dk_43 (dk_at dksJ23_compareTo_2_1 9 rfl rfl)
theorem dJ23_compareTo_2_34 : decode cJ23_compareTo_2 34 = .ok (.iload 5, 2) := dk_21 5 (dk_at dksJ23_compareTo_2_1 10 rfl rfl)
theorem dJ23_compareTo_2_36 : decode cJ23_compareTo_2 36 = .ok (.invokestatic 50, 3) := dk_184 0 50 (dk_at dksJ23_compareTo_2_1 12 rfl rfl)
theorem dJ23_compareTo_2_39 : decode cJ23_compareTo_2 39 = .ok (.isub, 1) := dk_100 (dk_at dksJ23_compareTo_2_1 15 rfl rfl)
theorem dJ23_compareTo_2_40 : decode cJ23_compareTo_2 40 = .ok (.ireturn, 1) := dk_172 (dk_at dksJ23_compareTo_2_1 16 rfl rfl)
abbrev cJ23_getChar : ByteArray := prog_40_method_44_code
def yJ23_getChar : MethodName := ⟨RJ23, "getChar", "([BI)C"⟩
def dkwJ23_getChar_0 : List UInt8 := [42, 27, 51, 17, 0, 255, 126, 146, 172]
abbrev dktJ23_getChar_0 : List UInt8 := dkwJ23_getChar_0 ++ []
theorem dksJ23_getChar_0 : cJ23_getChar.data.toList.drop 0 = dktJ23_getChar_0 := by decide +kernel
theorem dJ23_getChar_0 : decode cJ23_getChar 0 = .ok (.aload_n 0, 1) := dk_42 (dk_at dksJ23_getChar_0 0 rfl rfl)
theorem dJ23_getChar_1 : decode cJ23_getChar 1 = .ok (.iload_n 1, 1) := dk_27 (dk_at dksJ23_getChar_0 1 rfl rfl)
theorem dJ23_getChar_2 : decode cJ23_getChar 2 = .ok (.baload, 1) := dk_51 (dk_at dksJ23_getChar_0 2 rfl rfl)
theorem dJ23_getChar_3 : decode cJ23_getChar 3 = .ok (.sipush 255, 3) := dk_17 0 255 (dk_at dksJ23_getChar_0 3 rfl rfl)
theorem dJ23_getChar_6 : decode cJ23_getChar 6 = .ok (.iand, 1) := dk_126 (dk_at dksJ23_getChar_0 6 rfl rfl)
theorem dJ23_getChar_7 : decode cJ23_getChar 7 = .ok (.i2c, 1) := dk_146 (dk_at dksJ23_getChar_0 7 rfl rfl)
theorem dJ23_getChar_8 : decode cJ23_getChar 8 = .ok (.ireturn, 1) := dk_172 (dk_at dksJ23_getChar_0 8 rfl rfl)
abbrev cJ23_compareToUTF16 : ByteArray := prog_40_method_16_code
def yJ23_compareToUTF16 : MethodName := ⟨RJ23, "compareToUTF16", "([B[B)I"⟩
def dkwJ23_compareToUTF16_0 : List UInt8 := [42, 184, 0, 54, 61, 43, 184, 0, 58, 62, 42, 43, 28, 29, 184, 0, 59, 172]
abbrev dktJ23_compareToUTF16_0 : List UInt8 := dkwJ23_compareToUTF16_0 ++ []
theorem dksJ23_compareToUTF16_0 : cJ23_compareToUTF16.data.toList.drop 0 = dktJ23_compareToUTF16_0 := by decide +kernel
theorem dJ23_compareToUTF16_0 : decode cJ23_compareToUTF16 0 = .ok (.aload_n 0, 1) := dk_42 (dk_at dksJ23_compareToUTF16_0 0 rfl rfl)
theorem dJ23_compareToUTF16_1 : decode cJ23_compareToUTF16 1 = .ok (.invokestatic 54, 3) := dk_184 0 54 (dk_at dksJ23_compareToUTF16_0 1 rfl rfl)
theorem dJ23_compareToUTF16_4 : decode cJ23_compareToUTF16 4 = .ok (.istore_n 2, 1) := dk_61 (dk_at dksJ23_compareToUTF16_0 4 rfl rfl)
theorem dJ23_compareToUTF16_5 : decode cJ23_compareToUTF16 5 = .ok (.aload_n 1, 1) := dk_43 (dk_at dksJ23_compareToUTF16_0 5 rfl rfl)
theorem dJ23_compareToUTF16_6 : decode cJ23_compareToUTF16 6 = .ok (.invokestatic 58, 3) := dk_184 0 58 (dk_at dksJ23_compareToUTF16_0 6 rfl rfl)
theorem dJ23_compareToUTF16_9 : decode cJ23_compareToUTF16 9 = .ok (.istore_n 3, 1) := dk_62 (dk_at dksJ23_compareToUTF16_0 9 rfl rfl)
theorem dJ23_compareToUTF16_10 : decode cJ23_compareToUTF16 10 = .ok (.aload_n 0, 1) := dk_42 (dk_at dksJ23_compareToUTF16_0 10 rfl rfl)
theorem dJ23_compareToUTF16_11 : decode cJ23_compareToUTF16 11 = .ok (.aload_n 1, 1) := dk_43 (dk_at dksJ23_compareToUTF16_0 11 rfl rfl)
theorem dJ23_compareToUTF16_12 : decode cJ23_compareToUTF16 12 = .ok (.iload_n 2, 1) := dk_28 (dk_at dksJ23_compareToUTF16_0 12 rfl rfl)
theorem dJ23_compareToUTF16_13 : decode cJ23_compareToUTF16 13 = .ok (.iload_n 3, 1) := dk_29 (dk_at dksJ23_compareToUTF16_0 13 rfl rfl)
theorem dJ23_compareToUTF16_14 : decode cJ23_compareToUTF16 14 = .ok (.invokestatic 59, 3) := dk_184 0 59 (dk_at dksJ23_compareToUTF16_0 14 rfl rfl)
theorem dJ23_compareToUTF16_17 : decode cJ23_compareToUTF16 17 = .ok (.ireturn, 1) := dk_172 (dk_at dksJ23_compareToUTF16_0 17 rfl rfl)
abbrev cJ23_length : ByteArray := prog_40_method_5_code
def yJ23_length : MethodName := ⟨RJ23, "length", "([B)I"⟩
theorem dJ23_length_0 : decode cJ23_length 0 = .ok (.aload_n 0, 1) := by decide +kernel
theorem dJ23_length_1 : decode cJ23_length 1 = .ok (.arraylength, 1) := by decide +kernel
theorem dJ23_length_2 : decode cJ23_length 2 = .ok (.ireturn, 1) := by decide +kernel
abbrev cJ23_compareToUTF16Values : ByteArray := prog_40_method_18_code
def yJ23_compareToUTF16Values : MethodName := ⟨RJ23, "compareToUTF16Values", "([B[BII)I"⟩
def dkwJ23_compareToUTF16Values_2 : List UInt8 := [132, 5, 1, 167, 255, 217, 28, 29, 100, 172]
abbrev dktJ23_compareToUTF16Values_2 : List UInt8 := dkwJ23_compareToUTF16Values_2 ++ []
def dkwJ23_compareToUTF16Values_1 : List UInt8 := [54, 6, 43, 21, 5, 184, 0, 65, 54, 7, 21, 6, 21, 7, 159, 0, 9, 21, 6, 21, 7, 100, 172]
abbrev dktJ23_compareToUTF16Values_1 : List UInt8 := dkwJ23_compareToUTF16Values_1 ++ dktJ23_compareToUTF16Values_2
def dkwJ23_compareToUTF16Values_0 : List UInt8 := [28, 29, 184, 0, 38, 54, 4, 3, 54, 5, 21, 5, 21, 4, 162, 0, 38, 42, 21, 5, 184, 0, 50]
abbrev dktJ23_compareToUTF16Values_0 : List UInt8 := dkwJ23_compareToUTF16Values_0 ++ dktJ23_compareToUTF16Values_1
theorem dksJ23_compareToUTF16Values_0 : cJ23_compareToUTF16Values.data.toList.drop 0 = dktJ23_compareToUTF16Values_0 := by decide +kernel
theorem dksJ23_compareToUTF16Values_1 : cJ23_compareToUTF16Values.data.toList.drop 23 = dktJ23_compareToUTF16Values_1 := dk_seg dksJ23_compareToUTF16Values_0 23 rfl rfl
theorem dksJ23_compareToUTF16Values_2 : cJ23_compareToUTF16Values.data.toList.drop 46 = dktJ23_compareToUTF16Values_2 := dk_seg dksJ23_compareToUTF16Values_1 23 rfl rfl
theorem dJ23_compareToUTF16Values_0 : decode cJ23_compareToUTF16Values 0 = .ok (.iload_n 2, 1) := dk_28 (dk_at dksJ23_compareToUTF16Values_0 0 rfl rfl)
theorem dJ23_compareToUTF16Values_1 : decode cJ23_compareToUTF16Values 1 = .ok (.iload_n 3, 1) := dk_29 (dk_at dksJ23_compareToUTF16Values_0 1 rfl rfl)
theorem dJ23_compareToUTF16Values_2 : decode cJ23_compareToUTF16Values 2 = .ok (.invokestatic 38, 3) := dk_184 0 38 (dk_at dksJ23_compareToUTF16Values_0 2 rfl rfl)
theorem dJ23_compareToUTF16Values_5 : decode cJ23_compareToUTF16Values 5 = .ok (.istore 4, 2) := dk_54 4 (dk_at dksJ23_compareToUTF16Values_0 5 rfl rfl)
theorem dJ23_compareToUTF16Values_7 : decode cJ23_compareToUTF16Values 7 = .ok (.iconst 0, 1) := dk_3 (dk_at dksJ23_compareToUTF16Values_0 7 rfl rfl)
theorem dJ23_compareToUTF16Values_8 : decode cJ23_compareToUTF16Values 8 = .ok (.istore 5, 2) := dk_54 5 (dk_at dksJ23_compareToUTF16Values_0 8 rfl rfl)
theorem dJ23_compareToUTF16Values_10 : decode cJ23_compareToUTF16Values 10 = .ok (.iload 5, 2) := dk_21 5 (dk_at dksJ23_compareToUTF16Values_0 10 rfl rfl)
theorem dJ23_compareToUTF16Values_12 : decode cJ23_compareToUTF16Values 12 = .ok (.iload 4, 2) := dk_21 4 (dk_at dksJ23_compareToUTF16Values_0 12 rfl rfl)
theorem dJ23_compareToUTF16Values_14 : decode cJ23_compareToUTF16Values 14 = .ok (.if_icmp .ge 38, 3) := dk_162 0 38 (dk_at dksJ23_compareToUTF16Values_0 14 rfl rfl)
theorem dJ23_compareToUTF16Values_17 : decode cJ23_compareToUTF16Values 17 = .ok (.aload_n 0, 1) := dk_42 (dk_at dksJ23_compareToUTF16Values_0 17 rfl rfl)
theorem dJ23_compareToUTF16Values_18 : decode cJ23_compareToUTF16Values 18 = .ok (.iload 5, 2) := dk_21 5 (dk_at dksJ23_compareToUTF16Values_0 18 rfl rfl)
theorem dJ23_compareToUTF16Values_20 : decode cJ23_compareToUTF16Values 20 = .ok (.invokestatic 50, 3) := dk_184 0 50 (dk_at dksJ23_compareToUTF16Values_0 20 rfl rfl)
theorem dJ23_compareToUTF16Values_23 : decode cJ23_compareToUTF16Values 23 = .ok (.istore 6, 2) := dk_54 6 (dk_at dksJ23_compareToUTF16Values_1 0 rfl rfl)
theorem dJ23_compareToUTF16Values_25 : decode cJ23_compareToUTF16Values 25 = .ok (.aload_n 1, 1) := dk_43 (dk_at dksJ23_compareToUTF16Values_1 2 rfl rfl)
theorem dJ23_compareToUTF16Values_26 : decode cJ23_compareToUTF16Values 26 = .ok (.iload 5, 2) := dk_21 5 (dk_at dksJ23_compareToUTF16Values_1 3 rfl rfl)
theorem dJ23_compareToUTF16Values_28 : decode cJ23_compareToUTF16Values 28 = .ok (.invokestatic 65, 3) := dk_184 0 65 (dk_at dksJ23_compareToUTF16Values_1 5 rfl rfl)
theorem dJ23_compareToUTF16Values_31 : decode cJ23_compareToUTF16Values 31 = .ok (.istore 7, 2) := dk_54 7 (dk_at dksJ23_compareToUTF16Values_1 8 rfl rfl)
theorem dJ23_compareToUTF16Values_33 : decode cJ23_compareToUTF16Values 33 = .ok (.iload 6, 2) := dk_21 6 (dk_at dksJ23_compareToUTF16Values_1 10 rfl rfl)
theorem dJ23_compareToUTF16Values_35 : decode cJ23_compareToUTF16Values 35 = .ok (.iload 7, 2) := dk_21 7 (dk_at dksJ23_compareToUTF16Values_1 12 rfl rfl)
theorem dJ23_compareToUTF16Values_37 : decode cJ23_compareToUTF16Values 37 = .ok (.if_icmp .eq 9, 3) := dk_159 0 9 (dk_at dksJ23_compareToUTF16Values_1 14 rfl rfl)
theorem dJ23_compareToUTF16Values_40 : decode cJ23_compareToUTF16Values 40 = .ok (.iload 6, 2) := dk_21 6 (dk_at dksJ23_compareToUTF16Values_1 17 rfl rfl)
theorem dJ23_compareToUTF16Values_42 : decode cJ23_compareToUTF16Values 42 = .ok (.iload 7, 2) := dk_21 7 (dk_at dksJ23_compareToUTF16Values_1 19 rfl rfl)
theorem dJ23_compareToUTF16Values_44 : decode cJ23_compareToUTF16Values 44 = .ok (.isub, 1) := dk_100 (dk_at dksJ23_compareToUTF16Values_1 21 rfl rfl)
theorem dJ23_compareToUTF16Values_45 : decode cJ23_compareToUTF16Values 45 = .ok (.ireturn, 1) := dk_172 (dk_at dksJ23_compareToUTF16Values_1 22 rfl rfl)
theorem dJ23_compareToUTF16Values_46 : decode cJ23_compareToUTF16Values 46 = .ok (.iinc 5 1, 3) := dk_132 5 1 (dk_at dksJ23_compareToUTF16Values_2 0 rfl rfl)
theorem dJ23_compareToUTF16Values_49 : decode cJ23_compareToUTF16Values 49 = .ok (.goto (-39), 3) := dk_167 255 217 (dk_at dksJ23_compareToUTF16Values_2 3 rfl rfl)
theorem dJ23_compareToUTF16Values_52 : decode cJ23_compareToUTF16Values 52 = .ok (.iload_n 2, 1) := dk_28 (dk_at dksJ23_compareToUTF16Values_2 6 rfl rfl)
theorem dJ23_compareToUTF16Values_53 : decode cJ23_compareToUTF16Values 53 = .ok (.iload_n 3, 1) := dk_29 (dk_at dksJ23_compareToUTF16Values_2 7 rfl rfl)
theorem dJ23_compareToUTF16Values_54 : decode cJ23_compareToUTF16Values 54 = .ok (.isub, 1) := dk_100 (dk_at dksJ23_compareToUTF16Values_2 8 rfl rfl)
theorem dJ23_compareToUTF16Values_55 : decode cJ23_compareToUTF16Values 55 = .ok (.ireturn, 1) := dk_172 (dk_at dksJ23_compareToUTF16Values_2 9 rfl rfl)
abbrev cJ23_compareToUTF16_2 : ByteArray := prog_40_method_17_code
def yJ23_compareToUTF16_2 : MethodName := ⟨RJ23, "compareToUTF16", "([B[BII)I"⟩
def dkwJ23_compareToUTF16_2_0 : List UInt8 := [28, 42, 184, 0, 54, 184, 0, 62, 29, 43, 184, 0, 58, 184, 0, 62, 42, 43, 28, 29, 184, 0, 59, 172]
abbrev dktJ23_compareToUTF16_2_0 : List UInt8 := dkwJ23_compareToUTF16_2_0 ++ []
theorem dksJ23_compareToUTF16_2_0 : cJ23_compareToUTF16_2.data.toList.drop 0 = dktJ23_compareToUTF16_2_0 := by decide +kernel
theorem dJ23_compareToUTF16_2_0 : decode cJ23_compareToUTF16_2 0 = .ok (.iload_n 2, 1) := dk_28 (dk_at dksJ23_compareToUTF16_2_0 0 rfl rfl)
theorem dJ23_compareToUTF16_2_1 : decode cJ23_compareToUTF16_2 1 = .ok (.aload_n 0, 1) := dk_42 (dk_at dksJ23_compareToUTF16_2_0 1 rfl rfl)
theorem dJ23_compareToUTF16_2_2 : decode cJ23_compareToUTF16_2 2 = .ok (.invokestatic 54, 3) := dk_184 0 54 (dk_at dksJ23_compareToUTF16_2_0 2 rfl rfl)
theorem dJ23_compareToUTF16_2_5 : decode cJ23_compareToUTF16_2 5 = .ok (.invokestatic 62, 3) := dk_184 0 62 (dk_at dksJ23_compareToUTF16_2_0 5 rfl rfl)
theorem dJ23_compareToUTF16_2_8 : decode cJ23_compareToUTF16_2 8 = .ok (.iload_n 3, 1) := dk_29 (dk_at dksJ23_compareToUTF16_2_0 8 rfl rfl)
theorem dJ23_compareToUTF16_2_9 : decode cJ23_compareToUTF16_2 9 = .ok (.aload_n 1, 1) := dk_43 (dk_at dksJ23_compareToUTF16_2_0 9 rfl rfl)
theorem dJ23_compareToUTF16_2_10 : decode cJ23_compareToUTF16_2 10 = .ok (.invokestatic 58, 3) := dk_184 0 58 (dk_at dksJ23_compareToUTF16_2_0 10 rfl rfl)
theorem dJ23_compareToUTF16_2_13 : decode cJ23_compareToUTF16_2 13 = .ok (.invokestatic 62, 3) := dk_184 0 62 (dk_at dksJ23_compareToUTF16_2_0 13 rfl rfl)
theorem dJ23_compareToUTF16_2_16 : decode cJ23_compareToUTF16_2 16 = .ok (.aload_n 0, 1) := dk_42 (dk_at dksJ23_compareToUTF16_2_0 16 rfl rfl)
theorem dJ23_compareToUTF16_2_17 : decode cJ23_compareToUTF16_2 17 = .ok (.aload_n 1, 1) := dk_43 (dk_at dksJ23_compareToUTF16_2_0 17 rfl rfl)
theorem dJ23_compareToUTF16_2_18 : decode cJ23_compareToUTF16_2 18 = .ok (.iload_n 2, 1) := dk_28 (dk_at dksJ23_compareToUTF16_2_0 18 rfl rfl)
theorem dJ23_compareToUTF16_2_19 : decode cJ23_compareToUTF16_2 19 = .ok (.iload_n 3, 1) := dk_29 (dk_at dksJ23_compareToUTF16_2_0 19 rfl rfl)
theorem dJ23_compareToUTF16_2_20 : decode cJ23_compareToUTF16_2 20 = .ok (.invokestatic 59, 3) := dk_184 0 59 (dk_at dksJ23_compareToUTF16_2_0 20 rfl rfl)
theorem dJ23_compareToUTF16_2_23 : decode cJ23_compareToUTF16_2 23 = .ok (.ireturn, 1) := dk_172 (dk_at dksJ23_compareToUTF16_2_0 23 rfl rfl)
abbrev cJ23_inflate : ByteArray := prog_40_method_50_code
def yJ23_inflate : MethodName := ⟨RJ23, "inflate", "([BI[BII)V"⟩
def dkwJ23_inflate_0 : List UInt8 := [42, 27, 44, 29, 21, 4, 184, 0, 240, 177]
abbrev dktJ23_inflate_0 : List UInt8 := dkwJ23_inflate_0 ++ []
theorem dksJ23_inflate_0 : cJ23_inflate.data.toList.drop 0 = dktJ23_inflate_0 := by decide +kernel
theorem dJ23_inflate_0 : decode cJ23_inflate 0 = .ok (.aload_n 0, 1) := dk_42 (dk_at dksJ23_inflate_0 0 rfl rfl)
theorem dJ23_inflate_1 : decode cJ23_inflate 1 = .ok (.iload_n 1, 1) := dk_27 (dk_at dksJ23_inflate_0 1 rfl rfl)
theorem dJ23_inflate_2 : decode cJ23_inflate 2 = .ok (.aload_n 2, 1) := dk_44 (dk_at dksJ23_inflate_0 2 rfl rfl)
theorem dJ23_inflate_3 : decode cJ23_inflate 3 = .ok (.iload_n 3, 1) := dk_29 (dk_at dksJ23_inflate_0 3 rfl rfl)
theorem dJ23_inflate_4 : decode cJ23_inflate 4 = .ok (.iload 4, 2) := dk_21 4 (dk_at dksJ23_inflate_0 4 rfl rfl)
theorem dJ23_inflate_6 : decode cJ23_inflate 6 = .ok (.invokestatic 240, 3) := dk_184 0 240 (dk_at dksJ23_inflate_0 6 rfl rfl)
theorem dJ23_inflate_9 : decode cJ23_inflate 9 = .ok (.return_, 1) := dk_177 (dk_at dksJ23_inflate_0 9 rfl rfl)
abbrev cJ23_fillNull : ByteArray := prog_40_method_48_code
def yJ23_fillNull : MethodName := ⟨RJ23, "fillNull", "([BII)V"⟩
def dkwJ23_fillNull_0 : List UInt8 := [42, 27, 28, 3, 184, 0, 236, 177]
abbrev dktJ23_fillNull_0 : List UInt8 := dkwJ23_fillNull_0 ++ []
theorem dksJ23_fillNull_0 : cJ23_fillNull.data.toList.drop 0 = dktJ23_fillNull_0 := by decide +kernel
theorem dJ23_fillNull_0 : decode cJ23_fillNull 0 = .ok (.aload_n 0, 1) := dk_42 (dk_at dksJ23_fillNull_0 0 rfl rfl)
theorem dJ23_fillNull_1 : decode cJ23_fillNull 1 = .ok (.iload_n 1, 1) := dk_27 (dk_at dksJ23_fillNull_0 1 rfl rfl)
theorem dJ23_fillNull_2 : decode cJ23_fillNull 2 = .ok (.iload_n 2, 1) := dk_28 (dk_at dksJ23_fillNull_0 2 rfl rfl)
theorem dJ23_fillNull_3 : decode cJ23_fillNull 3 = .ok (.iconst 0, 1) := dk_3 (dk_at dksJ23_fillNull_0 3 rfl rfl)
theorem dJ23_fillNull_4 : decode cJ23_fillNull 4 = .ok (.invokestatic 236, 3) := dk_184 0 236 (dk_at dksJ23_fillNull_0 4 rfl rfl)
theorem dJ23_fillNull_7 : decode cJ23_fillNull 7 = .ok (.return_, 1) := dk_177 (dk_at dksJ23_fillNull_0 7 rfl rfl)
abbrev cJ23_canEncode : ByteArray := prog_40_method_3_code
def yJ23_canEncode : MethodName := ⟨RJ23, "canEncode", "(C)Z"⟩
def dkwJ23_canEncode_0 : List UInt8 := [26, 17, 0, 255, 163, 0, 7, 4, 167, 0, 4, 3, 172]
abbrev dktJ23_canEncode_0 : List UInt8 := dkwJ23_canEncode_0 ++ []
theorem dksJ23_canEncode_0 : cJ23_canEncode.data.toList.drop 0 = dktJ23_canEncode_0 := by decide +kernel
theorem dJ23_canEncode_0 : decode cJ23_canEncode 0 = .ok (.iload_n 0, 1) := dk_26 (dk_at dksJ23_canEncode_0 0 rfl rfl)
theorem dJ23_canEncode_1 : decode cJ23_canEncode 1 = .ok (.sipush 255, 3) := dk_17 0 255 (dk_at dksJ23_canEncode_0 1 rfl rfl)
theorem dJ23_canEncode_4 : decode cJ23_canEncode 4 = .ok (.if_icmp .gt 7, 3) := dk_163 0 7 (dk_at dksJ23_canEncode_0 4 rfl rfl)
theorem dJ23_canEncode_7 : decode cJ23_canEncode 7 = .ok (.iconst 1, 1) := dk_4 (dk_at dksJ23_canEncode_0 7 rfl rfl)
theorem dJ23_canEncode_8 : decode cJ23_canEncode 8 = .ok (.goto 4, 3) := dk_167 0 4 (dk_at dksJ23_canEncode_0 8 rfl rfl)
theorem dJ23_canEncode_11 : decode cJ23_canEncode 11 = .ok (.iconst 0, 1) := dk_3 (dk_at dksJ23_canEncode_0 11 rfl rfl)
theorem dJ23_canEncode_12 : decode cJ23_canEncode 12 = .ok (.ireturn, 1) := dk_172 (dk_at dksJ23_canEncode_0 12 rfl rfl)
abbrev cJ23_indexOf : ByteArray := prog_40_method_22_code
def yJ23_indexOf : MethodName := ⟨RJ23, "indexOf", "([BIII)I"⟩
def dkwJ23_indexOf_1 : List UInt8 := [161, 0, 5, 2, 172, 42, 27, 28, 29, 184, 0, 95, 172]
abbrev dktJ23_indexOf_1 : List UInt8 := dkwJ23_indexOf_1 ++ []
def dkwJ23_indexOf_0 : List UInt8 := [27, 184, 0, 88, 154, 0, 5, 2, 172, 28, 3, 184, 0, 92, 61, 29, 42, 190, 184, 0, 38, 62, 28, 29]
abbrev dktJ23_indexOf_0 : List UInt8 := dkwJ23_indexOf_0 ++ dktJ23_indexOf_1
theorem dksJ23_indexOf_0 : cJ23_indexOf.data.toList.drop 0 = dktJ23_indexOf_0 := by decide +kernel
theorem dksJ23_indexOf_1 : cJ23_indexOf.data.toList.drop 24 = dktJ23_indexOf_1 := dk_seg dksJ23_indexOf_0 24 rfl rfl
theorem dJ23_indexOf_0 : decode cJ23_indexOf 0 = .ok (.iload_n 1, 1) := dk_27 (dk_at dksJ23_indexOf_0 0 rfl rfl)
theorem dJ23_indexOf_1 : decode cJ23_indexOf 1 = .ok (.invokestatic 88, 3) := dk_184 0 88 (dk_at dksJ23_indexOf_0 1 rfl rfl)
theorem dJ23_indexOf_4 : decode cJ23_indexOf 4 = .ok (.ifCond .ne 5, 3) := dk_154 0 5 (dk_at dksJ23_indexOf_0 4 rfl rfl)
theorem dJ23_indexOf_7 : decode cJ23_indexOf 7 = .ok (.iconst (-1), 1) := dk_2 (dk_at dksJ23_indexOf_0 7 rfl rfl)
theorem dJ23_indexOf_8 : decode cJ23_indexOf 8 = .ok (.ireturn, 1) := dk_172 (dk_at dksJ23_indexOf_0 8 rfl rfl)
theorem dJ23_indexOf_9 : decode cJ23_indexOf 9 = .ok (.iload_n 2, 1) := dk_28 (dk_at dksJ23_indexOf_0 9 rfl rfl)
theorem dJ23_indexOf_10 : decode cJ23_indexOf 10 = .ok (.iconst 0, 1) := dk_3 (dk_at dksJ23_indexOf_0 10 rfl rfl)
theorem dJ23_indexOf_11 : decode cJ23_indexOf 11 = .ok (.invokestatic 92, 3) := dk_184 0 92 (dk_at dksJ23_indexOf_0 11 rfl rfl)
theorem dJ23_indexOf_14 : decode cJ23_indexOf 14 = .ok (.istore_n 2, 1) := dk_61 (dk_at dksJ23_indexOf_0 14 rfl rfl)
theorem dJ23_indexOf_15 : decode cJ23_indexOf 15 = .ok (.iload_n 3, 1) := dk_29 (dk_at dksJ23_indexOf_0 15 rfl rfl)
theorem dJ23_indexOf_16 : decode cJ23_indexOf 16 = .ok (.aload_n 0, 1) := dk_42 (dk_at dksJ23_indexOf_0 16 rfl rfl)
theorem dJ23_indexOf_17 : decode cJ23_indexOf 17 = .ok (.arraylength, 1) := dk_190 (dk_at dksJ23_indexOf_0 17 rfl rfl)
theorem dJ23_indexOf_18 : decode cJ23_indexOf 18 = .ok (.invokestatic 38, 3) := dk_184 0 38 (dk_at dksJ23_indexOf_0 18 rfl rfl)
theorem dJ23_indexOf_21 : decode cJ23_indexOf 21 = .ok (.istore_n 3, 1) := dk_62 (dk_at dksJ23_indexOf_0 21 rfl rfl)
theorem dJ23_indexOf_22 : decode cJ23_indexOf 22 = .ok (.iload_n 2, 1) := dk_28 (dk_at dksJ23_indexOf_0 22 rfl rfl)
theorem dJ23_indexOf_23 : decode cJ23_indexOf 23 = .ok (.iload_n 3, 1) := dk_29 (dk_at dksJ23_indexOf_0 23 rfl rfl)
theorem dJ23_indexOf_24 : decode cJ23_indexOf 24 = .ok (.if_icmp .lt 5, 3) := dk_161 0 5 (dk_at dksJ23_indexOf_1 0 rfl rfl)
theorem dJ23_indexOf_27 : decode cJ23_indexOf 27 = .ok (.iconst (-1), 1) := dk_2 (dk_at dksJ23_indexOf_1 3 rfl rfl)
theorem dJ23_indexOf_28 : decode cJ23_indexOf 28 = .ok (.ireturn, 1) := dk_172 (dk_at dksJ23_indexOf_1 4 rfl rfl)
theorem dJ23_indexOf_29 : decode cJ23_indexOf 29 = .ok (.aload_n 0, 1) := dk_42 (dk_at dksJ23_indexOf_1 5 rfl rfl)
theorem dJ23_indexOf_30 : decode cJ23_indexOf 30 = .ok (.iload_n 1, 1) := dk_27 (dk_at dksJ23_indexOf_1 6 rfl rfl)
theorem dJ23_indexOf_31 : decode cJ23_indexOf 31 = .ok (.iload_n 2, 1) := dk_28 (dk_at dksJ23_indexOf_1 7 rfl rfl)
theorem dJ23_indexOf_32 : decode cJ23_indexOf 32 = .ok (.iload_n 3, 1) := dk_29 (dk_at dksJ23_indexOf_1 8 rfl rfl)
theorem dJ23_indexOf_33 : decode cJ23_indexOf 33 = .ok (.invokestatic 95, 3) := dk_184 0 95 (dk_at dksJ23_indexOf_1 9 rfl rfl)
theorem dJ23_indexOf_36 : decode cJ23_indexOf 36 = .ok (.ireturn, 1) := dk_172 (dk_at dksJ23_indexOf_1 12 rfl rfl)
abbrev cJ23_canEncode_2 : ByteArray := prog_40_method_4_code
def yJ23_canEncode_2 : MethodName := ⟨RJ23, "canEncode", "(I)Z"⟩
def dkwJ23_canEncode_2_0 : List UInt8 := [26, 155, 0, 14, 26, 17, 0, 255, 163, 0, 7, 4, 167, 0, 4, 3, 172]
abbrev dktJ23_canEncode_2_0 : List UInt8 := dkwJ23_canEncode_2_0 ++ []
theorem dksJ23_canEncode_2_0 : cJ23_canEncode_2.data.toList.drop 0 = dktJ23_canEncode_2_0 := by decide +kernel
theorem dJ23_canEncode_2_0 : decode cJ23_canEncode_2 0 = .ok (.iload_n 0, 1) := dk_26 (dk_at dksJ23_canEncode_2_0 0 rfl rfl)
theorem dJ23_canEncode_2_1 : decode cJ23_canEncode_2 1 = .ok (.ifCond .lt 14, 3) := dk_155 0 14 (dk_at dksJ23_canEncode_2_0 1 rfl rfl)
theorem dJ23_canEncode_2_4 : decode cJ23_canEncode_2 4 = .ok (.iload_n 0, 1) := dk_26 (dk_at dksJ23_canEncode_2_0 4 rfl rfl)
theorem dJ23_canEncode_2_5 : decode cJ23_canEncode_2 5 = .ok (.sipush 255, 3) := dk_17 0 255 (dk_at dksJ23_canEncode_2_0 5 rfl rfl)
theorem dJ23_canEncode_2_8 : decode cJ23_canEncode_2 8 = .ok (.if_icmp .gt 7, 3) := dk_163 0 7 (dk_at dksJ23_canEncode_2_0 8 rfl rfl)
theorem dJ23_canEncode_2_11 : decode cJ23_canEncode_2 11 = .ok (.iconst 1, 1) := dk_4 (dk_at dksJ23_canEncode_2_0 11 rfl rfl)
theorem dJ23_canEncode_2_12 : decode cJ23_canEncode_2 12 = .ok (.goto 4, 3) := dk_167 0 4 (dk_at dksJ23_canEncode_2_0 12 rfl rfl)
theorem dJ23_canEncode_2_15 : decode cJ23_canEncode_2 15 = .ok (.iconst 0, 1) := dk_3 (dk_at dksJ23_canEncode_2_0 15 rfl rfl)
theorem dJ23_canEncode_2_16 : decode cJ23_canEncode_2 16 = .ok (.ireturn, 1) := dk_172 (dk_at dksJ23_canEncode_2_0 16 rfl rfl)
abbrev cJ23_indexOfChar : ByteArray := prog_40_method_23_code
def yJ23_indexOfChar : MethodName := ⟨RJ23, "indexOfChar", "([BIII)I"⟩
def dkwJ23_indexOfChar_1 : List UInt8 := [172, 132, 5, 1, 167, 255, 235, 2, 172]
abbrev dktJ23_indexOfChar_1 : List UInt8 := dkwJ23_indexOfChar_1 ++ []
def dkwJ23_indexOfChar_0 : List UInt8 := [27, 145, 54, 4, 28, 54, 5, 21, 5, 29, 162, 0, 21, 42, 21, 5, 51, 21, 4, 160, 0, 6, 21, 5]
abbrev dktJ23_indexOfChar_0 : List UInt8 := dkwJ23_indexOfChar_0 ++ dktJ23_indexOfChar_1
theorem dksJ23_indexOfChar_0 : cJ23_indexOfChar.data.toList.drop 0 = dktJ23_indexOfChar_0 := by decide +kernel
theorem dksJ23_indexOfChar_1 : cJ23_indexOfChar.data.toList.drop 24 = dktJ23_indexOfChar_1 := dk_seg dksJ23_indexOfChar_0 24 rfl rfl
theorem dJ23_indexOfChar_0 : decode cJ23_indexOfChar 0 = .ok (.iload_n 1, 1) := dk_27 (dk_at dksJ23_indexOfChar_0 0 rfl rfl)
theorem dJ23_indexOfChar_1 : decode cJ23_indexOfChar 1 = .ok (.i2b, 1) := dk_145 (dk_at dksJ23_indexOfChar_0 1 rfl rfl)
theorem dJ23_indexOfChar_2 : decode cJ23_indexOfChar 2 = .ok (.istore 4, 2) := dk_54 4 (dk_at dksJ23_indexOfChar_0 2 rfl rfl)
theorem dJ23_indexOfChar_4 : decode cJ23_indexOfChar 4 = .ok (.iload_n 2, 1) := dk_28 (dk_at dksJ23_indexOfChar_0 4 rfl rfl)
theorem dJ23_indexOfChar_5 : decode cJ23_indexOfChar 5 = .ok (.istore 5, 2) := dk_54 5 (dk_at dksJ23_indexOfChar_0 5 rfl rfl)
theorem dJ23_indexOfChar_7 : decode cJ23_indexOfChar 7 = .ok (.iload 5, 2) := dk_21 5 (dk_at dksJ23_indexOfChar_0 7 rfl rfl)
theorem dJ23_indexOfChar_9 : decode cJ23_indexOfChar 9 = .ok (.iload_n 3, 1) := dk_29 (dk_at dksJ23_indexOfChar_0 9 rfl rfl)
theorem dJ23_indexOfChar_10 : decode cJ23_indexOfChar 10 = .ok (.if_icmp .ge 21, 3) := dk_162 0 21 (dk_at dksJ23_indexOfChar_0 10 rfl rfl)
theorem dJ23_indexOfChar_13 : decode cJ23_indexOfChar 13 = .ok (.aload_n 0, 1) := dk_42 (dk_at dksJ23_indexOfChar_0 13 rfl rfl)
theorem dJ23_indexOfChar_14 : decode cJ23_indexOfChar 14 = .ok (.iload 5, 2) := dk_21 5 (dk_at dksJ23_indexOfChar_0 14 rfl rfl)
theorem dJ23_indexOfChar_16 : decode cJ23_indexOfChar 16 = .ok (.baload, 1) := dk_51 (dk_at dksJ23_indexOfChar_0 16 rfl rfl)
theorem dJ23_indexOfChar_17 : decode cJ23_indexOfChar 17 = .ok (.iload 4, 2) := dk_21 4 (dk_at dksJ23_indexOfChar_0 17 rfl rfl)
theorem dJ23_indexOfChar_19 : decode cJ23_indexOfChar 19 = .ok (.if_icmp .ne 6, 3) := dk_160 0 6 (dk_at dksJ23_indexOfChar_0 19 rfl rfl)
theorem dJ23_indexOfChar_22 : decode cJ23_indexOfChar 22 = .ok (.iload 5, 2) := dk_21 5 (dk_at dksJ23_indexOfChar_0 22 rfl rfl)
theorem dJ23_indexOfChar_24 : decode cJ23_indexOfChar 24 = .ok (.ireturn, 1) := dk_172 (dk_at dksJ23_indexOfChar_1 0 rfl rfl)
theorem dJ23_indexOfChar_25 : decode cJ23_indexOfChar 25 = .ok (.iinc 5 1, 3) := dk_132 5 1 (dk_at dksJ23_indexOfChar_1 1 rfl rfl)
theorem dJ23_indexOfChar_28 : decode cJ23_indexOfChar 28 = .ok (.goto (-21), 3) := dk_167 255 235 (dk_at dksJ23_indexOfChar_1 4 rfl rfl)
theorem dJ23_indexOfChar_31 : decode cJ23_indexOfChar 31 = .ok (.iconst (-1), 1) := dk_2 (dk_at dksJ23_indexOfChar_1 7 rfl rfl)
theorem dJ23_indexOfChar_32 : decode cJ23_indexOfChar 32 = .ok (.ireturn, 1) := dk_172 (dk_at dksJ23_indexOfChar_1 8 rfl rfl)
abbrev cJ23_charAt : ByteArray := prog_40_method_2_code
def yJ23_charAt : MethodName := ⟨RJ23, "charAt", "([BI)C"⟩
def dkwJ23_charAt_0 : List UInt8 := [27, 42, 190, 184, 0, 9, 42, 27, 51, 17, 0, 255, 126, 146, 172]
abbrev dktJ23_charAt_0 : List UInt8 := dkwJ23_charAt_0 ++ []
theorem dksJ23_charAt_0 : cJ23_charAt.data.toList.drop 0 = dktJ23_charAt_0 := by decide +kernel
theorem dJ23_charAt_0 : decode cJ23_charAt 0 = .ok (.iload_n 1, 1) := dk_27 (dk_at dksJ23_charAt_0 0 rfl rfl)
theorem dJ23_charAt_1 : decode cJ23_charAt 1 = .ok (.aload_n 0, 1) := dk_42 (dk_at dksJ23_charAt_0 1 rfl rfl)
theorem dJ23_charAt_2 : decode cJ23_charAt 2 = .ok (.arraylength, 1) := dk_190 (dk_at dksJ23_charAt_0 2 rfl rfl)
theorem dJ23_charAt_3 : decode cJ23_charAt 3 = .ok (.invokestatic 9, 3) := dk_184 0 9 (dk_at dksJ23_charAt_0 3 rfl rfl)
theorem dJ23_charAt_6 : decode cJ23_charAt 6 = .ok (.aload_n 0, 1) := dk_42 (dk_at dksJ23_charAt_0 6 rfl rfl)
theorem dJ23_charAt_7 : decode cJ23_charAt 7 = .ok (.iload_n 1, 1) := dk_27 (dk_at dksJ23_charAt_0 7 rfl rfl)
theorem dJ23_charAt_8 : decode cJ23_charAt 8 = .ok (.baload, 1) := dk_51 (dk_at dksJ23_charAt_0 8 rfl rfl)
theorem dJ23_charAt_9 : decode cJ23_charAt 9 = .ok (.sipush 255, 3) := dk_17 0 255 (dk_at dksJ23_charAt_0 9 rfl rfl)
theorem dJ23_charAt_12 : decode cJ23_charAt 12 = .ok (.iand, 1) := dk_126 (dk_at dksJ23_charAt_0 12 rfl rfl)
theorem dJ23_charAt_13 : decode cJ23_charAt 13 = .ok (.i2c, 1) := dk_146 (dk_at dksJ23_charAt_0 13 rfl rfl)
theorem dJ23_charAt_14 : decode cJ23_charAt 14 = .ok (.ireturn, 1) := dk_172 (dk_at dksJ23_charAt_0 14 rfl rfl)
theorem q123 : (Jvm.Cond.initialized "java/lang/StringLatin1") ∈ lw_all := lw_g (lw_at lw_m1 30 rfl) rfl
theorem q816 : (Jvm.Cond.static ({ cls := "java/lang/StringLatin1", name := "compareTo", desc := "([B[B)I" } : Jvm.MethodName)) ∈ lw_all := lw_g (lw_at lw_m4 3 rfl) rfl
theorem q817 : (Jvm.Cond.code ({ cls := "java/lang/StringLatin1", name := "compareTo", desc := "([B[B)I" } : Jvm.MethodName) prog_40_method_14_code (4 : Nat) (Option.some Jvm.ClassFile.FieldType.int)) ∈ lw_all := lw_g (lw_at lw_m4 4 rfl) rfl
theorem q818 : (Jvm.Cond.methodLink "java/lang/StringLatin1" (34 : Nat) ({ cls := "java/lang/StringLatin1", name := "compareTo", desc := "([B[BII)I" } : Jvm.MethodName)) ∈ lw_all := lw_g (lw_at lw_m4 5 rfl) rfl
theorem q819 : (Jvm.Cond.static ({ cls := "java/lang/StringLatin1", name := "compareTo", desc := "([B[BII)I" } : Jvm.MethodName)) ∈ lw_all := lw_g (lw_at lw_m4 6 rfl) rfl
theorem q820 : (Jvm.Cond.code ({ cls := "java/lang/StringLatin1", name := "compareTo", desc := "([B[BII)I" } : Jvm.MethodName) prog_40_method_15_code (6 : Nat) (Option.some Jvm.ClassFile.FieldType.int)) ∈ lw_all := lw_g (lw_at lw_m4 7 rfl) rfl
theorem q821 : (Jvm.Cond.methodLink "java/lang/StringLatin1" (38 : Nat) ({ cls := "java/lang/Math", name := "min", desc := "(II)I" } : Jvm.MethodName)) ∈ lw_all := lw_g (lw_at lw_m4 8 rfl) rfl
theorem q822 : (Jvm.Cond.methodLink "java/lang/StringLatin1" (44 : Nat) ({ cls := "jdk/internal/util/ArraysSupport", name := "mismatch", desc := "([B[BI)I" } : Jvm.MethodName)) ∈ lw_all := lw_g (lw_at lw_m4 9 rfl) rfl
theorem q926 : (Jvm.Cond.methodLink "java/lang/StringLatin1" (50 : Nat) ({ cls := "java/lang/StringLatin1", name := "getChar", desc := "([BI)C" } : Jvm.MethodName)) ∈ lw_all := lw_g (lw_at lw_m4 113 rfl) rfl
theorem q927 : (Jvm.Cond.static ({ cls := "java/lang/StringLatin1", name := "getChar", desc := "([BI)C" } : Jvm.MethodName)) ∈ lw_all := lw_g (lw_at lw_m4 114 rfl) rfl
theorem q928 : (Jvm.Cond.code ({ cls := "java/lang/StringLatin1", name := "getChar", desc := "([BI)C" } : Jvm.MethodName) prog_40_method_44_code (2 : Nat) (Option.some Jvm.ClassFile.FieldType.char)) ∈ lw_all := lw_g (lw_at lw_m4 115 rfl) rfl
theorem q949 : (Jvm.Cond.static ({ cls := "java/lang/StringLatin1", name := "compareToUTF16", desc := "([B[B)I" } : Jvm.MethodName)) ∈ lw_all := lw_g (lw_at lw_m4 136 rfl) rfl
theorem q950 : (Jvm.Cond.code ({ cls := "java/lang/StringLatin1", name := "compareToUTF16", desc := "([B[B)I" } : Jvm.MethodName) prog_40_method_16_code (4 : Nat) (Option.some Jvm.ClassFile.FieldType.int)) ∈ lw_all := lw_g (lw_at lw_m4 137 rfl) rfl
theorem q951 : (Jvm.Cond.methodLink "java/lang/StringLatin1" (54 : Nat) ({ cls := "java/lang/StringLatin1", name := "length", desc := "([B)I" } : Jvm.MethodName)) ∈ lw_all := lw_g (lw_at lw_m4 138 rfl) rfl
theorem q952 : (Jvm.Cond.static ({ cls := "java/lang/StringLatin1", name := "length", desc := "([B)I" } : Jvm.MethodName)) ∈ lw_all := lw_g (lw_at lw_m4 139 rfl) rfl
theorem q953 : (Jvm.Cond.code ({ cls := "java/lang/StringLatin1", name := "length", desc := "([B)I" } : Jvm.MethodName) prog_40_method_5_code (1 : Nat) (Option.some Jvm.ClassFile.FieldType.int)) ∈ lw_all := lw_g (lw_at lw_m4 140 rfl) rfl
theorem q954 : (Jvm.Cond.methodLink "java/lang/StringLatin1" (58 : Nat) ({ cls := "java/lang/StringUTF16", name := "length", desc := "([B)I" } : Jvm.MethodName)) ∈ lw_all := lw_g (lw_at lw_m4 141 rfl) rfl
theorem q955 : (Jvm.Cond.methodLink "java/lang/StringLatin1" (59 : Nat) ({ cls := "java/lang/StringLatin1", name := "compareToUTF16Values", desc := "([B[BII)I" } : Jvm.MethodName)) ∈ lw_all := lw_g (lw_at lw_m4 142 rfl) rfl
theorem q956 : (Jvm.Cond.static ({ cls := "java/lang/StringLatin1", name := "compareToUTF16Values", desc := "([B[BII)I" } : Jvm.MethodName)) ∈ lw_all := lw_g (lw_at lw_m4 143 rfl) rfl
theorem q957 : (Jvm.Cond.code ({ cls := "java/lang/StringLatin1", name := "compareToUTF16Values", desc := "([B[BII)I" } : Jvm.MethodName) prog_40_method_18_code (8 : Nat) (Option.some Jvm.ClassFile.FieldType.int)) ∈ lw_all := lw_g (lw_at lw_m4 144 rfl) rfl
theorem q958 : (Jvm.Cond.methodLink "java/lang/StringLatin1" (65 : Nat) ({ cls := "java/lang/StringUTF16", name := "getChar", desc := "([BI)C" } : Jvm.MethodName)) ∈ lw_all := lw_g (lw_at lw_m4 145 rfl) rfl
theorem q998 : (Jvm.Cond.static ({ cls := "java/lang/StringLatin1", name := "compareToUTF16", desc := "([B[BII)I" } : Jvm.MethodName)) ∈ lw_all := lw_g (lw_at lw_m4 185 rfl) rfl
theorem q999 : (Jvm.Cond.code ({ cls := "java/lang/StringLatin1", name := "compareToUTF16", desc := "([B[BII)I" } : Jvm.MethodName) prog_40_method_17_code (4 : Nat) (Option.some Jvm.ClassFile.FieldType.int)) ∈ lw_all := lw_g (lw_at lw_m4 186 rfl) rfl
theorem q1000 : (Jvm.Cond.methodLink "java/lang/StringLatin1" (62 : Nat) ({ cls := "java/lang/String", name := "checkOffset", desc := "(II)V" } : Jvm.MethodName)) ∈ lw_all := lw_g (lw_at lw_m4 187 rfl) rfl
theorem q1414 : (Jvm.Cond.static ({ cls := "java/lang/StringLatin1", name := "inflate", desc := "([BI[BII)V" } : Jvm.MethodName)) ∈ lw_all := lw_g (lw_at lw_m6 121 rfl) rfl
theorem q1415 : (Jvm.Cond.code ({ cls := "java/lang/StringLatin1", name := "inflate", desc := "([BI[BII)V" } : Jvm.MethodName) prog_40_method_50_code (5 : Nat) (Option.none : Option Jvm.ClassFile.FieldType)) ∈ lw_all := lw_g (lw_at lw_m6 122 rfl) rfl
theorem q1416 : (Jvm.Cond.methodLink "java/lang/StringLatin1" (240 : Nat) ({ cls := "java/lang/StringUTF16", name := "inflate", desc := "([BI[BII)V" } : Jvm.MethodName)) ∈ lw_all := lw_g (lw_at lw_m6 123 rfl) rfl
theorem q1547 : (Jvm.Cond.static ({ cls := "java/lang/StringLatin1", name := "fillNull", desc := "([BII)V" } : Jvm.MethodName)) ∈ lw_all := lw_g (lw_at lw_m7 14 rfl) rfl
theorem q1548 : (Jvm.Cond.code ({ cls := "java/lang/StringLatin1", name := "fillNull", desc := "([BII)V" } : Jvm.MethodName) prog_40_method_48_code (3 : Nat) (Option.none : Option Jvm.ClassFile.FieldType)) ∈ lw_all := lw_g (lw_at lw_m7 15 rfl) rfl
theorem q1549 : (Jvm.Cond.methodLink "java/lang/StringLatin1" (236 : Nat) ({ cls := "java/util/Arrays", name := "fill", desc := "([BIIB)V" } : Jvm.MethodName)) ∈ lw_all := lw_g (lw_at lw_m7 16 rfl) rfl
theorem q1630 : (Jvm.Cond.static ({ cls := "java/lang/StringLatin1", name := "canEncode", desc := "(C)Z" } : Jvm.MethodName)) ∈ lw_all := lw_g (lw_at lw_m7 97 rfl) rfl
theorem q1631 : (Jvm.Cond.code ({ cls := "java/lang/StringLatin1", name := "canEncode", desc := "(C)Z" } : Jvm.MethodName) prog_40_method_3_code (1 : Nat) (Option.some Jvm.ClassFile.FieldType.boolean)) ∈ lw_all := lw_g (lw_at lw_m7 98 rfl) rfl
theorem q2478 : (Jvm.Cond.static ({ cls := "java/lang/StringLatin1", name := "indexOf", desc := "([BIII)I" } : Jvm.MethodName)) ∈ lw_all := lw_g (lw_at lw_m10 225 rfl) rfl
theorem q2479 : (Jvm.Cond.code ({ cls := "java/lang/StringLatin1", name := "indexOf", desc := "([BIII)I" } : Jvm.MethodName) prog_40_method_22_code (4 : Nat) (Option.some Jvm.ClassFile.FieldType.int)) ∈ lw_all := lw_g (lw_at lw_m10 226 rfl) rfl
theorem q2480 : (Jvm.Cond.methodLink "java/lang/StringLatin1" (88 : Nat) ({ cls := "java/lang/StringLatin1", name := "canEncode", desc := "(I)Z" } : Jvm.MethodName)) ∈ lw_all := lw_g (lw_at lw_m10 227 rfl) rfl
theorem q2481 : (Jvm.Cond.static ({ cls := "java/lang/StringLatin1", name := "canEncode", desc := "(I)Z" } : Jvm.MethodName)) ∈ lw_all := lw_g (lw_at lw_m10 228 rfl) rfl
theorem q2482 : (Jvm.Cond.code ({ cls := "java/lang/StringLatin1", name := "canEncode", desc := "(I)Z" } : Jvm.MethodName) prog_40_method_4_code (1 : Nat) (Option.some Jvm.ClassFile.FieldType.boolean)) ∈ lw_all := lw_g (lw_at lw_m10 229 rfl) rfl
theorem q2483 : (Jvm.Cond.methodLink "java/lang/StringLatin1" (92 : Nat) ({ cls := "java/lang/Math", name := "max", desc := "(II)I" } : Jvm.MethodName)) ∈ lw_all := lw_g (lw_at lw_m10 230 rfl) rfl
theorem q2484 : (Jvm.Cond.methodLink "java/lang/StringLatin1" (95 : Nat) ({ cls := "java/lang/StringLatin1", name := "indexOfChar", desc := "([BIII)I" } : Jvm.MethodName)) ∈ lw_all := lw_g (lw_at lw_m10 231 rfl) rfl
theorem q2485 : (Jvm.Cond.static ({ cls := "java/lang/StringLatin1", name := "indexOfChar", desc := "([BIII)I" } : Jvm.MethodName)) ∈ lw_all := lw_g (lw_at lw_m10 232 rfl) rfl
theorem q2486 : (Jvm.Cond.code ({ cls := "java/lang/StringLatin1", name := "indexOfChar", desc := "([BIII)I" } : Jvm.MethodName) prog_40_method_23_code (6 : Nat) (Option.some Jvm.ClassFile.FieldType.int)) ∈ lw_all := lw_g (lw_at lw_m10 233 rfl) rfl
theorem q2559 : (Jvm.Cond.static ({ cls := "java/lang/StringLatin1", name := "charAt", desc := "([BI)C" } : Jvm.MethodName)) ∈ lw_all := lw_g (lw_at lw_m11 66 rfl) rfl
theorem q2560 : (Jvm.Cond.code ({ cls := "java/lang/StringLatin1", name := "charAt", desc := "([BI)C" } : Jvm.MethodName) prog_40_method_2_code (2 : Nat) (Option.some Jvm.ClassFile.FieldType.char)) ∈ lw_all := lw_g (lw_at lw_m11 67 rfl) rfl
theorem q2561 : (Jvm.Cond.methodLink "java/lang/StringLatin1" (9 : Nat) ({ cls := "java/lang/String", name := "checkIndex", desc := "(II)V" } : Jvm.MethodName)) ∈ lw_all := lw_g (lw_at lw_m11 68 rfl) rfl
/-! java/util/ArrayDeque$DeqIterator -/
set_option maxRecDepth 100000
def RJ24 : String := "java/util/ArrayDeque$DeqIterator"
def TJ24 : u_T := fun k => match k with
  | 0 => ("java/util/ArrayDeque$DeqIterator", "cursor", "I", false)
  | 1 => ("java/util/ArrayDeque$DeqIterator", "remaining", "I", false)
  | 2 => ("java/util/ArrayDeque$DeqIterator", "lastRet", "I", false)
  | _ => ("java/util/ArrayDeque$DeqIterator", "this$0", "Ljava/util/ArrayDeque;", true)
def tyJ24 : Nat → FieldType := fun k => match k with
  | 0 => .int
  | 1 => .int
  | 2 => .int
  | _ => .object "java/util/ArrayDeque"
abbrev wsJ240 : List Cond := u_ws RJ24 TJ24 4
theorem nmJ24 : ∀ a, a < 4 → ∀ b, b < 4 → a ≠ b → (TJ24 a).2.1 ≠ (TJ24 b).2.1 := by decide +kernel
theorem tyJ24_ok : ∀ k, k < 4 → parseFieldDescriptor (TJ24 k).2.2.1 = some (tyJ24 k) := by decide +kernel
abbrev cJ24_hasNext : ByteArray := prog_53_method_2_code
def yJ24_hasNext : MethodName := ⟨RJ24, "hasNext", "()Z"⟩
def dkwJ24_hasNext_0 : List UInt8 := [42, 180, 0, 19, 158, 0, 7, 4, 167, 0, 4, 3, 172]
abbrev dktJ24_hasNext_0 : List UInt8 := dkwJ24_hasNext_0 ++ []
theorem dksJ24_hasNext_0 : cJ24_hasNext.data.toList.drop 0 = dktJ24_hasNext_0 := by decide +kernel
theorem dJ24_hasNext_0 : decode cJ24_hasNext 0 = .ok (.aload_n 0, 1) := dk_42 (dk_at dksJ24_hasNext_0 0 rfl rfl)
theorem dJ24_hasNext_1 : decode cJ24_hasNext 1 = .ok (.getfield 19, 3) := dk_180 0 19 (dk_at dksJ24_hasNext_0 1 rfl rfl)
theorem dJ24_hasNext_4 : decode cJ24_hasNext 4 = .ok (.ifCond .le 7, 3) := dk_158 0 7 (dk_at dksJ24_hasNext_0 4 rfl rfl)
theorem dJ24_hasNext_7 : decode cJ24_hasNext 7 = .ok (.iconst 1, 1) := dk_4 (dk_at dksJ24_hasNext_0 7 rfl rfl)
theorem dJ24_hasNext_8 : decode cJ24_hasNext 8 = .ok (.goto 4, 3) := dk_167 0 4 (dk_at dksJ24_hasNext_0 8 rfl rfl)
theorem dJ24_hasNext_11 : decode cJ24_hasNext 11 = .ok (.iconst 0, 1) := dk_3 (dk_at dksJ24_hasNext_0 11 rfl rfl)
theorem dJ24_hasNext_12 : decode cJ24_hasNext 12 = .ok (.ireturn, 1) := dk_172 (dk_at dksJ24_hasNext_0 12 rfl rfl)
abbrev cJ24_next : ByteArray := prog_53_method_3_code
def yJ24_next : MethodName := ⟨RJ24, "next", "()Ljava/lang/Object;"⟩
def dkwJ24_next_2 : List UInt8 := [181, 0, 29, 42, 89, 180, 0, 19, 4, 100, 181, 0, 19, 44, 176]
abbrev dktJ24_next_2 : List UInt8 := dkwJ24_next_2 ++ []
def dkwJ24_next_1 : List UInt8 := [42, 180, 0, 29, 184, 0, 39, 77, 42, 42, 42, 180, 0, 29, 90, 181, 0, 23, 43, 190, 184, 0, 43]
abbrev dktJ24_next_1 : List UInt8 := dkwJ24_next_1 ++ dktJ24_next_2
def dkwJ24_next_0 : List UInt8 := [42, 180, 0, 19, 157, 0, 11, 187, 0, 32, 89, 183, 0, 34, 191, 42, 180, 0, 1, 180, 0, 35, 76, 43]
abbrev dktJ24_next_0 : List UInt8 := dkwJ24_next_0 ++ dktJ24_next_1
theorem dksJ24_next_0 : cJ24_next.data.toList.drop 0 = dktJ24_next_0 := by decide +kernel
theorem dksJ24_next_1 : cJ24_next.data.toList.drop 24 = dktJ24_next_1 := dk_seg dksJ24_next_0 24 rfl rfl
theorem dksJ24_next_2 : cJ24_next.data.toList.drop 47 = dktJ24_next_2 := dk_seg dksJ24_next_1 23 rfl rfl
theorem dJ24_next_0 : decode cJ24_next 0 = .ok (.aload_n 0, 1) := dk_42 (dk_at dksJ24_next_0 0 rfl rfl)
theorem dJ24_next_1 : decode cJ24_next 1 = .ok (.getfield 19, 3) := dk_180 0 19 (dk_at dksJ24_next_0 1 rfl rfl)
theorem dJ24_next_4 : decode cJ24_next 4 = .ok (.ifCond .gt 11, 3) := dk_157 0 11 (dk_at dksJ24_next_0 4 rfl rfl)
theorem dJ24_next_7 : decode cJ24_next 7 = .ok (.new 32, 3) := dk_187 0 32 (dk_at dksJ24_next_0 7 rfl rfl)
theorem dJ24_next_10 : decode cJ24_next 10 = .ok (.dup, 1) := dk_89 (dk_at dksJ24_next_0 10 rfl rfl)
theorem dJ24_next_11 : decode cJ24_next 11 = .ok (.invokespecial 34, 3) := dk_183 0 34 (dk_at dksJ24_next_0 11 rfl rfl)
theorem dJ24_next_14 : decode cJ24_next 14 = .ok (.athrow, 1) := dk_191 (dk_at dksJ24_next_0 14 rfl rfl)
theorem dJ24_next_15 : decode cJ24_next 15 = .ok (.aload_n 0, 1) := dk_42 (dk_at dksJ24_next_0 15 rfl rfl)
theorem dJ24_next_16 : decode cJ24_next 16 = .ok (.getfield 1, 3) := dk_180 0 1 (dk_at dksJ24_next_0 16 rfl rfl)
theorem dJ24_next_19 : decode cJ24_next 19 = .ok (.getfield 35, 3) := dk_180 0 35 (dk_at dksJ24_next_0 19 rfl rfl)
theorem dJ24_next_22 : decode cJ24_next 22 = .ok (.astore_n 1, 1) := dk_76 (dk_at dksJ24_next_0 22 rfl rfl)
theorem dJ24_next_23 : decode cJ24_next 23 = .ok (.aload_n 1, 1) := dk_43 (dk_at dksJ24_next_0 23 rfl rfl)
theorem dJ24_next_24 : decode cJ24_next 24 = .ok (.aload_n 0, 1) := dk_42 (dk_at dksJ24_next_1 0 rfl rfl)
theorem dJ24_next_25 : decode cJ24_next 25 = .ok (.getfield 29, 3) := dk_180 0 29 (dk_at dksJ24_next_1 1 rfl rfl)
theorem dJ24_next_28 : decode cJ24_next 28 = .ok (.invokestatic 39, 3) := dk_184 0 39 (dk_at dksJ24_next_1 4 rfl rfl)
theorem dJ24_next_31 : decode cJ24_next 31 = .ok (.astore_n 2, 1) := dk_77 (dk_at dksJ24_next_1 7 rfl rfl)
theorem dJ24_next_32 : decode cJ24_next 32 = .ok (.aload_n 0, 1) := dk_42 (dk_at dksJ24_next_1 8 rfl rfl)
theorem dJ24_next_33 : decode cJ24_next 33 = .ok (.aload_n 0, 1) := dk_42 (dk_at dksJ24_next_1 9 rfl rfl)
theorem dJ24_next_34 : decode cJ24_next 34 = .ok (.aload_n 0, 1) := dk_42 (dk_at dksJ24_next_1 10 rfl rfl)
theorem dJ24_next_35 : decode cJ24_next 35 = .ok (.getfield 29, 3) := dk_180 0 29 (dk_at dksJ24_next_1 11 rfl rfl)
theorem dJ24_next_38 : decode cJ24_next 38 = .ok (.dup_x1, 1) := dk_90 (dk_at dksJ24_next_1 14 rfl rfl)
theorem dJ24_next_39 : decode cJ24_next 39 = .ok (.putfield 23, 3) := dk_181 0 23 (dk_at dksJ24_next_1 15 rfl rfl)
theorem dJ24_next_42 : decode cJ24_next 42 = .ok (.aload_n 1, 1) := dk_43 (dk_at dksJ24_next_1 18 rfl rfl)
theorem dJ24_next_43 : decode cJ24_next 43 = .ok (.arraylength, 1) := dk_190 (dk_at dksJ24_next_1 19 rfl rfl)
theorem dJ24_next_44 : decode cJ24_next 44 = .ok (.invokestatic 43, 3) := dk_184 0 43 (dk_at dksJ24_next_1 20 rfl rfl)
theorem dJ24_next_47 : decode cJ24_next 47 = .ok (.putfield 29, 3) := dk_181 0 29 (dk_at dksJ24_next_2 0 rfl rfl)
theorem dJ24_next_50 : decode cJ24_next 50 = .ok (.aload_n 0, 1) := dk_42 (dk_at dksJ24_next_2 3 rfl rfl)
theorem dJ24_next_51 : decode cJ24_next 51 = .ok (.dup, 1) := dk_89 (dk_at dksJ24_next_2 4 rfl rfl)
theorem dJ24_next_52 : decode cJ24_next 52 = .ok (.getfield 19, 3) := dk_180 0 19 (dk_at dksJ24_next_2 5 rfl rfl)
theorem dJ24_next_55 : decode cJ24_next 55 = .ok (.iconst 1, 1) := dk_4 (dk_at dksJ24_next_2 8 rfl rfl)
theorem dJ24_next_56 : decode cJ24_next 56 = .ok (.isub, 1) := dk_100 (dk_at dksJ24_next_2 9 rfl rfl)
theorem dJ24_next_57 : decode cJ24_next 57 = .ok (.putfield 19, 3) := dk_181 0 19 (dk_at dksJ24_next_2 10 rfl rfl)
theorem dJ24_next_60 : decode cJ24_next 60 = .ok (.aload_n 2, 1) := dk_44 (dk_at dksJ24_next_2 13 rfl rfl)
theorem dJ24_next_61 : decode cJ24_next 61 = .ok (.areturn, 1) := dk_176 (dk_at dksJ24_next_2 14 rfl rfl)
abbrev cJ24_init : ByteArray := prog_53_method_1_code
def yJ24_init : MethodName := ⟨RJ24, "<init>", "(Ljava/util/ArrayDeque;)V"⟩
def dkwJ24_init_1 : List UInt8 := [181, 0, 23, 42, 43, 180, 0, 26, 181, 0, 29, 177]
abbrev dktJ24_init_1 : List UInt8 := dkwJ24_init_1 ++ []
def dkwJ24_init_0 : List UInt8 := [42, 43, 181, 0, 1, 42, 183, 0, 7, 42, 42, 180, 0, 1, 182, 0, 13, 181, 0, 19, 42, 2]
abbrev dktJ24_init_0 : List UInt8 := dkwJ24_init_0 ++ dktJ24_init_1
theorem dksJ24_init_0 : cJ24_init.data.toList.drop 0 = dktJ24_init_0 := by decide +kernel
theorem dksJ24_init_1 : cJ24_init.data.toList.drop 22 = dktJ24_init_1 := dk_seg dksJ24_init_0 22 rfl rfl
theorem dJ24_init_0 : decode cJ24_init 0 = .ok (.aload_n 0, 1) := dk_42 (dk_at dksJ24_init_0 0 rfl rfl)
theorem dJ24_init_1 : decode cJ24_init 1 = .ok (.aload_n 1, 1) := dk_43 (dk_at dksJ24_init_0 1 rfl rfl)
theorem dJ24_init_2 : decode cJ24_init 2 = .ok (.putfield 1, 3) := dk_181 0 1 (dk_at dksJ24_init_0 2 rfl rfl)
theorem dJ24_init_5 : decode cJ24_init 5 = .ok (.aload_n 0, 1) := dk_42 (dk_at dksJ24_init_0 5 rfl rfl)
theorem dJ24_init_6 : decode cJ24_init 6 = .ok (.invokespecial 7, 3) := dk_183 0 7 (dk_at dksJ24_init_0 6 rfl rfl)
theorem dJ24_init_9 : decode cJ24_init 9 = .ok (.aload_n 0, 1) := dk_42 (dk_at dksJ24_init_0 9 rfl rfl)
theorem dJ24_init_10 : decode cJ24_init 10 = .ok (.aload_n 0, 1) := dk_42 (dk_at dksJ24_init_0 10 rfl rfl)
theorem dJ24_init_11 : decode cJ24_init 11 = .ok (.getfield 1, 3) := dk_180 0 1 (dk_at dksJ24_init_0 11 rfl rfl)
theorem dJ24_init_14 : decode cJ24_init 14 = .ok (.invokevirtual 13, 3) := dk_182 0 13 (dk_at dksJ24_init_0 14 rfl rfl)
theorem dJ24_init_17 : decode cJ24_init 17 = .ok (.putfield 19, 3) := dk_181 0 19 (dk_at dksJ24_init_0 17 rfl rfl)
theorem dJ24_init_20 : decode cJ24_init 20 = .ok (.aload_n 0, 1) := dk_42 (dk_at dksJ24_init_0 20 rfl rfl)
theorem dJ24_init_21 : decode cJ24_init 21 = .ok (.iconst (-1), 1) := dk_2 (dk_at dksJ24_init_0 21 rfl rfl)
theorem dJ24_init_22 : decode cJ24_init 22 = .ok (.putfield 23, 3) := dk_181 0 23 (dk_at dksJ24_init_1 0 rfl rfl)
theorem dJ24_init_25 : decode cJ24_init 25 = .ok (.aload_n 0, 1) := dk_42 (dk_at dksJ24_init_1 3 rfl rfl)
theorem dJ24_init_26 : decode cJ24_init 26 = .ok (.aload_n 1, 1) := dk_43 (dk_at dksJ24_init_1 4 rfl rfl)
theorem dJ24_init_27 : decode cJ24_init 27 = .ok (.getfield 26, 3) := dk_180 0 26 (dk_at dksJ24_init_1 5 rfl rfl)
theorem dJ24_init_30 : decode cJ24_init 30 = .ok (.putfield 29, 3) := dk_181 0 29 (dk_at dksJ24_init_1 8 rfl rfl)
theorem dJ24_init_33 : decode cJ24_init 33 = .ok (.return_, 1) := dk_177 (dk_at dksJ24_init_1 11 rfl rfl)
theorem q124 : (Jvm.Cond.initialized "java/util/ArrayDeque$DeqIterator") ∈ lw_all := lw_g (lw_at lw_m1 31 rfl) rfl
theorem q264 : (Jvm.Cond.fieldLink "java/util/ArrayDeque$DeqIterator" (35 : Nat) "java/util/ArrayDeque" "elements" "[Ljava/lang/Object;") ∈ lw_all := lw_g (lw_at lw_m1 171 rfl) rfl
theorem q265 : (Jvm.Cond.fieldLink "java/util/ArrayDeque$DeqIterator" (26 : Nat) "java/util/ArrayDeque" "head" "I") ∈ lw_all := lw_g (lw_at lw_m1 172 rfl) rfl
theorem q392 : (Jvm.Cond.castable "java/util/ArrayDeque$DeqIterator" "java/util/Iterator") ∈ lw_tbl := lw_at lw_m2 59 rfl
theorem q393 : (Jvm.Cond.selects "java/util/ArrayDeque$DeqIterator" ({ cls := "java/util/Iterator", name := "hasNext", desc := "()Z" } : Jvm.MethodName) ({ cls := "java/util/ArrayDeque$DeqIterator", name := "hasNext", desc := "()Z" } : Jvm.MethodName)) ∈ lw_all := lw_g (lw_at lw_m2 60 rfl) rfl
theorem q394 : (Jvm.Cond.unhidden "java/util/ArrayDeque$DeqIterator" "hasNext" "()Z") ∈ lw_tbl := lw_at lw_m2 61 rfl
theorem q395 : (Jvm.Cond.instanceMethod ({ cls := "java/util/ArrayDeque$DeqIterator", name := "hasNext", desc := "()Z" } : Jvm.MethodName)) ∈ lw_all := lw_g (lw_at lw_m2 62 rfl) rfl
theorem q396 : (Jvm.Cond.publicMethod ({ cls := "java/util/ArrayDeque$DeqIterator", name := "hasNext", desc := "()Z" } : Jvm.MethodName)) ∈ lw_tbl := lw_at lw_m2 63 rfl
theorem q397 : (Jvm.Cond.code ({ cls := "java/util/ArrayDeque$DeqIterator", name := "hasNext", desc := "()Z" } : Jvm.MethodName) prog_53_method_2_code (1 : Nat) (Option.some Jvm.ClassFile.FieldType.boolean)) ∈ lw_all := lw_g (lw_at lw_m2 64 rfl) rfl
theorem q424 : (Jvm.Cond.selects "java/util/ArrayDeque$DeqIterator" ({ cls := "java/util/Iterator", name := "next", desc := "()Ljava/lang/Object;" } : Jvm.MethodName) ({ cls := "java/util/ArrayDeque$DeqIterator", name := "next", desc := "()Ljava/lang/Object;" } : Jvm.MethodName)) ∈ lw_all := lw_g (lw_at lw_m2 91 rfl) rfl
theorem q425 : (Jvm.Cond.unhidden "java/util/ArrayDeque$DeqIterator" "next" "()Ljava/lang/Object;") ∈ lw_tbl := lw_at lw_m2 92 rfl
theorem q426 : (Jvm.Cond.instanceMethod ({ cls := "java/util/ArrayDeque$DeqIterator", name := "next", desc := "()Ljava/lang/Object;" } : Jvm.MethodName)) ∈ lw_all := lw_g (lw_at lw_m2 93 rfl) rfl
theorem q427 : (Jvm.Cond.publicMethod ({ cls := "java/util/ArrayDeque$DeqIterator", name := "next", desc := "()Ljava/lang/Object;" } : Jvm.MethodName)) ∈ lw_tbl := lw_at lw_m2 94 rfl
theorem q428 : (Jvm.Cond.code ({ cls := "java/util/ArrayDeque$DeqIterator", name := "next", desc := "()Ljava/lang/Object;" } : Jvm.MethodName) prog_53_method_3_code (3 : Nat) (Option.some (Jvm.ClassFile.FieldType.object "java/lang/Object"))) ∈ lw_all := lw_g (lw_at lw_m2 95 rfl) rfl
theorem q429 : (Jvm.Cond.classLink "java/util/ArrayDeque$DeqIterator" (32 : Nat) "java/util/NoSuchElementException") ∈ lw_all := lw_g (lw_at lw_m2 96 rfl) rfl
theorem q476 : (Jvm.Cond.methodLink "java/util/ArrayDeque$DeqIterator" (34 : Nat) ({ cls := "java/util/NoSuchElementException", name := "<init>", desc := "()V" } : Jvm.MethodName)) ∈ lw_all := lw_g (lw_at lw_m2 143 rfl) rfl
theorem q499 : (Jvm.Cond.methodLink "java/util/ArrayDeque$DeqIterator" (39 : Nat) ({ cls := "java/util/ArrayDeque", name := "nonNullElementAt", desc := "([Ljava/lang/Object;I)Ljava/lang/Object;" } : Jvm.MethodName)) ∈ lw_all := lw_g (lw_at lw_m2 166 rfl) rfl
theorem q502 : (Jvm.Cond.methodLink "java/util/ArrayDeque$DeqIterator" (43 : Nat) ({ cls := "java/util/ArrayDeque", name := "inc", desc := "(II)I" } : Jvm.MethodName)) ∈ lw_all := lw_g (lw_at lw_m2 169 rfl) rfl
theorem q731 : (Jvm.Cond.selects "java/util/ArrayDeque$DeqIterator" ({ cls := "java/lang/Object", name := "getClass", desc := "()Ljava/lang/Class;" } : Jvm.MethodName) ({ cls := "java/lang/Object", name := "getClass", desc := "()Ljava/lang/Class;" } : Jvm.MethodName)) ∈ lw_all := lw_g (lw_at lw_m3 158 rfl) rfl
theorem q1755 : (Jvm.Cond.instantiable "java/util/ArrayDeque$DeqIterator" (4 : Nat)) ∈ lw_all := lw_g (lw_at lw_m7 222 rfl) rfl
theorem q1757 : (Jvm.Cond.instanceMethod ({ cls := "java/util/ArrayDeque$DeqIterator", name := "<init>", desc := "(Ljava/util/ArrayDeque;)V" } : Jvm.MethodName)) ∈ lw_all := lw_g (lw_at lw_m7 224 rfl) rfl
theorem q1758 : (Jvm.Cond.code ({ cls := "java/util/ArrayDeque$DeqIterator", name := "<init>", desc := "(Ljava/util/ArrayDeque;)V" } : Jvm.MethodName) prog_53_method_1_code (2 : Nat) (Option.none : Option Jvm.ClassFile.FieldType)) ∈ lw_all := lw_g (lw_at lw_m7 225 rfl) rfl
theorem q1759 : (Jvm.Cond.methodLink "java/util/ArrayDeque$DeqIterator" (7 : Nat) ({ cls := "java/lang/Object", name := "<init>", desc := "()V" } : Jvm.MethodName)) ∈ lw_all := lw_g (lw_at lw_m7 226 rfl) rfl
theorem q1760 : (Jvm.Cond.methodLink "java/util/ArrayDeque$DeqIterator" (13 : Nat) ({ cls := "java/util/ArrayDeque", name := "size", desc := "()I" } : Jvm.MethodName)) ∈ lw_all := lw_g (lw_at lw_m7 227 rfl) rfl
theorem q1761 : (Jvm.Cond.fieldLink "java/util/ArrayDeque$DeqIterator" (29 : Nat) "java/util/ArrayDeque$DeqIterator" "cursor" "I") ∈ lw_all := lw_g (lw_at lw_m7 228 rfl) rfl
theorem q1762 : (Jvm.Cond.fieldLink "java/util/ArrayDeque$DeqIterator" (19 : Nat) "java/util/ArrayDeque$DeqIterator" "remaining" "I") ∈ lw_all := lw_g (lw_at lw_m7 229 rfl) rfl
theorem q1763 : (Jvm.Cond.fieldLink "java/util/ArrayDeque$DeqIterator" (23 : Nat) "java/util/ArrayDeque$DeqIterator" "lastRet" "I") ∈ lw_all := lw_g (lw_at lw_m7 230 rfl) rfl
theorem q1764 : (Jvm.Cond.fieldLink "java/util/ArrayDeque$DeqIterator" (1 : Nat) "java/util/ArrayDeque$DeqIterator" "this$0" "Ljava/util/ArrayDeque;") ∈ lw_all := lw_g (lw_at lw_m7 231 rfl) rfl
theorem q1765 : (Jvm.Cond.lays "java/util/ArrayDeque$DeqIterator" "java/util/ArrayDeque$DeqIterator" "cursor" "I") ∈ lw_all := lw_g (lw_at lw_m7 232 rfl) rfl
theorem q1766 : (Jvm.Cond.soleField "java/util/ArrayDeque$DeqIterator" "cursor") ∈ lw_all := lw_g (lw_at lw_m7 233 rfl) rfl
theorem q1767 : (Jvm.Cond.lays "java/util/ArrayDeque$DeqIterator" "java/util/ArrayDeque$DeqIterator" "remaining" "I") ∈ lw_all := lw_g (lw_at lw_m7 234 rfl) rfl
theorem q1768 : (Jvm.Cond.soleField "java/util/ArrayDeque$DeqIterator" "remaining") ∈ lw_all := lw_g (lw_at lw_m7 235 rfl) rfl
theorem q1769 : (Jvm.Cond.lays "java/util/ArrayDeque$DeqIterator" "java/util/ArrayDeque$DeqIterator" "lastRet" "I") ∈ lw_all := lw_g (lw_at lw_m7 236 rfl) rfl
theorem q1770 : (Jvm.Cond.soleField "java/util/ArrayDeque$DeqIterator" "lastRet") ∈ lw_all := lw_g (lw_at lw_m7 237 rfl) rfl
theorem q1771 : (Jvm.Cond.laysFinal "java/util/ArrayDeque$DeqIterator" "java/util/ArrayDeque$DeqIterator" "this$0" "Ljava/util/ArrayDeque;") ∈ lw_all := lw_g (lw_at lw_m7 238 rfl) rfl
theorem q1772 : (Jvm.Cond.soleField "java/util/ArrayDeque$DeqIterator" "this$0") ∈ lw_all := lw_g (lw_at lw_m7 239 rfl) rfl
theorem q1773 : (Jvm.Cond.superclass "java/util/ArrayDeque$DeqIterator" "java/lang/Object") ∈ lw_all := lw_g (lw_at lw_m8 0 rfl) rfl
theorem q3252 : (Jvm.Cond.castable "java/util/ArrayDeque$DeqIterator" "java/lang/Object") ∈ lw_tbl := lw_at lw_m14 39 rfl
theorem in_J24 : ∀ w ∈ wsJ240, w ∈ lw_all := lw_in wsJ240 [1765, 1767, 1769, 1771] (by decide +kernel) (by decide +kernel)
