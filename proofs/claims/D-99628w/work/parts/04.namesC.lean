/-! java/lang/Math -/
set_option maxRecDepth 100000
def RJ0 : String := "java/lang/Math"
abbrev cJ0_min : ByteArray := prog_21_method_69_code
def yJ0_min : MethodName := ⟨RJ0, "min", "(II)I"⟩
def dkwJ0_min_0 : List UInt8 := [26, 27, 163, 0, 7, 26, 167, 0, 4, 27, 172]
abbrev dktJ0_min_0 : List UInt8 := dkwJ0_min_0 ++ []
theorem dksJ0_min_0 : cJ0_min.data.toList.drop 0 = dktJ0_min_0 := by decide +kernel
theorem dJ0_min_0 : decode cJ0_min 0 = .ok (.iload_n 0, 1) := dk_26 (dk_at dksJ0_min_0 0 rfl rfl)
theorem dJ0_min_1 : decode cJ0_min 1 = .ok (.iload_n 1, 1) := dk_27 (dk_at dksJ0_min_0 1 rfl rfl)
theorem dJ0_min_2 : decode cJ0_min 2 = .ok (.if_icmp .gt 7, 3) := dk_163 0 7 (dk_at dksJ0_min_0 2 rfl rfl)
theorem dJ0_min_5 : decode cJ0_min 5 = .ok (.iload_n 0, 1) := dk_26 (dk_at dksJ0_min_0 5 rfl rfl)
theorem dJ0_min_6 : decode cJ0_min 6 = .ok (.goto 4, 3) := dk_167 0 4 (dk_at dksJ0_min_0 6 rfl rfl)
theorem dJ0_min_9 : decode cJ0_min 9 = .ok (.iload_n 1, 1) := dk_27 (dk_at dksJ0_min_0 9 rfl rfl)
theorem dJ0_min_10 : decode cJ0_min 10 = .ok (.ireturn, 1) := dk_172 (dk_at dksJ0_min_0 10 rfl rfl)
abbrev cJ0_max : ByteArray := prog_21_method_65_code
def yJ0_max : MethodName := ⟨RJ0, "max", "(II)I"⟩
def dkwJ0_max_0 : List UInt8 := [26, 27, 161, 0, 7, 26, 167, 0, 4, 27, 172]
abbrev dktJ0_max_0 : List UInt8 := dkwJ0_max_0 ++ []
theorem dksJ0_max_0 : cJ0_max.data.toList.drop 0 = dktJ0_max_0 := by decide +kernel
theorem dJ0_max_0 : decode cJ0_max 0 = .ok (.iload_n 0, 1) := dk_26 (dk_at dksJ0_max_0 0 rfl rfl)
theorem dJ0_max_1 : decode cJ0_max 1 = .ok (.iload_n 1, 1) := dk_27 (dk_at dksJ0_max_0 1 rfl rfl)
theorem dJ0_max_2 : decode cJ0_max 2 = .ok (.if_icmp .lt 7, 3) := dk_161 0 7 (dk_at dksJ0_max_0 2 rfl rfl)
theorem dJ0_max_5 : decode cJ0_max 5 = .ok (.iload_n 0, 1) := dk_26 (dk_at dksJ0_max_0 5 rfl rfl)
theorem dJ0_max_6 : decode cJ0_max 6 = .ok (.goto 4, 3) := dk_167 0 4 (dk_at dksJ0_max_0 6 rfl rfl)
theorem dJ0_max_9 : decode cJ0_max 9 = .ok (.iload_n 1, 1) := dk_27 (dk_at dksJ0_max_0 9 rfl rfl)
theorem dJ0_max_10 : decode cJ0_max 10 = .ok (.ireturn, 1) := dk_172 (dk_at dksJ0_max_0 10 rfl rfl)
abbrev cJ0_abs : ByteArray := prog_21_method_59_code
def yJ0_abs : MethodName := ⟨RJ0, "abs", "(I)I"⟩
def dkwJ0_abs_0 : List UInt8 := [26, 156, 0, 8, 26, 116, 167, 0, 4, 26, 172]
abbrev dktJ0_abs_0 : List UInt8 := dkwJ0_abs_0 ++ []
theorem dksJ0_abs_0 : cJ0_abs.data.toList.drop 0 = dktJ0_abs_0 := by decide +kernel
theorem dJ0_abs_0 : decode cJ0_abs 0 = .ok (.iload_n 0, 1) := dk_26 (dk_at dksJ0_abs_0 0 rfl rfl)
theorem dJ0_abs_1 : decode cJ0_abs 1 = .ok (.ifCond .ge 8, 3) := dk_156 0 8 (dk_at dksJ0_abs_0 1 rfl rfl)
theorem dJ0_abs_4 : decode cJ0_abs 4 = .ok (.iload_n 0, 1) := dk_26 (dk_at dksJ0_abs_0 4 rfl rfl)
theorem dJ0_abs_5 : decode cJ0_abs 5 = .ok (.ineg, 1) := dk_116 (dk_at dksJ0_abs_0 5 rfl rfl)
theorem dJ0_abs_6 : decode cJ0_abs 6 = .ok (.goto 4, 3) := dk_167 0 4 (dk_at dksJ0_abs_0 6 rfl rfl)
theorem dJ0_abs_9 : decode cJ0_abs 9 = .ok (.iload_n 0, 1) := dk_26 (dk_at dksJ0_abs_0 9 rfl rfl)
theorem dJ0_abs_10 : decode cJ0_abs 10 = .ok (.ireturn, 1) := dk_172 (dk_at dksJ0_abs_0 10 rfl rfl)
theorem q117 : (Jvm.Cond.initialized "java/lang/Math") ∈ lw_all := lw_g (lw_at lw_m1 8 rfl) rfl
theorem q358 : (Jvm.Cond.static ({ cls := "java/lang/Math", name := "min", desc := "(II)I" } : Jvm.MethodName)) ∈ lw_all := lw_g (lw_at lw_m2 9 rfl) rfl
theorem q359 : (Jvm.Cond.code ({ cls := "java/lang/Math", name := "min", desc := "(II)I" } : Jvm.MethodName) prog_21_method_69_code (2 : Nat) (Option.some Jvm.ClassFile.FieldType.int)) ∈ lw_all := lw_g (lw_at lw_m2 10 rfl) rfl
theorem q511 : (Jvm.Cond.static ({ cls := "java/lang/Math", name := "max", desc := "(II)I" } : Jvm.MethodName)) ∈ lw_all := lw_g (lw_at lw_m2 162 rfl) rfl
theorem q512 : (Jvm.Cond.code ({ cls := "java/lang/Math", name := "max", desc := "(II)I" } : Jvm.MethodName) prog_21_method_65_code (2 : Nat) (Option.some Jvm.ClassFile.FieldType.int)) ∈ lw_all := lw_g (lw_at lw_m2 163 rfl) rfl
theorem q789 : (Jvm.Cond.static ({ cls := "java/lang/Math", name := "abs", desc := "(I)I" } : Jvm.MethodName)) ∈ lw_all := lw_g (lw_at lw_m3 200 rfl) rfl
theorem q790 : (Jvm.Cond.code ({ cls := "java/lang/Math", name := "abs", desc := "(I)I" } : Jvm.MethodName) prog_21_method_59_code (1 : Nat) (Option.some Jvm.ClassFile.FieldType.int)) ∈ lw_all := lw_g (lw_at lw_m3 201 rfl) rfl

/-! java/lang/Throwable -/
set_option maxRecDepth 100000
def RJ1 : String := "java/lang/Throwable"
def TJ1 : u_T := fun k => match k with
  | 0 => ("java/lang/Throwable", "cause", "Ljava/lang/Throwable;", false)
  | 1 => ("java/lang/Throwable", "stackTrace", "[Ljava/lang/StackTraceElement;", false)
  | 2 => ("java/lang/Throwable", "suppressedExceptions", "Ljava/util/List;", false)
  | 3 => ("java/lang/Throwable", "detailMessage", "Ljava/lang/String;", false)
  | _ => ("java/lang/Throwable", "backtrace", "Ljava/lang/Object;", false)
def tyJ1 : Nat → FieldType := fun k => match k with
  | 0 => .object "java/lang/Throwable"
  | 1 => .array (.object "java/lang/StackTraceElement")
  | 2 => .object "java/util/List"
  | 3 => .object "java/lang/String"
  | _ => .object "java/lang/Object"
abbrev wsJ10 : List Cond := u_ws RJ1 TJ1 5
theorem nmJ1 : ∀ a, a < 5 → ∀ b, b < 5 → a ≠ b → (TJ1 a).2.1 ≠ (TJ1 b).2.1 := by decide +kernel
theorem tyJ1_ok : ∀ k, k < 5 → parseFieldDescriptor (TJ1 k).2.2.1 = some (tyJ1 k) := by decide +kernel
abbrev cJ1_init : ByteArray := prog_28_method_1_code
def yJ1_init : MethodName := ⟨RJ1, "<init>", "()V"⟩
def dkwJ1_init_1 : List UInt8 := [182, 0, 27, 87, 177]
abbrev dktJ1_init_1 : List UInt8 := dkwJ1_init_1 ++ []
def dkwJ1_init_0 : List UInt8 := [42, 183, 0, 1, 42, 42, 181, 0, 7, 42, 178, 0, 13, 181, 0, 17, 42, 178, 0, 20, 181, 0, 24, 42]
abbrev dktJ1_init_0 : List UInt8 := dkwJ1_init_0 ++ dktJ1_init_1
theorem dksJ1_init_0 : cJ1_init.data.toList.drop 0 = dktJ1_init_0 := by decide +kernel
theorem dksJ1_init_1 : cJ1_init.data.toList.drop 24 = dktJ1_init_1 := dk_seg dksJ1_init_0 24 rfl rfl
theorem dJ1_init_0 : decode cJ1_init 0 = .ok (.aload_n 0, 1) := dk_42 (dk_at dksJ1_init_0 0 rfl rfl)
theorem dJ1_init_1 : decode cJ1_init 1 = .ok (.invokespecial 1, 3) := dk_183 0 1 (dk_at dksJ1_init_0 1 rfl rfl)
theorem dJ1_init_4 : decode cJ1_init 4 = .ok (.aload_n 0, 1) := dk_42 (dk_at dksJ1_init_0 4 rfl rfl)
theorem dJ1_init_5 : decode cJ1_init 5 = .ok (.aload_n 0, 1) := dk_42 (dk_at dksJ1_init_0 5 rfl rfl)
theorem dJ1_init_6 : decode cJ1_init 6 = .ok (.putfield 7, 3) := dk_181 0 7 (dk_at dksJ1_init_0 6 rfl rfl)
theorem dJ1_init_9 : decode cJ1_init 9 = .ok (.aload_n 0, 1) := dk_42 (dk_at dksJ1_init_0 9 rfl rfl)
theorem dJ1_init_10 : decode cJ1_init 10 = .ok (.getstatic 13, 3) := dk_178 0 13 (dk_at dksJ1_init_0 10 rfl rfl)
theorem dJ1_init_13 : decode cJ1_init 13 = .ok (.putfield 17, 3) := dk_181 0 17 (dk_at dksJ1_init_0 13 rfl rfl)
theorem dJ1_init_16 : decode cJ1_init 16 = .ok (.aload_n 0, 1) := dk_42 (dk_at dksJ1_init_0 16 rfl rfl)
theorem dJ1_init_17 : decode cJ1_init 17 = .ok (.getstatic 20, 3) := dk_178 0 20 (dk_at dksJ1_init_0 17 rfl rfl)
theorem dJ1_init_20 : decode cJ1_init 20 = .ok (.putfield 24, 3) := dk_181 0 24 (dk_at dksJ1_init_0 20 rfl rfl)
theorem dJ1_init_23 : decode cJ1_init 23 = .ok (.aload_n 0, 1) := dk_42 (dk_at dksJ1_init_0 23 rfl rfl)
theorem dJ1_init_24 : decode cJ1_init 24 = .ok (.invokevirtual 27, 3) := dk_182 0 27 (dk_at dksJ1_init_1 0 rfl rfl)
theorem dJ1_init_27 : decode cJ1_init 27 = .ok (.pop, 1) := dk_87 (dk_at dksJ1_init_1 3 rfl rfl)
theorem dJ1_init_28 : decode cJ1_init 28 = .ok (.return_, 1) := dk_177 (dk_at dksJ1_init_1 4 rfl rfl)
abbrev cJ1_init_2 : ByteArray := prog_28_method_2_code
def yJ1_init_2 : MethodName := ⟨RJ1, "<init>", "(Ljava/lang/String;)V"⟩
def dkwJ1_init_2_1 : List UInt8 := [182, 0, 27, 87, 42, 43, 181, 0, 31, 177]
abbrev dktJ1_init_2_1 : List UInt8 := dkwJ1_init_2_1 ++ []
def dkwJ1_init_2_0 : List UInt8 := [42, 183, 0, 1, 42, 42, 181, 0, 7, 42, 178, 0, 13, 181, 0, 17, 42, 178, 0, 20, 181, 0, 24, 42]
abbrev dktJ1_init_2_0 : List UInt8 := dkwJ1_init_2_0 ++ dktJ1_init_2_1
theorem dksJ1_init_2_0 : cJ1_init_2.data.toList.drop 0 = dktJ1_init_2_0 := by decide +kernel
theorem dksJ1_init_2_1 : cJ1_init_2.data.toList.drop 24 = dktJ1_init_2_1 := dk_seg dksJ1_init_2_0 24 rfl rfl
theorem dJ1_init_2_0 : decode cJ1_init_2 0 = .ok (.aload_n 0, 1) := dk_42 (dk_at dksJ1_init_2_0 0 rfl rfl)
theorem dJ1_init_2_1 : decode cJ1_init_2 1 = .ok (.invokespecial 1, 3) := dk_183 0 1 (dk_at dksJ1_init_2_0 1 rfl rfl)
theorem dJ1_init_2_4 : decode cJ1_init_2 4 = .ok (.aload_n 0, 1) := dk_42 (dk_at dksJ1_init_2_0 4 rfl rfl)
theorem dJ1_init_2_5 : decode cJ1_init_2 5 = .ok (.aload_n 0, 1) := dk_42 (dk_at dksJ1_init_2_0 5 rfl rfl)
theorem dJ1_init_2_6 : decode cJ1_init_2 6 = .ok (.putfield 7, 3) := dk_181 0 7 (dk_at dksJ1_init_2_0 6 rfl rfl)
theorem dJ1_init_2_9 : decode cJ1_init_2 9 = .ok (.aload_n 0, 1) := dk_42 (dk_at dksJ1_init_2_0 9 rfl rfl)
theorem dJ1_init_2_10 : decode cJ1_init_2 10 = .ok (.getstatic 13, 3) := dk_178 0 13 (dk_at dksJ1_init_2_0 10 rfl rfl)
theorem dJ1_init_2_13 : decode cJ1_init_2 13 = .ok (.putfield 17, 3) := dk_181 0 17 (dk_at dksJ1_init_2_0 13 rfl rfl)
theorem dJ1_init_2_16 : decode cJ1_init_2 16 = .ok (.aload_n 0, 1) := dk_42 (dk_at dksJ1_init_2_0 16 rfl rfl)
theorem dJ1_init_2_17 : decode cJ1_init_2 17 = .ok (.getstatic 20, 3) := dk_178 0 20 (dk_at dksJ1_init_2_0 17 rfl rfl)
theorem dJ1_init_2_20 : decode cJ1_init_2 20 = .ok (.putfield 24, 3) := dk_181 0 24 (dk_at dksJ1_init_2_0 20 rfl rfl)
theorem dJ1_init_2_23 : decode cJ1_init_2 23 = .ok (.aload_n 0, 1) := dk_42 (dk_at dksJ1_init_2_0 23 rfl rfl)
theorem dJ1_init_2_24 : decode cJ1_init_2 24 = .ok (.invokevirtual 27, 3) := dk_182 0 27 (dk_at dksJ1_init_2_1 0 rfl rfl)
theorem dJ1_init_2_27 : decode cJ1_init_2 27 = .ok (.pop, 1) := dk_87 (dk_at dksJ1_init_2_1 3 rfl rfl)
theorem dJ1_init_2_28 : decode cJ1_init_2 28 = .ok (.aload_n 0, 1) := dk_42 (dk_at dksJ1_init_2_1 4 rfl rfl)
theorem dJ1_init_2_29 : decode cJ1_init_2 29 = .ok (.aload_n 1, 1) := dk_43 (dk_at dksJ1_init_2_1 5 rfl rfl)
theorem dJ1_init_2_30 : decode cJ1_init_2 30 = .ok (.putfield 31, 3) := dk_181 0 31 (dk_at dksJ1_init_2_1 6 rfl rfl)
theorem dJ1_init_2_33 : decode cJ1_init_2 33 = .ok (.return_, 1) := dk_177 (dk_at dksJ1_init_2_1 9 rfl rfl)
theorem q118 : (Jvm.Cond.initialized "java/lang/Throwable") ∈ lw_all := lw_g (lw_at lw_m1 9 rfl) rfl
theorem q408 : (Jvm.Cond.declares ({ cls := "java/lang/Throwable", name := "<init>", desc := "()V" } : Jvm.MethodName)) ∈ lw_tbl := lw_at lw_m2 59 rfl
theorem q409 : (Jvm.Cond.declares ({ cls := "java/lang/Throwable", name := "<init>", desc := "(Ljava/lang/String;)V" } : Jvm.MethodName)) ∈ lw_tbl := lw_at lw_m2 60 rfl
theorem q413 : (Jvm.Cond.lays "java/lang/Throwable" "java/lang/Throwable" "cause" "Ljava/lang/Throwable;") ∈ lw_all := lw_g (lw_at lw_m2 64 rfl) rfl
theorem q415 : (Jvm.Cond.lays "java/lang/Throwable" "java/lang/Throwable" "stackTrace" "[Ljava/lang/StackTraceElement;") ∈ lw_all := lw_g (lw_at lw_m2 66 rfl) rfl
theorem q417 : (Jvm.Cond.lays "java/lang/Throwable" "java/lang/Throwable" "suppressedExceptions" "Ljava/util/List;") ∈ lw_all := lw_g (lw_at lw_m2 68 rfl) rfl
theorem q419 : (Jvm.Cond.lays "java/lang/Throwable" "java/lang/Throwable" "detailMessage" "Ljava/lang/String;") ∈ lw_all := lw_g (lw_at lw_m2 70 rfl) rfl
theorem q421 : (Jvm.Cond.lays "java/lang/Throwable" "java/lang/Throwable" "backtrace" "Ljava/lang/Object;") ∈ lw_all := lw_g (lw_at lw_m2 72 rfl) rfl
theorem q422 : (Jvm.Cond.fieldLink "java/lang/Throwable" (198 : Nat) "java/lang/Throwable" "backtrace" "Ljava/lang/Object;") ∈ lw_all := lw_g (lw_at lw_m2 73 rfl) rfl
theorem q423 : (Jvm.Cond.superclass "java/lang/Throwable" "java/lang/Object") ∈ lw_all := lw_g (lw_at lw_m2 74 rfl) rfl
theorem q424 : (Jvm.Cond.instanceMethod ({ cls := "java/lang/Throwable", name := "<init>", desc := "()V" } : Jvm.MethodName)) ∈ lw_all := lw_g (lw_at lw_m2 75 rfl) rfl
theorem q425 : (Jvm.Cond.code ({ cls := "java/lang/Throwable", name := "<init>", desc := "()V" } : Jvm.MethodName) prog_28_method_1_code (1 : Nat) (Option.none : Option Jvm.ClassFile.FieldType)) ∈ lw_all := lw_g (lw_at lw_m2 76 rfl) rfl
theorem q426 : (Jvm.Cond.methodLink "java/lang/Throwable" (1 : Nat) ({ cls := "java/lang/Object", name := "<init>", desc := "()V" } : Jvm.MethodName)) ∈ lw_all := lw_g (lw_at lw_m2 77 rfl) rfl
theorem q427 : (Jvm.Cond.fieldLink "java/lang/Throwable" (13 : Nat) "java/lang/Throwable" "UNASSIGNED_STACK" "[Ljava/lang/StackTraceElement;") ∈ lw_all := lw_g (lw_at lw_m2 78 rfl) rfl
theorem q428 : (Jvm.Cond.laysStatic "java/lang/Throwable" "UNASSIGNED_STACK" "[Ljava/lang/StackTraceElement;") ∈ lw_tbl := lw_at lw_m2 79 rfl
theorem q429 : (Jvm.Cond.fieldLink "java/lang/Throwable" (20 : Nat) "java/lang/Throwable" "SUPPRESSED_SENTINEL" "Ljava/util/List;") ∈ lw_all := lw_g (lw_at lw_m2 80 rfl) rfl
theorem q430 : (Jvm.Cond.laysStatic "java/lang/Throwable" "SUPPRESSED_SENTINEL" "Ljava/util/List;") ∈ lw_tbl := lw_at lw_m2 81 rfl
theorem q431 : (Jvm.Cond.methodLink "java/lang/Throwable" (27 : Nat) ({ cls := "java/lang/Throwable", name := "fillInStackTrace", desc := "()Ljava/lang/Throwable;" } : Jvm.MethodName)) ∈ lw_all := lw_g (lw_at lw_m2 82 rfl) rfl
theorem q432 : (Jvm.Cond.instanceMethod ({ cls := "java/lang/Throwable", name := "fillInStackTrace", desc := "()Ljava/lang/Throwable;" } : Jvm.MethodName)) ∈ lw_all := lw_g (lw_at lw_m2 83 rfl) rfl
theorem q433 : (Jvm.Cond.sameMethod "java/lang/Throwable" "java/lang/Throwable" "fillInStackTrace" "()Ljava/lang/Throwable;") ∈ lw_all := lw_g (lw_at lw_m2 84 rfl) rfl
theorem q436 : (Jvm.Cond.codeSync ({ cls := "java/lang/Throwable", name := "fillInStackTrace", desc := "()Ljava/lang/Throwable;" } : Jvm.MethodName) prog_28_method_18_code (1 : Nat) (Option.some (Jvm.ClassFile.FieldType.object "java/lang/Throwable"))) ∈ lw_all := lw_g (lw_at lw_m2 87 rfl) rfl
theorem q437 : (Jvm.Cond.methodLink "java/lang/Throwable" (202 : Nat) ({ cls := "java/lang/Throwable", name := "fillInStackTrace", desc := "(I)Ljava/lang/Throwable;" } : Jvm.MethodName)) ∈ lw_all := lw_g (lw_at lw_m2 88 rfl) rfl
theorem q438 : (Jvm.Cond.privateMethod ({ cls := "java/lang/Throwable", name := "fillInStackTrace", desc := "(I)Ljava/lang/Throwable;" } : Jvm.MethodName)) ∈ lw_tbl := lw_at lw_m2 89 rfl
theorem q439 : (Jvm.Cond.instanceMethod ({ cls := "java/lang/Throwable", name := "fillInStackTrace", desc := "(I)Ljava/lang/Throwable;" } : Jvm.MethodName)) ∈ lw_all := lw_g (lw_at lw_m2 90 rfl) rfl
theorem q440 : (Jvm.Cond.instantiable "java/lang/Throwable" (6 : Nat)) ∈ lw_all := lw_g (lw_at lw_m2 91 rfl) rfl
theorem q441 : (Jvm.Cond.native ({ cls := "java/lang/Throwable", name := "fillInStackTrace", desc := "(I)Ljava/lang/Throwable;" } : Jvm.MethodName)) ∈ lw_all := lw_g (lw_at lw_m2 92 rfl) rfl
theorem q451 : (Jvm.Cond.fieldLink "java/lang/Throwable" (198 : Nat) "java/lang/Throwable" "backtrace" "Ljava/lang/Object;") ∈ lw_all := lw_g (lw_at lw_m2 102 rfl) rfl
theorem q452 : (Jvm.Cond.fieldLink "java/lang/Throwable" (31 : Nat) "java/lang/Throwable" "detailMessage" "Ljava/lang/String;") ∈ lw_all := lw_g (lw_at lw_m2 103 rfl) rfl
theorem q453 : (Jvm.Cond.fieldLink "java/lang/Throwable" (7 : Nat) "java/lang/Throwable" "cause" "Ljava/lang/Throwable;") ∈ lw_all := lw_g (lw_at lw_m2 104 rfl) rfl
theorem q454 : (Jvm.Cond.fieldLink "java/lang/Throwable" (17 : Nat) "java/lang/Throwable" "stackTrace" "[Ljava/lang/StackTraceElement;") ∈ lw_all := lw_g (lw_at lw_m2 105 rfl) rfl
theorem q455 : (Jvm.Cond.fieldLink "java/lang/Throwable" (24 : Nat) "java/lang/Throwable" "suppressedExceptions" "Ljava/util/List;") ∈ lw_all := lw_g (lw_at lw_m2 106 rfl) rfl
theorem q458 : (Jvm.Cond.soleField "java/lang/Throwable" "backtrace") ∈ lw_all := lw_g (lw_at lw_m2 109 rfl) rfl
theorem q459 : (Jvm.Cond.soleField "java/lang/Throwable" "detailMessage") ∈ lw_all := lw_g (lw_at lw_m2 110 rfl) rfl
theorem q460 : (Jvm.Cond.soleField "java/lang/Throwable" "cause") ∈ lw_all := lw_g (lw_at lw_m2 111 rfl) rfl
theorem q461 : (Jvm.Cond.soleField "java/lang/Throwable" "stackTrace") ∈ lw_all := lw_g (lw_at lw_m2 112 rfl) rfl
theorem q463 : (Jvm.Cond.soleField "java/lang/Throwable" "depth") ∈ lw_all := lw_g (lw_at lw_m2 114 rfl) rfl
theorem q464 : (Jvm.Cond.soleField "java/lang/Throwable" "suppressedExceptions") ∈ lw_all := lw_g (lw_at lw_m2 115 rfl) rfl
theorem q712 : (Jvm.Cond.instanceMethod ({ cls := "java/lang/Throwable", name := "<init>", desc := "(Ljava/lang/String;)V" } : Jvm.MethodName)) ∈ lw_all := lw_g (lw_at lw_m3 123 rfl) rfl
theorem q713 : (Jvm.Cond.code ({ cls := "java/lang/Throwable", name := "<init>", desc := "(Ljava/lang/String;)V" } : Jvm.MethodName) prog_28_method_2_code (2 : Nat) (Option.none : Option Jvm.ClassFile.FieldType)) ∈ lw_all := lw_g (lw_at lw_m3 124 rfl) rfl
theorem q1947 : (Jvm.Cond.sameMethod "java/lang/Throwable" "java/lang/Throwable" "fillInStackTrace" "(I)Ljava/lang/Throwable;") ∈ lw_all := lw_g (lw_at lw_m8 158 rfl) rfl
theorem q1963 : (Jvm.Cond.castable "java/lang/Throwable" "java/lang/Object") ∈ lw_tbl := lw_at lw_m8 174 rfl
theorem in_J1 : ∀ w ∈ wsJ10, w ∈ lw_all := lw_in wsJ10 [413, 415, 417, 419, 421] (by decide +kernel) (by decide +kernel)

/-! java/util/NoSuchElementException -/
set_option maxRecDepth 100000
def RJ10 : String := "java/util/NoSuchElementException"
def TJ10 : u_T := fun k => match k with
  | 0 => ("java/lang/Throwable", "cause", "Ljava/lang/Throwable;", false)
  | 1 => ("java/lang/Throwable", "stackTrace", "[Ljava/lang/StackTraceElement;", false)
  | 2 => ("java/lang/Throwable", "suppressedExceptions", "Ljava/util/List;", false)
  | 3 => ("java/lang/Throwable", "detailMessage", "Ljava/lang/String;", false)
  | 4 => ("java/lang/Throwable", "backtrace", "Ljava/lang/Object;", false)
  | _ => ("java/lang/Throwable", "depth", "I", false)
def tyJ10 : Nat → FieldType := fun k => match k with
  | 0 => .object "java/lang/Throwable"
  | 1 => .array (.object "java/lang/StackTraceElement")
  | 2 => .object "java/util/List"
  | 3 => .object "java/lang/String"
  | 4 => .object "java/lang/Object"
  | _ => .int
abbrev wsJ100 : List Cond := u_ws RJ10 TJ10 6
theorem nmJ10 : ∀ a, a < 6 → ∀ b, b < 6 → a ≠ b → (TJ10 a).2.1 ≠ (TJ10 b).2.1 := by decide +kernel
theorem tyJ10_ok : ∀ k, k < 6 → parseFieldDescriptor (TJ10 k).2.2.1 = some (tyJ10 k) := by decide +kernel
abbrev cJ10_init : ByteArray := prog_32_method_1_code
def yJ10_init : MethodName := ⟨RJ10, "<init>", "()V"⟩
theorem dJ10_init_0 : decode cJ10_init 0 = .ok (.aload_n 0, 1) := by decide +kernel
theorem dJ10_init_1 : decode cJ10_init 1 = .ok (.invokespecial 1, 3) := by decide +kernel
theorem dJ10_init_4 : decode cJ10_init 4 = .ok (.return_, 1) := by decide +kernel
theorem q129 : (Jvm.Cond.initialized "java/util/NoSuchElementException") ∈ lw_all := lw_g (lw_at lw_m1 20 rfl) rfl
theorem q435 : (Jvm.Cond.selects "java/util/NoSuchElementException" ({ cls := "java/lang/Throwable", name := "fillInStackTrace", desc := "()Ljava/lang/Throwable;" } : Jvm.MethodName) ({ cls := "java/lang/Throwable", name := "fillInStackTrace", desc := "()Ljava/lang/Throwable;" } : Jvm.MethodName)) ∈ lw_all := lw_g (lw_at lw_m2 86 rfl) rfl
theorem q1246 : (Jvm.Cond.instantiable "java/util/NoSuchElementException" (6 : Nat)) ∈ lw_all := lw_g (lw_at lw_m5 177 rfl) rfl
theorem q1247 : (Jvm.Cond.castable "java/util/NoSuchElementException" "java/util/NoSuchElementException") ∈ lw_tbl := lw_at lw_m5 178 rfl
theorem q1248 : (Jvm.Cond.selects "java/util/NoSuchElementException" ({ cls := "java/lang/Throwable", name := "fillInStackTrace", desc := "(I)Ljava/lang/Throwable;" } : Jvm.MethodName) ({ cls := "java/lang/Throwable", name := "fillInStackTrace", desc := "(I)Ljava/lang/Throwable;" } : Jvm.MethodName)) ∈ lw_all := lw_g (lw_at lw_m5 179 rfl) rfl
theorem q1249 : (Jvm.Cond.lays "java/util/NoSuchElementException" "java/lang/Throwable" "cause" "Ljava/lang/Throwable;") ∈ lw_all := lw_g (lw_at lw_m5 180 rfl) rfl
theorem q1250 : (Jvm.Cond.lays "java/util/NoSuchElementException" "java/lang/Throwable" "stackTrace" "[Ljava/lang/StackTraceElement;") ∈ lw_all := lw_g (lw_at lw_m5 181 rfl) rfl
theorem q1251 : (Jvm.Cond.lays "java/util/NoSuchElementException" "java/lang/Throwable" "suppressedExceptions" "Ljava/util/List;") ∈ lw_all := lw_g (lw_at lw_m5 182 rfl) rfl
theorem q1252 : (Jvm.Cond.lays "java/util/NoSuchElementException" "java/lang/Throwable" "detailMessage" "Ljava/lang/String;") ∈ lw_all := lw_g (lw_at lw_m5 183 rfl) rfl
theorem q1253 : (Jvm.Cond.lays "java/util/NoSuchElementException" "java/lang/Throwable" "backtrace" "Ljava/lang/Object;") ∈ lw_all := lw_g (lw_at lw_m5 184 rfl) rfl
theorem q1255 : (Jvm.Cond.instanceMethod ({ cls := "java/util/NoSuchElementException", name := "<init>", desc := "()V" } : Jvm.MethodName)) ∈ lw_all := lw_g (lw_at lw_m5 186 rfl) rfl
theorem q1256 : (Jvm.Cond.code ({ cls := "java/util/NoSuchElementException", name := "<init>", desc := "()V" } : Jvm.MethodName) prog_32_method_1_code (1 : Nat) (Option.none : Option Jvm.ClassFile.FieldType)) ∈ lw_all := lw_g (lw_at lw_m5 187 rfl) rfl
theorem q1257 : (Jvm.Cond.methodLink "java/util/NoSuchElementException" (1 : Nat) ({ cls := "java/lang/RuntimeException", name := "<init>", desc := "()V" } : Jvm.MethodName)) ∈ lw_all := lw_g (lw_at lw_m5 188 rfl) rfl
theorem q1261 : (Jvm.Cond.lays "java/util/NoSuchElementException" "java/lang/Throwable" "depth" "I") ∈ lw_all := lw_g (lw_at lw_m5 192 rfl) rfl
theorem q1262 : (Jvm.Cond.superclass "java/util/NoSuchElementException" "java/lang/RuntimeException") ∈ lw_all := lw_g (lw_at lw_m5 193 rfl) rfl
theorem q1959 : (Jvm.Cond.castable "java/util/NoSuchElementException" "java/lang/Object") ∈ lw_tbl := lw_at lw_m8 170 rfl
theorem in_J10 : ∀ w ∈ wsJ100, w ∈ lw_all := lw_in wsJ100 [1249, 1250, 1251, 1252, 1253, 1261] (by decide +kernel) (by decide +kernel)

/-! java/lang/NegativeArraySizeException -/
set_option maxRecDepth 100000
def RJ11 : String := "java/lang/NegativeArraySizeException"
def TJ11 : u_T := fun k => match k with
  | 0 => ("java/lang/Throwable", "backtrace", "Ljava/lang/Object;", false)
  | 1 => ("java/lang/Throwable", "detailMessage", "Ljava/lang/String;", false)
  | 2 => ("java/lang/Throwable", "cause", "Ljava/lang/Throwable;", false)
  | 3 => ("java/lang/Throwable", "stackTrace", "[Ljava/lang/StackTraceElement;", false)
  | 4 => ("java/lang/Throwable", "depth", "I", false)
  | _ => ("java/lang/Throwable", "suppressedExceptions", "Ljava/util/List;", false)
def tyJ11 : Nat → FieldType := fun k => match k with
  | 0 => .object "java/lang/Object"
  | 1 => .object "java/lang/String"
  | 2 => .object "java/lang/Throwable"
  | 3 => .array (.object "java/lang/StackTraceElement")
  | 4 => .int
  | _ => .object "java/util/List"
abbrev wsJ110 : List Cond := u_ws RJ11 TJ11 6
theorem nmJ11 : ∀ a, a < 6 → ∀ b, b < 6 → a ≠ b → (TJ11 a).2.1 ≠ (TJ11 b).2.1 := by decide +kernel
theorem tyJ11_ok : ∀ k, k < 6 → parseFieldDescriptor (TJ11 k).2.2.1 = some (tyJ11 k) := by decide +kernel
abbrev cJ11_init : ByteArray := prog_22_method_2_code
def yJ11_init : MethodName := ⟨RJ11, "<init>", "(Ljava/lang/String;)V"⟩
def dkwJ11_init_0 : List UInt8 := [42, 43, 183, 0, 7, 177]
abbrev dktJ11_init_0 : List UInt8 := dkwJ11_init_0 ++ []
theorem dksJ11_init_0 : cJ11_init.data.toList.drop 0 = dktJ11_init_0 := by decide +kernel
theorem dJ11_init_0 : decode cJ11_init 0 = .ok (.aload_n 0, 1) := dk_42 (dk_at dksJ11_init_0 0 rfl rfl)
theorem dJ11_init_1 : decode cJ11_init 1 = .ok (.aload_n 1, 1) := dk_43 (dk_at dksJ11_init_0 1 rfl rfl)
theorem dJ11_init_2 : decode cJ11_init 2 = .ok (.invokespecial 7, 3) := dk_183 0 7 (dk_at dksJ11_init_0 2 rfl rfl)
theorem dJ11_init_5 : decode cJ11_init 5 = .ok (.return_, 1) := dk_177 (dk_at dksJ11_init_0 5 rfl rfl)
theorem q130 : (Jvm.Cond.initialized "java/lang/NegativeArraySizeException") ∈ lw_all := lw_g (lw_at lw_m1 21 rfl) rfl
theorem q434 : (Jvm.Cond.selects "java/lang/NegativeArraySizeException" ({ cls := "java/lang/Throwable", name := "fillInStackTrace", desc := "()Ljava/lang/Throwable;" } : Jvm.MethodName) ({ cls := "java/lang/Throwable", name := "fillInStackTrace", desc := "()Ljava/lang/Throwable;" } : Jvm.MethodName)) ∈ lw_all := lw_g (lw_at lw_m2 85 rfl) rfl
theorem q702 : (Jvm.Cond.instantiable "java/lang/NegativeArraySizeException" (6 : Nat)) ∈ lw_all := lw_g (lw_at lw_m3 113 rfl) rfl
theorem q703 : (Jvm.Cond.instanceMethod ({ cls := "java/lang/NegativeArraySizeException", name := "<init>", desc := "(Ljava/lang/String;)V" } : Jvm.MethodName)) ∈ lw_all := lw_g (lw_at lw_m3 114 rfl) rfl
theorem q704 : (Jvm.Cond.code ({ cls := "java/lang/NegativeArraySizeException", name := "<init>", desc := "(Ljava/lang/String;)V" } : Jvm.MethodName) prog_22_method_2_code (2 : Nat) (Option.none : Option Jvm.ClassFile.FieldType)) ∈ lw_all := lw_g (lw_at lw_m3 115 rfl) rfl
theorem q705 : (Jvm.Cond.methodLink "java/lang/NegativeArraySizeException" (7 : Nat) ({ cls := "java/lang/RuntimeException", name := "<init>", desc := "(Ljava/lang/String;)V" } : Jvm.MethodName)) ∈ lw_all := lw_g (lw_at lw_m3 116 rfl) rfl
theorem q714 : (Jvm.Cond.lays "java/lang/NegativeArraySizeException" "java/lang/Throwable" "backtrace" "Ljava/lang/Object;") ∈ lw_all := lw_g (lw_at lw_m3 125 rfl) rfl
theorem q715 : (Jvm.Cond.lays "java/lang/NegativeArraySizeException" "java/lang/Throwable" "detailMessage" "Ljava/lang/String;") ∈ lw_all := lw_g (lw_at lw_m3 126 rfl) rfl
theorem q716 : (Jvm.Cond.lays "java/lang/NegativeArraySizeException" "java/lang/Throwable" "cause" "Ljava/lang/Throwable;") ∈ lw_all := lw_g (lw_at lw_m3 127 rfl) rfl
theorem q717 : (Jvm.Cond.lays "java/lang/NegativeArraySizeException" "java/lang/Throwable" "stackTrace" "[Ljava/lang/StackTraceElement;") ∈ lw_all := lw_g (lw_at lw_m3 128 rfl) rfl
theorem q718 : (Jvm.Cond.lays "java/lang/NegativeArraySizeException" "java/lang/Throwable" "depth" "I") ∈ lw_all := lw_g (lw_at lw_m3 129 rfl) rfl
theorem q719 : (Jvm.Cond.lays "java/lang/NegativeArraySizeException" "java/lang/Throwable" "suppressedExceptions" "Ljava/util/List;") ∈ lw_all := lw_g (lw_at lw_m3 130 rfl) rfl
theorem q720 : (Jvm.Cond.superclass "java/lang/NegativeArraySizeException" "java/lang/RuntimeException") ∈ lw_all := lw_g (lw_at lw_m3 131 rfl) rfl
theorem q721 : (Jvm.Cond.castable "java/lang/NegativeArraySizeException" "java/lang/NegativeArraySizeException") ∈ lw_tbl := lw_at lw_m3 132 rfl
theorem q724 : (Jvm.Cond.selects "java/lang/NegativeArraySizeException" ({ cls := "java/lang/Throwable", name := "fillInStackTrace", desc := "(I)Ljava/lang/Throwable;" } : Jvm.MethodName) ({ cls := "java/lang/Throwable", name := "fillInStackTrace", desc := "(I)Ljava/lang/Throwable;" } : Jvm.MethodName)) ∈ lw_all := lw_g (lw_at lw_m3 135 rfl) rfl
theorem q1960 : (Jvm.Cond.castable "java/lang/NegativeArraySizeException" "java/lang/Object") ∈ lw_tbl := lw_at lw_m8 171 rfl
theorem in_J11 : ∀ w ∈ wsJ110, w ∈ lw_all := lw_in wsJ110 [714, 715, 716, 717, 718, 719] (by decide +kernel) (by decide +kernel)

/-! java/lang/Long -/
set_option maxRecDepth 100000
def RJ12 : String := "java/lang/Long"
abbrev cJ12_bitCount : ByteArray := prog_20_method_50_code
def yJ12_bitCount : MethodName := ⟨RJ12, "bitCount", "(J)I"⟩
def dkwJ12_bitCount_2 : List UInt8 := [30, 30, 16, 32, 125, 97, 63, 30, 136, 16, 127, 126, 172]
abbrev dktJ12_bitCount_2 : List UInt8 := dkwJ12_bitCount_2 ++ []
def dkwJ12_bitCount_1 : List UInt8 := [30, 30, 7, 125, 97, 20, 1, 62, 127, 63, 30, 30, 16, 8, 125, 97, 63, 30, 30, 16, 16, 125, 97, 63]
abbrev dktJ12_bitCount_1 : List UInt8 := dkwJ12_bitCount_1 ++ dktJ12_bitCount_2
def dkwJ12_bitCount_0 : List UInt8 := [30, 30, 4, 125, 20, 1, 58, 127, 101, 63, 30, 20, 1, 60, 127, 30, 5, 125, 20, 1, 60, 127, 97, 63]
abbrev dktJ12_bitCount_0 : List UInt8 := dkwJ12_bitCount_0 ++ dktJ12_bitCount_1
theorem dksJ12_bitCount_0 : cJ12_bitCount.data.toList.drop 0 = dktJ12_bitCount_0 := by decide +kernel
theorem dksJ12_bitCount_1 : cJ12_bitCount.data.toList.drop 24 = dktJ12_bitCount_1 := dk_seg dksJ12_bitCount_0 24 rfl rfl
theorem dksJ12_bitCount_2 : cJ12_bitCount.data.toList.drop 48 = dktJ12_bitCount_2 := dk_seg dksJ12_bitCount_1 24 rfl rfl
theorem dJ12_bitCount_0 : decode cJ12_bitCount 0 = .ok (.lload_n 0, 1) := dk_30 (dk_at dksJ12_bitCount_0 0 rfl rfl)
theorem dJ12_bitCount_1 : decode cJ12_bitCount 1 = .ok (.lload_n 0, 1) := dk_30 (dk_at dksJ12_bitCount_0 1 rfl rfl)
theorem dJ12_bitCount_2 : decode cJ12_bitCount 2 = .ok (.iconst 1, 1) := dk_4 (dk_at dksJ12_bitCount_0 2 rfl rfl)
theorem dJ12_bitCount_3 : decode cJ12_bitCount 3 = .ok (.lushr, 1) := dk_125 (dk_at dksJ12_bitCount_0 3 rfl rfl)
theorem dJ12_bitCount_4 : decode cJ12_bitCount 4 = .ok (.ldc2_w 314, 3) := dk_20 1 58 (dk_at dksJ12_bitCount_0 4 rfl rfl)
theorem dJ12_bitCount_7 : decode cJ12_bitCount 7 = .ok (.land, 1) := dk_127 (dk_at dksJ12_bitCount_0 7 rfl rfl)
theorem dJ12_bitCount_8 : decode cJ12_bitCount 8 = .ok (.lsub, 1) := dk_101 (dk_at dksJ12_bitCount_0 8 rfl rfl)
theorem dJ12_bitCount_9 : decode cJ12_bitCount 9 = .ok (.lstore_n 0, 1) := dk_63 (dk_at dksJ12_bitCount_0 9 rfl rfl)
theorem dJ12_bitCount_10 : decode cJ12_bitCount 10 = .ok (.lload_n 0, 1) := dk_30 (dk_at dksJ12_bitCount_0 10 rfl rfl)
theorem dJ12_bitCount_11 : decode cJ12_bitCount 11 = .ok (.ldc2_w 316, 3) := dk_20 1 60 (dk_at dksJ12_bitCount_0 11 rfl rfl)
theorem dJ12_bitCount_14 : decode cJ12_bitCount 14 = .ok (.land, 1) := dk_127 (dk_at dksJ12_bitCount_0 14 rfl rfl)
theorem dJ12_bitCount_15 : decode cJ12_bitCount 15 = .ok (.lload_n 0, 1) := dk_30 (dk_at dksJ12_bitCount_0 15 rfl rfl)
theorem dJ12_bitCount_16 : decode cJ12_bitCount 16 = .ok (.iconst 2, 1) := dk_5 (dk_at dksJ12_bitCount_0 16 rfl rfl)
theorem dJ12_bitCount_17 : decode cJ12_bitCount 17 = .ok (.lushr, 1) := dk_125 (dk_at dksJ12_bitCount_0 17 rfl rfl)
theorem dJ12_bitCount_18 : decode cJ12_bitCount 18 = .ok (.ldc2_w 316, 3) := dk_20 1 60 (dk_at dksJ12_bitCount_0 18 rfl rfl)
theorem dJ12_bitCount_21 : decode cJ12_bitCount 21 = .ok (.land, 1) := dk_127 (dk_at dksJ12_bitCount_0 21 rfl rfl)
theorem dJ12_bitCount_22 : decode cJ12_bitCount 22 = .ok (.ladd, 1) := dk_97 (dk_at dksJ12_bitCount_0 22 rfl rfl)
theorem dJ12_bitCount_23 : decode cJ12_bitCount 23 = .ok (.lstore_n 0, 1) := dk_63 (dk_at dksJ12_bitCount_0 23 rfl rfl)
theorem dJ12_bitCount_24 : decode cJ12_bitCount 24 = .ok (.lload_n 0, 1) := dk_30 (dk_at dksJ12_bitCount_1 0 rfl rfl)
theorem dJ12_bitCount_25 : decode cJ12_bitCount 25 = .ok (.lload_n 0, 1) := dk_30 (dk_at dksJ12_bitCount_1 1 rfl rfl)
theorem dJ12_bitCount_26 : decode cJ12_bitCount 26 = .ok (.iconst 4, 1) := dk_7 (dk_at dksJ12_bitCount_1 2 rfl rfl)
theorem dJ12_bitCount_27 : decode cJ12_bitCount 27 = .ok (.lushr, 1) := dk_125 (dk_at dksJ12_bitCount_1 3 rfl rfl)
theorem dJ12_bitCount_28 : decode cJ12_bitCount 28 = .ok (.ladd, 1) := dk_97 (dk_at dksJ12_bitCount_1 4 rfl rfl)
theorem dJ12_bitCount_29 : decode cJ12_bitCount 29 = .ok (.ldc2_w 318, 3) := dk_20 1 62 (dk_at dksJ12_bitCount_1 5 rfl rfl)
theorem dJ12_bitCount_32 : decode cJ12_bitCount 32 = .ok (.land, 1) := dk_127 (dk_at dksJ12_bitCount_1 8 rfl rfl)
theorem dJ12_bitCount_33 : decode cJ12_bitCount 33 = .ok (.lstore_n 0, 1) := dk_63 (dk_at dksJ12_bitCount_1 9 rfl rfl)
theorem dJ12_bitCount_34 : decode cJ12_bitCount 34 = .ok (.lload_n 0, 1) := dk_30 (dk_at dksJ12_bitCount_1 10 rfl rfl)
theorem dJ12_bitCount_35 : decode cJ12_bitCount 35 = .ok (.lload_n 0, 1) := dk_30 (dk_at dksJ12_bitCount_1 11 rfl rfl)
theorem dJ12_bitCount_36 : decode cJ12_bitCount 36 = .ok (.bipush 8, 2) := dk_16 8 (dk_at dksJ12_bitCount_1 12 rfl rfl)
theorem dJ12_bitCount_38 : decode cJ12_bitCount 38 = .ok (.lushr, 1) := dk_125 (dk_at dksJ12_bitCount_1 14 rfl rfl)
theorem dJ12_bitCount_39 : decode cJ12_bitCount 39 = .ok (.ladd, 1) := dk_97 (dk_at dksJ12_bitCount_1 15 rfl rfl)
theorem dJ12_bitCount_40 : decode cJ12_bitCount 40 = .ok (.lstore_n 0, 1) := dk_63 (dk_at dksJ12_bitCount_1 16 rfl rfl)
theorem dJ12_bitCount_41 : decode cJ12_bitCount 41 = .ok (.lload_n 0, 1) := dk_30 (dk_at dksJ12_bitCount_1 17 rfl rfl)
theorem dJ12_bitCount_42 : decode cJ12_bitCount 42 = .ok (.lload_n 0, 1) := dk_30 (dk_at dksJ12_bitCount_1 18 rfl rfl)
theorem dJ12_bitCount_43 : decode cJ12_bitCount 43 = .ok (.bipush 16, 2) := dk_16 16 (dk_at dksJ12_bitCount_1 19 rfl rfl)
theorem dJ12_bitCount_45 : decode cJ12_bitCount 45 = .ok (.lushr, 1) := dk_125 (dk_at dksJ12_bitCount_1 21 rfl rfl)
theorem dJ12_bitCount_46 : decode cJ12_bitCount 46 = .ok (.ladd, 1) := dk_97 (dk_at dksJ12_bitCount_1 22 rfl rfl)
theorem dJ12_bitCount_47 : decode cJ12_bitCount 47 = .ok (.lstore_n 0, 1) := dk_63 (dk_at dksJ12_bitCount_1 23 rfl rfl)
theorem dJ12_bitCount_48 : decode cJ12_bitCount 48 = .ok (.lload_n 0, 1) := dk_30 (dk_at dksJ12_bitCount_2 0 rfl rfl)
theorem dJ12_bitCount_49 : decode cJ12_bitCount 49 = .ok (.lload_n 0, 1) := dk_30 (dk_at dksJ12_bitCount_2 1 rfl rfl)
theorem dJ12_bitCount_50 : decode cJ12_bitCount 50 = .ok (.bipush 32, 2) := dk_16 32 (dk_at dksJ12_bitCount_2 2 rfl rfl)
theorem dJ12_bitCount_52 : decode cJ12_bitCount 52 = .ok (.lushr, 1) := dk_125 (dk_at dksJ12_bitCount_2 4 rfl rfl)
theorem dJ12_bitCount_53 : decode cJ12_bitCount 53 = .ok (.ladd, 1) := dk_97 (dk_at dksJ12_bitCount_2 5 rfl rfl)
theorem dJ12_bitCount_54 : decode cJ12_bitCount 54 = .ok (.lstore_n 0, 1) := dk_63 (dk_at dksJ12_bitCount_2 6 rfl rfl)
theorem dJ12_bitCount_55 : decode cJ12_bitCount 55 = .ok (.lload_n 0, 1) := dk_30 (dk_at dksJ12_bitCount_2 7 rfl rfl)
theorem dJ12_bitCount_56 : decode cJ12_bitCount 56 = .ok (.l2i, 1) := dk_136 (dk_at dksJ12_bitCount_2 8 rfl rfl)
theorem dJ12_bitCount_57 : decode cJ12_bitCount 57 = .ok (.bipush 127, 2) := dk_16 127 (dk_at dksJ12_bitCount_2 9 rfl rfl)
theorem dJ12_bitCount_59 : decode cJ12_bitCount 59 = .ok (.iand, 1) := dk_126 (dk_at dksJ12_bitCount_2 11 rfl rfl)
theorem dJ12_bitCount_60 : decode cJ12_bitCount 60 = .ok (.ireturn, 1) := dk_172 (dk_at dksJ12_bitCount_2 12 rfl rfl)
theorem q133 : (Jvm.Cond.initialized "java/lang/Long") ∈ lw_all := lw_g (lw_at lw_m1 24 rfl) rfl
theorem q1003 : (Jvm.Cond.static ({ cls := "java/lang/Long", name := "bitCount", desc := "(J)I" } : Jvm.MethodName)) ∈ lw_all := lw_g (lw_at lw_m4 174 rfl) rfl
theorem q1004 : (Jvm.Cond.code ({ cls := "java/lang/Long", name := "bitCount", desc := "(J)I" } : Jvm.MethodName) prog_20_method_50_code (2 : Nat) (Option.some Jvm.ClassFile.FieldType.int)) ∈ lw_all := lw_g (lw_at lw_m4 175 rfl) rfl
theorem q1005 : (Jvm.Cond.constantLong "java/lang/Long" (314 : Nat) (6148914691236517205 : Int64)) ∈ lw_all := lw_g (lw_at lw_m4 176 rfl) rfl
theorem q1006 : (Jvm.Cond.constantLong "java/lang/Long" (316 : Nat) (3689348814741910323 : Int64)) ∈ lw_all := lw_g (lw_at lw_m4 177 rfl) rfl
theorem q1007 : (Jvm.Cond.constantLong "java/lang/Long" (318 : Nat) (1085102592571150095 : Int64)) ∈ lw_all := lw_g (lw_at lw_m4 178 rfl) rfl

/-! java/util/Arrays -/
set_option maxRecDepth 100000
def RJ13 : String := "java/util/Arrays"
abbrev cJ13_fill : ByteArray := prog_31_method_103_code
def yJ13_fill : MethodName := ⟨RJ13, "fill", "([II)V"⟩
def dkwJ13_fill_0 : List UInt8 := [3, 61, 42, 190, 62, 28, 29, 162, 0, 13, 42, 28, 27, 79, 132, 2, 1, 167, 255, 244, 177]
abbrev dktJ13_fill_0 : List UInt8 := dkwJ13_fill_0 ++ []
theorem dksJ13_fill_0 : cJ13_fill.data.toList.drop 0 = dktJ13_fill_0 := by decide +kernel
theorem dJ13_fill_0 : decode cJ13_fill 0 = .ok (.iconst 0, 1) := dk_3 (dk_at dksJ13_fill_0 0 rfl rfl)
theorem dJ13_fill_1 : decode cJ13_fill 1 = .ok (.istore_n 2, 1) := dk_61 (dk_at dksJ13_fill_0 1 rfl rfl)
theorem dJ13_fill_2 : decode cJ13_fill 2 = .ok (.aload_n 0, 1) := dk_42 (dk_at dksJ13_fill_0 2 rfl rfl)
theorem dJ13_fill_3 : decode cJ13_fill 3 = .ok (.arraylength, 1) := dk_190 (dk_at dksJ13_fill_0 3 rfl rfl)
theorem dJ13_fill_4 : decode cJ13_fill 4 = .ok (.istore_n 3, 1) := dk_62 (dk_at dksJ13_fill_0 4 rfl rfl)
theorem dJ13_fill_5 : decode cJ13_fill 5 = .ok (.iload_n 2, 1) := dk_28 (dk_at dksJ13_fill_0 5 rfl rfl)
theorem dJ13_fill_6 : decode cJ13_fill 6 = .ok (.iload_n 3, 1) := dk_29 (dk_at dksJ13_fill_0 6 rfl rfl)
theorem dJ13_fill_7 : decode cJ13_fill 7 = .ok (.if_icmp .ge 13, 3) := dk_162 0 13 (dk_at dksJ13_fill_0 7 rfl rfl)
theorem dJ13_fill_10 : decode cJ13_fill 10 = .ok (.aload_n 0, 1) := dk_42 (dk_at dksJ13_fill_0 10 rfl rfl)
theorem dJ13_fill_11 : decode cJ13_fill 11 = .ok (.iload_n 2, 1) := dk_28 (dk_at dksJ13_fill_0 11 rfl rfl)
theorem dJ13_fill_12 : decode cJ13_fill 12 = .ok (.iload_n 1, 1) := dk_27 (dk_at dksJ13_fill_0 12 rfl rfl)
theorem dJ13_fill_13 : decode cJ13_fill 13 = .ok (.iastore, 1) := dk_79 (dk_at dksJ13_fill_0 13 rfl rfl)
theorem dJ13_fill_14 : decode cJ13_fill 14 = .ok (.iinc 2 1, 3) := dk_132 2 1 (dk_at dksJ13_fill_0 14 rfl rfl)
theorem dJ13_fill_17 : decode cJ13_fill 17 = .ok (.goto (-12), 3) := dk_167 255 244 (dk_at dksJ13_fill_0 17 rfl rfl)
theorem dJ13_fill_20 : decode cJ13_fill 20 = .ok (.return_, 1) := dk_177 (dk_at dksJ13_fill_0 20 rfl rfl)
theorem q134 : (Jvm.Cond.initialized "java/util/Arrays") ∈ lw_all := lw_g (lw_at lw_m1 25 rfl) rfl
theorem q1136 : (Jvm.Cond.static ({ cls := "java/util/Arrays", name := "fill", desc := "([II)V" } : Jvm.MethodName)) ∈ lw_all := lw_g (lw_at lw_m5 67 rfl) rfl
theorem q1137 : (Jvm.Cond.code ({ cls := "java/util/Arrays", name := "fill", desc := "([II)V" } : Jvm.MethodName) prog_31_method_103_code (4 : Nat) (Option.none : Option Jvm.ClassFile.FieldType)) ∈ lw_all := lw_g (lw_at lw_m5 68 rfl) rfl

/-! java/lang/Object -/
set_option maxRecDepth 100000
def RJ14 : String := "java/lang/Object"
abbrev cJ14_init : ByteArray := object_method_1_code
def yJ14_init : MethodName := ⟨RJ14, "<init>", "()V"⟩
theorem dJ14_init_0 : decode cJ14_init 0 = .ok (.return_, 1) := by decide +kernel
theorem q142 : (Jvm.Cond.instanceMethod ({ cls := "java/lang/Object", name := "<init>", desc := "()V" } : Jvm.MethodName)) ∈ lw_all := lw_g (lw_at lw_m1 33 rfl) rfl
theorem q143 : (Jvm.Cond.code ({ cls := "java/lang/Object", name := "<init>", desc := "()V" } : Jvm.MethodName) object_method_1_code (1 : Nat) (Option.none : Option Jvm.ClassFile.FieldType)) ∈ lw_all := lw_g (lw_at lw_m1 34 rfl) rfl
theorem q520 : (Jvm.Cond.native ({ cls := "java/lang/Object", name := "clone", desc := "()Ljava/lang/Object;" } : Jvm.MethodName)) ∈ lw_all := lw_g (lw_at lw_m2 171 rfl) rfl
theorem q521 : (Jvm.Cond.instanceMethod ({ cls := "java/lang/Object", name := "clone", desc := "()Ljava/lang/Object;" } : Jvm.MethodName)) ∈ lw_all := lw_g (lw_at lw_m2 172 rfl) rfl
theorem q1949 : (Jvm.Cond.initialized "java/lang/Object") ∈ lw_all := lw_g (lw_at lw_m8 160 rfl) rfl

/-! java/lang/Exception -/
set_option maxRecDepth 100000
def RJ2 : String := "java/lang/Exception"
abbrev cJ2_init : ByteArray := prog_18_method_1_code
def yJ2_init : MethodName := ⟨RJ2, "<init>", "()V"⟩
theorem dJ2_init_0 : decode cJ2_init 0 = .ok (.aload_n 0, 1) := by decide +kernel
theorem dJ2_init_1 : decode cJ2_init 1 = .ok (.invokespecial 1, 3) := by decide +kernel
theorem dJ2_init_4 : decode cJ2_init 4 = .ok (.return_, 1) := by decide +kernel
abbrev cJ2_init_2 : ByteArray := prog_18_method_2_code
def yJ2_init_2 : MethodName := ⟨RJ2, "<init>", "(Ljava/lang/String;)V"⟩
def dkwJ2_init_2_0 : List UInt8 := [42, 43, 183, 0, 7, 177]
abbrev dktJ2_init_2_0 : List UInt8 := dkwJ2_init_2_0 ++ []
theorem dksJ2_init_2_0 : cJ2_init_2.data.toList.drop 0 = dktJ2_init_2_0 := by decide +kernel
theorem dJ2_init_2_0 : decode cJ2_init_2 0 = .ok (.aload_n 0, 1) := dk_42 (dk_at dksJ2_init_2_0 0 rfl rfl)
theorem dJ2_init_2_1 : decode cJ2_init_2 1 = .ok (.aload_n 1, 1) := dk_43 (dk_at dksJ2_init_2_0 1 rfl rfl)
theorem dJ2_init_2_2 : decode cJ2_init_2 2 = .ok (.invokespecial 7, 3) := dk_183 0 7 (dk_at dksJ2_init_2_0 2 rfl rfl)
theorem dJ2_init_2_5 : decode cJ2_init_2 5 = .ok (.return_, 1) := dk_177 (dk_at dksJ2_init_2_0 5 rfl rfl)
theorem q119 : (Jvm.Cond.initialized "java/lang/Exception") ∈ lw_all := lw_g (lw_at lw_m1 10 rfl) rfl
theorem q406 : (Jvm.Cond.declares ({ cls := "java/lang/Exception", name := "<init>", desc := "()V" } : Jvm.MethodName)) ∈ lw_tbl := lw_at lw_m2 57 rfl
theorem q407 : (Jvm.Cond.declares ({ cls := "java/lang/Exception", name := "<init>", desc := "(Ljava/lang/String;)V" } : Jvm.MethodName)) ∈ lw_tbl := lw_at lw_m2 58 rfl
theorem q446 : (Jvm.Cond.instanceMethod ({ cls := "java/lang/Exception", name := "<init>", desc := "()V" } : Jvm.MethodName)) ∈ lw_all := lw_g (lw_at lw_m2 97 rfl) rfl
theorem q447 : (Jvm.Cond.code ({ cls := "java/lang/Exception", name := "<init>", desc := "()V" } : Jvm.MethodName) prog_18_method_1_code (1 : Nat) (Option.none : Option Jvm.ClassFile.FieldType)) ∈ lw_all := lw_g (lw_at lw_m2 98 rfl) rfl
theorem q448 : (Jvm.Cond.methodLink "java/lang/Exception" (1 : Nat) ({ cls := "java/lang/Throwable", name := "<init>", desc := "()V" } : Jvm.MethodName)) ∈ lw_all := lw_g (lw_at lw_m2 99 rfl) rfl
theorem q709 : (Jvm.Cond.instanceMethod ({ cls := "java/lang/Exception", name := "<init>", desc := "(Ljava/lang/String;)V" } : Jvm.MethodName)) ∈ lw_all := lw_g (lw_at lw_m3 120 rfl) rfl
theorem q710 : (Jvm.Cond.code ({ cls := "java/lang/Exception", name := "<init>", desc := "(Ljava/lang/String;)V" } : Jvm.MethodName) prog_18_method_2_code (2 : Nat) (Option.none : Option Jvm.ClassFile.FieldType)) ∈ lw_all := lw_g (lw_at lw_m3 121 rfl) rfl
theorem q711 : (Jvm.Cond.methodLink "java/lang/Exception" (7 : Nat) ({ cls := "java/lang/Throwable", name := "<init>", desc := "(Ljava/lang/String;)V" } : Jvm.MethodName)) ∈ lw_all := lw_g (lw_at lw_m3 122 rfl) rfl

/-! java/lang/String -/
set_option maxRecDepth 100000
def RJ3 : String := "java/lang/String"
def TJ3 : u_T := fun k => match k with
  | 0 => ("java/lang/String", "value", "[B", true)
  | _ => ("java/lang/String", "coder", "B", true)
def tyJ3 : Nat → FieldType := fun k => match k with
  | 0 => .array .byte
  | _ => .byte
abbrev wsJ30 : List Cond := u_ws RJ3 TJ3 2
theorem nmJ3 : ∀ a, a < 2 → ∀ b, b < 2 → a ≠ b → (TJ3 a).2.1 ≠ (TJ3 b).2.1 := by decide +kernel
theorem tyJ3_ok : ∀ k, k < 2 → parseFieldDescriptor (TJ3 k).2.2.1 = some (tyJ3 k) := by decide +kernel
abbrev cJ3_indexOf : ByteArray := prog_24_method_79_code
def yJ3_indexOf : MethodName := ⟨RJ3, "indexOf", "(I)I"⟩
def dkwJ3_indexOf_0 : List UInt8 := [42, 27, 3, 182, 2, 121, 172]
abbrev dktJ3_indexOf_0 : List UInt8 := dkwJ3_indexOf_0 ++ []
theorem dksJ3_indexOf_0 : cJ3_indexOf.data.toList.drop 0 = dktJ3_indexOf_0 := by decide +kernel
theorem dJ3_indexOf_0 : decode cJ3_indexOf 0 = .ok (.aload_n 0, 1) := dk_42 (dk_at dksJ3_indexOf_0 0 rfl rfl)
theorem dJ3_indexOf_1 : decode cJ3_indexOf 1 = .ok (.iload_n 1, 1) := dk_27 (dk_at dksJ3_indexOf_0 1 rfl rfl)
theorem dJ3_indexOf_2 : decode cJ3_indexOf 2 = .ok (.iconst 0, 1) := dk_3 (dk_at dksJ3_indexOf_0 2 rfl rfl)
theorem dJ3_indexOf_3 : decode cJ3_indexOf 3 = .ok (.invokevirtual 633, 3) := dk_182 2 121 (dk_at dksJ3_indexOf_0 3 rfl rfl)
theorem dJ3_indexOf_6 : decode cJ3_indexOf 6 = .ok (.ireturn, 1) := dk_172 (dk_at dksJ3_indexOf_0 6 rfl rfl)
abbrev cJ3_indexOf_2 : ByteArray := prog_24_method_80_code
def yJ3_indexOf_2 : MethodName := ⟨RJ3, "indexOf", "(II)I"⟩
def dkwJ3_indexOf_2_1 : List UInt8 := [180, 0, 9, 27, 28, 42, 182, 1, 249, 184, 2, 128, 172]
abbrev dktJ3_indexOf_2_1 : List UInt8 := dkwJ3_indexOf_2_1 ++ []
def dkwJ3_indexOf_2_0 : List UInt8 := [42, 182, 1, 236, 153, 0, 19, 42, 180, 0, 9, 27, 28, 42, 182, 1, 249, 184, 2, 125, 167, 0, 16, 42]
abbrev dktJ3_indexOf_2_0 : List UInt8 := dkwJ3_indexOf_2_0 ++ dktJ3_indexOf_2_1
theorem dksJ3_indexOf_2_0 : cJ3_indexOf_2.data.toList.drop 0 = dktJ3_indexOf_2_0 := by decide +kernel
theorem dksJ3_indexOf_2_1 : cJ3_indexOf_2.data.toList.drop 24 = dktJ3_indexOf_2_1 := dk_seg dksJ3_indexOf_2_0 24 rfl rfl
theorem dJ3_indexOf_2_0 : decode cJ3_indexOf_2 0 = .ok (.aload_n 0, 1) := dk_42 (dk_at dksJ3_indexOf_2_0 0 rfl rfl)
theorem dJ3_indexOf_2_1 : decode cJ3_indexOf_2 1 = .ok (.invokevirtual 492, 3) := dk_182 1 236 (dk_at dksJ3_indexOf_2_0 1 rfl rfl)
theorem dJ3_indexOf_2_4 : decode cJ3_indexOf_2 4 = .ok (.ifCond .eq 19, 3) := dk_153 0 19 (dk_at dksJ3_indexOf_2_0 4 rfl rfl)
theorem dJ3_indexOf_2_7 : decode cJ3_indexOf_2 7 = .ok (.aload_n 0, 1) := dk_42 (dk_at dksJ3_indexOf_2_0 7 rfl rfl)
theorem dJ3_indexOf_2_8 : decode cJ3_indexOf_2 8 = .ok (.getfield 9, 3) := dk_180 0 9 (dk_at dksJ3_indexOf_2_0 8 rfl rfl)
theorem dJ3_indexOf_2_11 : decode cJ3_indexOf_2 11 = .ok (.iload_n 1, 1) := dk_27 (dk_at dksJ3_indexOf_2_0 11 rfl rfl)
theorem dJ3_indexOf_2_12 : decode cJ3_indexOf_2 12 = .ok (.iload_n 2, 1) := dk_28 (dk_at dksJ3_indexOf_2_0 12 rfl rfl)
theorem dJ3_indexOf_2_13 : decode cJ3_indexOf_2 13 = .ok (.aload_n 0, 1) := dk_42 (dk_at dksJ3_indexOf_2_0 13 rfl rfl)
theorem dJ3_indexOf_2_14 : decode cJ3_indexOf_2 14 = .ok (.invokevirtual 505, 3) := dk_182 1 249 (dk_at dksJ3_indexOf_2_0 14 rfl rfl)
theorem dJ3_indexOf_2_17 : decode cJ3_indexOf_2 17 = .ok (.invokestatic 637, 3) := dk_184 2 125 (dk_at dksJ3_indexOf_2_0 17 rfl rfl)
theorem dJ3_indexOf_2_20 : decode cJ3_indexOf_2 20 = .ok (.goto 16, 3) := dk_167 0 16 (dk_at dksJ3_indexOf_2_0 20 rfl rfl)
theorem dJ3_indexOf_2_23 : decode cJ3_indexOf_2 23 = .ok (.aload_n 0, 1) := dk_42 (dk_at dksJ3_indexOf_2_0 23 rfl rfl)
theorem dJ3_indexOf_2_24 : decode cJ3_indexOf_2 24 = .ok (.getfield 9, 3) := dk_180 0 9 (dk_at dksJ3_indexOf_2_1 0 rfl rfl)
theorem dJ3_indexOf_2_27 : decode cJ3_indexOf_2 27 = .ok (.iload_n 1, 1) := dk_27 (dk_at dksJ3_indexOf_2_1 3 rfl rfl)
theorem dJ3_indexOf_2_28 : decode cJ3_indexOf_2 28 = .ok (.iload_n 2, 1) := dk_28 (dk_at dksJ3_indexOf_2_1 4 rfl rfl)
theorem dJ3_indexOf_2_29 : decode cJ3_indexOf_2 29 = .ok (.aload_n 0, 1) := dk_42 (dk_at dksJ3_indexOf_2_1 5 rfl rfl)
theorem dJ3_indexOf_2_30 : decode cJ3_indexOf_2 30 = .ok (.invokevirtual 505, 3) := dk_182 1 249 (dk_at dksJ3_indexOf_2_1 6 rfl rfl)
theorem dJ3_indexOf_2_33 : decode cJ3_indexOf_2 33 = .ok (.invokestatic 640, 3) := dk_184 2 128 (dk_at dksJ3_indexOf_2_1 9 rfl rfl)
theorem dJ3_indexOf_2_36 : decode cJ3_indexOf_2 36 = .ok (.ireturn, 1) := dk_172 (dk_at dksJ3_indexOf_2_1 12 rfl rfl)
abbrev cJ3_isLatin1 : ByteArray := prog_24_method_154_code
def yJ3_isLatin1 : MethodName := ⟨RJ3, "isLatin1", "()Z"⟩
def dkwJ3_isLatin1_0 : List UInt8 := [178, 0, 38, 153, 0, 14, 42, 180, 0, 15, 154, 0, 7, 4, 167, 0, 4, 3, 172]
abbrev dktJ3_isLatin1_0 : List UInt8 := dkwJ3_isLatin1_0 ++ []
theorem dksJ3_isLatin1_0 : cJ3_isLatin1.data.toList.drop 0 = dktJ3_isLatin1_0 := by decide +kernel
theorem dJ3_isLatin1_0 : decode cJ3_isLatin1 0 = .ok (.getstatic 38, 3) := dk_178 0 38 (dk_at dksJ3_isLatin1_0 0 rfl rfl)
theorem dJ3_isLatin1_3 : decode cJ3_isLatin1 3 = .ok (.ifCond .eq 14, 3) := dk_153 0 14 (dk_at dksJ3_isLatin1_0 3 rfl rfl)
theorem dJ3_isLatin1_6 : decode cJ3_isLatin1 6 = .ok (.aload_n 0, 1) := dk_42 (dk_at dksJ3_isLatin1_0 6 rfl rfl)
theorem dJ3_isLatin1_7 : decode cJ3_isLatin1 7 = .ok (.getfield 15, 3) := dk_180 0 15 (dk_at dksJ3_isLatin1_0 7 rfl rfl)
theorem dJ3_isLatin1_10 : decode cJ3_isLatin1 10 = .ok (.ifCond .ne 7, 3) := dk_154 0 7 (dk_at dksJ3_isLatin1_0 10 rfl rfl)
theorem dJ3_isLatin1_13 : decode cJ3_isLatin1 13 = .ok (.iconst 1, 1) := dk_4 (dk_at dksJ3_isLatin1_0 13 rfl rfl)
theorem dJ3_isLatin1_14 : decode cJ3_isLatin1 14 = .ok (.goto 4, 3) := dk_167 0 4 (dk_at dksJ3_isLatin1_0 14 rfl rfl)
theorem dJ3_isLatin1_17 : decode cJ3_isLatin1 17 = .ok (.iconst 0, 1) := dk_3 (dk_at dksJ3_isLatin1_0 17 rfl rfl)
theorem dJ3_isLatin1_18 : decode cJ3_isLatin1 18 = .ok (.ireturn, 1) := dk_172 (dk_at dksJ3_isLatin1_0 18 rfl rfl)
abbrev cJ3_length : ByteArray := prog_24_method_54_code
def yJ3_length : MethodName := ⟨RJ3, "length", "()I"⟩
def dkwJ3_length_0 : List UInt8 := [42, 180, 0, 9, 190, 42, 182, 1, 79, 122, 172]
abbrev dktJ3_length_0 : List UInt8 := dkwJ3_length_0 ++ []
theorem dksJ3_length_0 : cJ3_length.data.toList.drop 0 = dktJ3_length_0 := by decide +kernel
theorem dJ3_length_0 : decode cJ3_length 0 = .ok (.aload_n 0, 1) := dk_42 (dk_at dksJ3_length_0 0 rfl rfl)
theorem dJ3_length_1 : decode cJ3_length 1 = .ok (.getfield 9, 3) := dk_180 0 9 (dk_at dksJ3_length_0 1 rfl rfl)
theorem dJ3_length_4 : decode cJ3_length 4 = .ok (.arraylength, 1) := dk_190 (dk_at dksJ3_length_0 4 rfl rfl)
theorem dJ3_length_5 : decode cJ3_length 5 = .ok (.aload_n 0, 1) := dk_42 (dk_at dksJ3_length_0 5 rfl rfl)
theorem dJ3_length_6 : decode cJ3_length 6 = .ok (.invokevirtual 335, 3) := dk_182 1 79 (dk_at dksJ3_length_0 6 rfl rfl)
theorem dJ3_length_9 : decode cJ3_length 9 = .ok (.ishr, 1) := dk_122 (dk_at dksJ3_length_0 9 rfl rfl)
theorem dJ3_length_10 : decode cJ3_length 10 = .ok (.ireturn, 1) := dk_172 (dk_at dksJ3_length_0 10 rfl rfl)
abbrev cJ3_coder : ByteArray := prog_24_method_152_code
def yJ3_coder : MethodName := ⟨RJ3, "coder", "()B"⟩
def dkwJ3_coder_0 : List UInt8 := [178, 0, 38, 153, 0, 10, 42, 180, 0, 15, 167, 0, 4, 4, 172]
abbrev dktJ3_coder_0 : List UInt8 := dkwJ3_coder_0 ++ []
theorem dksJ3_coder_0 : cJ3_coder.data.toList.drop 0 = dktJ3_coder_0 := by decide +kernel
theorem dJ3_coder_0 : decode cJ3_coder 0 = .ok (.getstatic 38, 3) := dk_178 0 38 (dk_at dksJ3_coder_0 0 rfl rfl)
theorem dJ3_coder_3 : decode cJ3_coder 3 = .ok (.ifCond .eq 10, 3) := dk_153 0 10 (dk_at dksJ3_coder_0 3 rfl rfl)
theorem dJ3_coder_6 : decode cJ3_coder 6 = .ok (.aload_n 0, 1) := dk_42 (dk_at dksJ3_coder_0 6 rfl rfl)
theorem dJ3_coder_7 : decode cJ3_coder 7 = .ok (.getfield 15, 3) := dk_180 0 15 (dk_at dksJ3_coder_0 7 rfl rfl)
theorem dJ3_coder_10 : decode cJ3_coder 10 = .ok (.goto 4, 3) := dk_167 0 4 (dk_at dksJ3_coder_0 10 rfl rfl)
theorem dJ3_coder_13 : decode cJ3_coder 13 = .ok (.iconst 1, 1) := dk_4 (dk_at dksJ3_coder_0 13 rfl rfl)
theorem dJ3_coder_14 : decode cJ3_coder 14 = .ok (.ireturn, 1) := dk_172 (dk_at dksJ3_coder_0 14 rfl rfl)
abbrev cJ3_checkBoundsBeginEnd : ByteArray := prog_24_method_158_code
def yJ3_checkBoundsBeginEnd : MethodName := ⟨RJ3, "checkBoundsBeginEnd", "(III)V"⟩
def dkwJ3_checkBoundsBeginEnd_0 : List UInt8 := [26, 27, 28, 178, 4, 29, 184, 4, 38, 87, 177]
abbrev dktJ3_checkBoundsBeginEnd_0 : List UInt8 := dkwJ3_checkBoundsBeginEnd_0 ++ []
theorem dksJ3_checkBoundsBeginEnd_0 : cJ3_checkBoundsBeginEnd.data.toList.drop 0 = dktJ3_checkBoundsBeginEnd_0 := by decide +kernel
theorem dJ3_checkBoundsBeginEnd_0 : decode cJ3_checkBoundsBeginEnd 0 = .ok (.iload_n 0, 1) := dk_26 (dk_at dksJ3_checkBoundsBeginEnd_0 0 rfl rfl)
theorem dJ3_checkBoundsBeginEnd_1 : decode cJ3_checkBoundsBeginEnd 1 = .ok (.iload_n 1, 1) := dk_27 (dk_at dksJ3_checkBoundsBeginEnd_0 1 rfl rfl)
theorem dJ3_checkBoundsBeginEnd_2 : decode cJ3_checkBoundsBeginEnd 2 = .ok (.iload_n 2, 1) := dk_28 (dk_at dksJ3_checkBoundsBeginEnd_0 2 rfl rfl)
theorem dJ3_checkBoundsBeginEnd_3 : decode cJ3_checkBoundsBeginEnd 3 = .ok (.getstatic 1053, 3) := dk_178 4 29 (dk_at dksJ3_checkBoundsBeginEnd_0 3 rfl rfl)
theorem dJ3_checkBoundsBeginEnd_6 : decode cJ3_checkBoundsBeginEnd 6 = .ok (.invokestatic 1062, 3) := dk_184 4 38 (dk_at dksJ3_checkBoundsBeginEnd_0 6 rfl rfl)
theorem dJ3_checkBoundsBeginEnd_9 : decode cJ3_checkBoundsBeginEnd 9 = .ok (.pop, 1) := dk_87 (dk_at dksJ3_checkBoundsBeginEnd_0 9 rfl rfl)
theorem dJ3_checkBoundsBeginEnd_10 : decode cJ3_checkBoundsBeginEnd 10 = .ok (.return_, 1) := dk_177 (dk_at dksJ3_checkBoundsBeginEnd_0 10 rfl rfl)
abbrev cJ3_charAt : ByteArray := prog_24_method_56_code
def yJ3_charAt : MethodName := ⟨RJ3, "charAt", "(I)C"⟩
def dkwJ3_charAt_1 : List UInt8 := [172]
abbrev dktJ3_charAt_1 : List UInt8 := dkwJ3_charAt_1 ++ []
def dkwJ3_charAt_0 : List UInt8 := [42, 182, 1, 236, 153, 0, 12, 42, 180, 0, 9, 27, 184, 1, 239, 172, 42, 180, 0, 9, 27, 184, 1, 242]
abbrev dktJ3_charAt_0 : List UInt8 := dkwJ3_charAt_0 ++ dktJ3_charAt_1
theorem dksJ3_charAt_0 : cJ3_charAt.data.toList.drop 0 = dktJ3_charAt_0 := by decide +kernel
theorem dksJ3_charAt_1 : cJ3_charAt.data.toList.drop 24 = dktJ3_charAt_1 := dk_seg dksJ3_charAt_0 24 rfl rfl
theorem dJ3_charAt_0 : decode cJ3_charAt 0 = .ok (.aload_n 0, 1) := dk_42 (dk_at dksJ3_charAt_0 0 rfl rfl)
theorem dJ3_charAt_1 : decode cJ3_charAt 1 = .ok (.invokevirtual 492, 3) := dk_182 1 236 (dk_at dksJ3_charAt_0 1 rfl rfl)
theorem dJ3_charAt_4 : decode cJ3_charAt 4 = .ok (.ifCond .eq 12, 3) := dk_153 0 12 (dk_at dksJ3_charAt_0 4 rfl rfl)
theorem dJ3_charAt_7 : decode cJ3_charAt 7 = .ok (.aload_n 0, 1) := dk_42 (dk_at dksJ3_charAt_0 7 rfl rfl)
theorem dJ3_charAt_8 : decode cJ3_charAt 8 = .ok (.getfield 9, 3) := dk_180 0 9 (dk_at dksJ3_charAt_0 8 rfl rfl)
theorem dJ3_charAt_11 : decode cJ3_charAt 11 = .ok (.iload_n 1, 1) := dk_27 (dk_at dksJ3_charAt_0 11 rfl rfl)
theorem dJ3_charAt_12 : decode cJ3_charAt 12 = .ok (.invokestatic 495, 3) := dk_184 1 239 (dk_at dksJ3_charAt_0 12 rfl rfl)
theorem dJ3_charAt_15 : decode cJ3_charAt 15 = .ok (.ireturn, 1) := dk_172 (dk_at dksJ3_charAt_0 15 rfl rfl)
theorem dJ3_charAt_16 : decode cJ3_charAt 16 = .ok (.aload_n 0, 1) := dk_42 (dk_at dksJ3_charAt_0 16 rfl rfl)
theorem dJ3_charAt_17 : decode cJ3_charAt 17 = .ok (.getfield 9, 3) := dk_180 0 9 (dk_at dksJ3_charAt_0 17 rfl rfl)
theorem dJ3_charAt_20 : decode cJ3_charAt 20 = .ok (.iload_n 1, 1) := dk_27 (dk_at dksJ3_charAt_0 20 rfl rfl)
theorem dJ3_charAt_21 : decode cJ3_charAt 21 = .ok (.invokestatic 498, 3) := dk_184 1 242 (dk_at dksJ3_charAt_0 21 rfl rfl)
theorem dJ3_charAt_24 : decode cJ3_charAt 24 = .ok (.ireturn, 1) := dk_172 (dk_at dksJ3_charAt_1 0 rfl rfl)
abbrev cJ3_checkIndex : ByteArray := prog_24_method_155_code
def yJ3_checkIndex : MethodName := ⟨RJ3, "checkIndex", "(II)V"⟩
def dkwJ3_checkIndex_0 : List UInt8 := [26, 27, 178, 4, 29, 184, 4, 35, 87, 177]
abbrev dktJ3_checkIndex_0 : List UInt8 := dkwJ3_checkIndex_0 ++ []
theorem dksJ3_checkIndex_0 : cJ3_checkIndex.data.toList.drop 0 = dktJ3_checkIndex_0 := by decide +kernel
theorem dJ3_checkIndex_0 : decode cJ3_checkIndex 0 = .ok (.iload_n 0, 1) := dk_26 (dk_at dksJ3_checkIndex_0 0 rfl rfl)
theorem dJ3_checkIndex_1 : decode cJ3_checkIndex 1 = .ok (.iload_n 1, 1) := dk_27 (dk_at dksJ3_checkIndex_0 1 rfl rfl)
theorem dJ3_checkIndex_2 : decode cJ3_checkIndex 2 = .ok (.getstatic 1053, 3) := dk_178 4 29 (dk_at dksJ3_checkIndex_0 2 rfl rfl)
theorem dJ3_checkIndex_5 : decode cJ3_checkIndex 5 = .ok (.invokestatic 1059, 3) := dk_184 4 35 (dk_at dksJ3_checkIndex_0 5 rfl rfl)
theorem dJ3_checkIndex_8 : decode cJ3_checkIndex 8 = .ok (.pop, 1) := dk_87 (dk_at dksJ3_checkIndex_0 8 rfl rfl)
theorem dJ3_checkIndex_9 : decode cJ3_checkIndex 9 = .ok (.return_, 1) := dk_177 (dk_at dksJ3_checkIndex_0 9 rfl rfl)
theorem q121 : (Jvm.Cond.initialized "java/lang/String") ∈ lw_all := lw_g (lw_at lw_m1 12 rfl) rfl
theorem q594 : (Jvm.Cond.instanceMethod ({ cls := "java/lang/String", name := "indexOf", desc := "(I)I" } : Jvm.MethodName)) ∈ lw_all := lw_g (lw_at lw_m3 5 rfl) rfl
theorem q595 : (Jvm.Cond.selects "java/lang/String" ({ cls := "java/lang/String", name := "indexOf", desc := "(I)I" } : Jvm.MethodName) ({ cls := "java/lang/String", name := "indexOf", desc := "(I)I" } : Jvm.MethodName)) ∈ lw_all := lw_g (lw_at lw_m3 6 rfl) rfl
theorem q596 : (Jvm.Cond.code ({ cls := "java/lang/String", name := "indexOf", desc := "(I)I" } : Jvm.MethodName) prog_24_method_79_code (2 : Nat) (Option.some Jvm.ClassFile.FieldType.int)) ∈ lw_all := lw_g (lw_at lw_m3 7 rfl) rfl
theorem q597 : (Jvm.Cond.methodLink "java/lang/String" (633 : Nat) ({ cls := "java/lang/String", name := "indexOf", desc := "(II)I" } : Jvm.MethodName)) ∈ lw_all := lw_g (lw_at lw_m3 8 rfl) rfl
theorem q598 : (Jvm.Cond.instanceMethod ({ cls := "java/lang/String", name := "indexOf", desc := "(II)I" } : Jvm.MethodName)) ∈ lw_all := lw_g (lw_at lw_m3 9 rfl) rfl
theorem q599 : (Jvm.Cond.selects "java/lang/String" ({ cls := "java/lang/String", name := "indexOf", desc := "(II)I" } : Jvm.MethodName) ({ cls := "java/lang/String", name := "indexOf", desc := "(II)I" } : Jvm.MethodName)) ∈ lw_all := lw_g (lw_at lw_m3 10 rfl) rfl
theorem q600 : (Jvm.Cond.code ({ cls := "java/lang/String", name := "indexOf", desc := "(II)I" } : Jvm.MethodName) prog_24_method_80_code (3 : Nat) (Option.some Jvm.ClassFile.FieldType.int)) ∈ lw_all := lw_g (lw_at lw_m3 11 rfl) rfl
theorem q601 : (Jvm.Cond.methodLink "java/lang/String" (492 : Nat) ({ cls := "java/lang/String", name := "isLatin1", desc := "()Z" } : Jvm.MethodName)) ∈ lw_all := lw_g (lw_at lw_m3 12 rfl) rfl
theorem q602 : (Jvm.Cond.instanceMethod ({ cls := "java/lang/String", name := "isLatin1", desc := "()Z" } : Jvm.MethodName)) ∈ lw_all := lw_g (lw_at lw_m3 13 rfl) rfl
theorem q603 : (Jvm.Cond.selects "java/lang/String" ({ cls := "java/lang/String", name := "isLatin1", desc := "()Z" } : Jvm.MethodName) ({ cls := "java/lang/String", name := "isLatin1", desc := "()Z" } : Jvm.MethodName)) ∈ lw_all := lw_g (lw_at lw_m3 14 rfl) rfl
theorem q604 : (Jvm.Cond.code ({ cls := "java/lang/String", name := "isLatin1", desc := "()Z" } : Jvm.MethodName) prog_24_method_154_code (1 : Nat) (Option.some Jvm.ClassFile.FieldType.boolean)) ∈ lw_all := lw_g (lw_at lw_m3 15 rfl) rfl
theorem q605 : (Jvm.Cond.fieldLink "java/lang/String" (38 : Nat) "java/lang/String" "COMPACT_STRINGS" "Z") ∈ lw_all := lw_g (lw_at lw_m3 16 rfl) rfl
theorem q606 : (Jvm.Cond.laysStatic "java/lang/String" "COMPACT_STRINGS" "Z") ∈ lw_tbl := lw_at lw_m3 17 rfl
theorem q607 : (Jvm.Cond.methodLink "java/lang/String" (505 : Nat) ({ cls := "java/lang/String", name := "length", desc := "()I" } : Jvm.MethodName)) ∈ lw_all := lw_g (lw_at lw_m3 18 rfl) rfl
theorem q608 : (Jvm.Cond.instanceMethod ({ cls := "java/lang/String", name := "length", desc := "()I" } : Jvm.MethodName)) ∈ lw_all := lw_g (lw_at lw_m3 19 rfl) rfl
theorem q609 : (Jvm.Cond.selects "java/lang/String" ({ cls := "java/lang/String", name := "length", desc := "()I" } : Jvm.MethodName) ({ cls := "java/lang/String", name := "length", desc := "()I" } : Jvm.MethodName)) ∈ lw_all := lw_g (lw_at lw_m3 20 rfl) rfl
theorem q610 : (Jvm.Cond.code ({ cls := "java/lang/String", name := "length", desc := "()I" } : Jvm.MethodName) prog_24_method_54_code (1 : Nat) (Option.some Jvm.ClassFile.FieldType.int)) ∈ lw_all := lw_g (lw_at lw_m3 21 rfl) rfl
theorem q611 : (Jvm.Cond.methodLink "java/lang/String" (335 : Nat) ({ cls := "java/lang/String", name := "coder", desc := "()B" } : Jvm.MethodName)) ∈ lw_all := lw_g (lw_at lw_m3 22 rfl) rfl
theorem q612 : (Jvm.Cond.instanceMethod ({ cls := "java/lang/String", name := "coder", desc := "()B" } : Jvm.MethodName)) ∈ lw_all := lw_g (lw_at lw_m3 23 rfl) rfl
theorem q613 : (Jvm.Cond.selects "java/lang/String" ({ cls := "java/lang/String", name := "coder", desc := "()B" } : Jvm.MethodName) ({ cls := "java/lang/String", name := "coder", desc := "()B" } : Jvm.MethodName)) ∈ lw_all := lw_g (lw_at lw_m3 24 rfl) rfl
theorem q614 : (Jvm.Cond.code ({ cls := "java/lang/String", name := "coder", desc := "()B" } : Jvm.MethodName) prog_24_method_152_code (1 : Nat) (Option.some Jvm.ClassFile.FieldType.byte)) ∈ lw_all := lw_g (lw_at lw_m3 25 rfl) rfl
theorem q615 : (Jvm.Cond.methodLink "java/lang/String" (637 : Nat) ({ cls := "java/lang/StringLatin1", name := "indexOf", desc := "([BIII)I" } : Jvm.MethodName)) ∈ lw_all := lw_g (lw_at lw_m3 26 rfl) rfl
theorem q626 : (Jvm.Cond.methodLink "java/lang/String" (640 : Nat) ({ cls := "java/lang/StringUTF16", name := "indexOf", desc := "([BIII)I" } : Jvm.MethodName)) ∈ lw_all := lw_g (lw_at lw_m3 37 rfl) rfl
theorem q642 : (Jvm.Cond.static ({ cls := "java/lang/String", name := "checkBoundsBeginEnd", desc := "(III)V" } : Jvm.MethodName)) ∈ lw_all := lw_g (lw_at lw_m3 53 rfl) rfl
theorem q643 : (Jvm.Cond.code ({ cls := "java/lang/String", name := "checkBoundsBeginEnd", desc := "(III)V" } : Jvm.MethodName) prog_24_method_158_code (3 : Nat) (Option.none : Option Jvm.ClassFile.FieldType)) ∈ lw_all := lw_g (lw_at lw_m3 54 rfl) rfl
theorem q644 : (Jvm.Cond.fieldLink "java/lang/String" (1053 : Nat) "jdk/internal/util/Preconditions" "SIOOBE_FORMATTER" "Ljava/util/function/BiFunction;") ∈ lw_all := lw_g (lw_at lw_m3 55 rfl) rfl
theorem q646 : (Jvm.Cond.methodLink "java/lang/String" (1062 : Nat) ({ cls := "jdk/internal/util/Preconditions", name := "checkFromToIndex", desc := "(IIILjava/util/function/BiFunction;)I" } : Jvm.MethodName)) ∈ lw_all := lw_g (lw_at lw_m3 57 rfl) rfl
theorem q725 : (Jvm.Cond.instantiable "java/lang/String" (4 : Nat)) ∈ lw_all := lw_g (lw_at lw_m3 136 rfl) rfl
theorem q726 : (Jvm.Cond.laysFinal "java/lang/String" "java/lang/String" "value" "[B") ∈ lw_all := lw_g (lw_at lw_m3 137 rfl) rfl
theorem q727 : (Jvm.Cond.soleField "java/lang/String" "value") ∈ lw_all := lw_g (lw_at lw_m3 138 rfl) rfl
theorem q728 : (Jvm.Cond.laysFinal "java/lang/String" "java/lang/String" "coder" "B") ∈ lw_all := lw_g (lw_at lw_m3 139 rfl) rfl
theorem q729 : (Jvm.Cond.soleField "java/lang/String" "coder") ∈ lw_all := lw_g (lw_at lw_m3 140 rfl) rfl
theorem q1468 : (Jvm.Cond.instanceMethod ({ cls := "java/lang/String", name := "charAt", desc := "(I)C" } : Jvm.MethodName)) ∈ lw_all := lw_g (lw_at lw_m6 159 rfl) rfl
theorem q1469 : (Jvm.Cond.selects "java/lang/String" ({ cls := "java/lang/String", name := "charAt", desc := "(I)C" } : Jvm.MethodName) ({ cls := "java/lang/String", name := "charAt", desc := "(I)C" } : Jvm.MethodName)) ∈ lw_all := lw_g (lw_at lw_m6 160 rfl) rfl
theorem q1470 : (Jvm.Cond.code ({ cls := "java/lang/String", name := "charAt", desc := "(I)C" } : Jvm.MethodName) prog_24_method_56_code (2 : Nat) (Option.some Jvm.ClassFile.FieldType.char)) ∈ lw_all := lw_g (lw_at lw_m6 161 rfl) rfl
theorem q1471 : (Jvm.Cond.methodLink "java/lang/String" (495 : Nat) ({ cls := "java/lang/StringLatin1", name := "charAt", desc := "([BI)C" } : Jvm.MethodName)) ∈ lw_all := lw_g (lw_at lw_m6 162 rfl) rfl
theorem q1475 : (Jvm.Cond.static ({ cls := "java/lang/String", name := "checkIndex", desc := "(II)V" } : Jvm.MethodName)) ∈ lw_all := lw_g (lw_at lw_m6 166 rfl) rfl
theorem q1476 : (Jvm.Cond.code ({ cls := "java/lang/String", name := "checkIndex", desc := "(II)V" } : Jvm.MethodName) prog_24_method_155_code (2 : Nat) (Option.none : Option Jvm.ClassFile.FieldType)) ∈ lw_all := lw_g (lw_at lw_m6 167 rfl) rfl
theorem q1477 : (Jvm.Cond.methodLink "java/lang/String" (1059 : Nat) ({ cls := "jdk/internal/util/Preconditions", name := "checkIndex", desc := "(IILjava/util/function/BiFunction;)I" } : Jvm.MethodName)) ∈ lw_all := lw_g (lw_at lw_m6 168 rfl) rfl
theorem q1480 : (Jvm.Cond.methodLink "java/lang/String" (498 : Nat) ({ cls := "java/lang/StringUTF16", name := "charAt", desc := "([BI)C" } : Jvm.MethodName)) ∈ lw_all := lw_g (lw_at lw_m6 171 rfl) rfl
theorem q1964 : (Jvm.Cond.castable "java/lang/String" "java/lang/Object") ∈ lw_tbl := lw_at lw_m8 175 rfl
theorem q1965 : (Jvm.Cond.fieldLink "java/lang/String" (9 : Nat) "java/lang/String" "value" "[B") ∈ lw_all := lw_g (lw_at lw_m8 176 rfl) rfl
theorem q1966 : (Jvm.Cond.fieldLink "java/lang/String" (15 : Nat) "java/lang/String" "coder" "B") ∈ lw_all := lw_g (lw_at lw_m8 177 rfl) rfl
theorem in_J3 : ∀ w ∈ wsJ30, w ∈ lw_all := lw_in wsJ30 [726, 728] (by decide +kernel) (by decide +kernel)

/-! java/lang/StringLatin1 -/
set_option maxRecDepth 100000
def RJ4 : String := "java/lang/StringLatin1"
abbrev cJ4_indexOf : ByteArray := prog_25_method_22_code
def yJ4_indexOf : MethodName := ⟨RJ4, "indexOf", "([BIII)I"⟩
def dkwJ4_indexOf_1 : List UInt8 := [161, 0, 5, 2, 172, 42, 27, 28, 29, 184, 0, 95, 172]
abbrev dktJ4_indexOf_1 : List UInt8 := dkwJ4_indexOf_1 ++ []
def dkwJ4_indexOf_0 : List UInt8 := [27, 184, 0, 88, 154, 0, 5, 2, 172, 28, 3, 184, 0, 92, 61, 29, 42, 190, 184, 0, 38, 62, 28, 29]
abbrev dktJ4_indexOf_0 : List UInt8 := dkwJ4_indexOf_0 ++ dktJ4_indexOf_1
theorem dksJ4_indexOf_0 : cJ4_indexOf.data.toList.drop 0 = dktJ4_indexOf_0 := by decide +kernel
theorem dksJ4_indexOf_1 : cJ4_indexOf.data.toList.drop 24 = dktJ4_indexOf_1 := dk_seg dksJ4_indexOf_0 24 rfl rfl
theorem dJ4_indexOf_0 : decode cJ4_indexOf 0 = .ok (.iload_n 1, 1) := dk_27 (dk_at dksJ4_indexOf_0 0 rfl rfl)
theorem dJ4_indexOf_1 : decode cJ4_indexOf 1 = .ok (.invokestatic 88, 3) := dk_184 0 88 (dk_at dksJ4_indexOf_0 1 rfl rfl)
theorem dJ4_indexOf_4 : decode cJ4_indexOf 4 = .ok (.ifCond .ne 5, 3) := dk_154 0 5 (dk_at dksJ4_indexOf_0 4 rfl rfl)
theorem dJ4_indexOf_7 : decode cJ4_indexOf 7 = .ok (.iconst (-1), 1) := dk_2 (dk_at dksJ4_indexOf_0 7 rfl rfl)
theorem dJ4_indexOf_8 : decode cJ4_indexOf 8 = .ok (.ireturn, 1) := dk_172 (dk_at dksJ4_indexOf_0 8 rfl rfl)
theorem dJ4_indexOf_9 : decode cJ4_indexOf 9 = .ok (.iload_n 2, 1) := dk_28 (dk_at dksJ4_indexOf_0 9 rfl rfl)
theorem dJ4_indexOf_10 : decode cJ4_indexOf 10 = .ok (.iconst 0, 1) := dk_3 (dk_at dksJ4_indexOf_0 10 rfl rfl)
theorem dJ4_indexOf_11 : decode cJ4_indexOf 11 = .ok (.invokestatic 92, 3) := dk_184 0 92 (dk_at dksJ4_indexOf_0 11 rfl rfl)
theorem dJ4_indexOf_14 : decode cJ4_indexOf 14 = .ok (.istore_n 2, 1) := dk_61 (dk_at dksJ4_indexOf_0 14 rfl rfl)
theorem dJ4_indexOf_15 : decode cJ4_indexOf 15 = .ok (.iload_n 3, 1) := dk_29 (dk_at dksJ4_indexOf_0 15 rfl rfl)
theorem dJ4_indexOf_16 : decode cJ4_indexOf 16 = .ok (.aload_n 0, 1) := dk_42 (dk_at dksJ4_indexOf_0 16 rfl rfl)
theorem dJ4_indexOf_17 : decode cJ4_indexOf 17 = .ok (.arraylength, 1) := dk_190 (dk_at dksJ4_indexOf_0 17 rfl rfl)
theorem dJ4_indexOf_18 : decode cJ4_indexOf 18 = .ok (.invokestatic 38, 3) := dk_184 0 38 (dk_at dksJ4_indexOf_0 18 rfl rfl)
theorem dJ4_indexOf_21 : decode cJ4_indexOf 21 = .ok (.istore_n 3, 1) := dk_62 (dk_at dksJ4_indexOf_0 21 rfl rfl)
theorem dJ4_indexOf_22 : decode cJ4_indexOf 22 = .ok (.iload_n 2, 1) := dk_28 (dk_at dksJ4_indexOf_0 22 rfl rfl)
theorem dJ4_indexOf_23 : decode cJ4_indexOf 23 = .ok (.iload_n 3, 1) := dk_29 (dk_at dksJ4_indexOf_0 23 rfl rfl)
theorem dJ4_indexOf_24 : decode cJ4_indexOf 24 = .ok (.if_icmp .lt 5, 3) := dk_161 0 5 (dk_at dksJ4_indexOf_1 0 rfl rfl)
theorem dJ4_indexOf_27 : decode cJ4_indexOf 27 = .ok (.iconst (-1), 1) := dk_2 (dk_at dksJ4_indexOf_1 3 rfl rfl)
theorem dJ4_indexOf_28 : decode cJ4_indexOf 28 = .ok (.ireturn, 1) := dk_172 (dk_at dksJ4_indexOf_1 4 rfl rfl)
theorem dJ4_indexOf_29 : decode cJ4_indexOf 29 = .ok (.aload_n 0, 1) := dk_42 (dk_at dksJ4_indexOf_1 5 rfl rfl)
theorem dJ4_indexOf_30 : decode cJ4_indexOf 30 = .ok (.iload_n 1, 1) := dk_27 (dk_at dksJ4_indexOf_1 6 rfl rfl)
theorem dJ4_indexOf_31 : decode cJ4_indexOf 31 = .ok (.iload_n 2, 1) := dk_28 (dk_at dksJ4_indexOf_1 7 rfl rfl)
theorem dJ4_indexOf_32 : decode cJ4_indexOf 32 = .ok (.iload_n 3, 1) := dk_29 (dk_at dksJ4_indexOf_1 8 rfl rfl)
theorem dJ4_indexOf_33 : decode cJ4_indexOf 33 = .ok (.invokestatic 95, 3) := dk_184 0 95 (dk_at dksJ4_indexOf_1 9 rfl rfl)
theorem dJ4_indexOf_36 : decode cJ4_indexOf 36 = .ok (.ireturn, 1) := dk_172 (dk_at dksJ4_indexOf_1 12 rfl rfl)
abbrev cJ4_canEncode : ByteArray := prog_25_method_4_code
def yJ4_canEncode : MethodName := ⟨RJ4, "canEncode", "(I)Z"⟩
def dkwJ4_canEncode_0 : List UInt8 := [26, 155, 0, 14, 26, 17, 0, 255, 163, 0, 7, 4, 167, 0, 4, 3, 172]
abbrev dktJ4_canEncode_0 : List UInt8 := dkwJ4_canEncode_0 ++ []
theorem dksJ4_canEncode_0 : cJ4_canEncode.data.toList.drop 0 = dktJ4_canEncode_0 := by decide +kernel
theorem dJ4_canEncode_0 : decode cJ4_canEncode 0 = .ok (.iload_n 0, 1) := dk_26 (dk_at dksJ4_canEncode_0 0 rfl rfl)
theorem dJ4_canEncode_1 : decode cJ4_canEncode 1 = .ok (.ifCond .lt 14, 3) := dk_155 0 14 (dk_at dksJ4_canEncode_0 1 rfl rfl)
theorem dJ4_canEncode_4 : decode cJ4_canEncode 4 = .ok (.iload_n 0, 1) := dk_26 (dk_at dksJ4_canEncode_0 4 rfl rfl)
theorem dJ4_canEncode_5 : decode cJ4_canEncode 5 = .ok (.sipush 255, 3) := dk_17 0 255 (dk_at dksJ4_canEncode_0 5 rfl rfl)
theorem dJ4_canEncode_8 : decode cJ4_canEncode 8 = .ok (.if_icmp .gt 7, 3) := dk_163 0 7 (dk_at dksJ4_canEncode_0 8 rfl rfl)
theorem dJ4_canEncode_11 : decode cJ4_canEncode 11 = .ok (.iconst 1, 1) := dk_4 (dk_at dksJ4_canEncode_0 11 rfl rfl)
theorem dJ4_canEncode_12 : decode cJ4_canEncode 12 = .ok (.goto 4, 3) := dk_167 0 4 (dk_at dksJ4_canEncode_0 12 rfl rfl)
theorem dJ4_canEncode_15 : decode cJ4_canEncode 15 = .ok (.iconst 0, 1) := dk_3 (dk_at dksJ4_canEncode_0 15 rfl rfl)
theorem dJ4_canEncode_16 : decode cJ4_canEncode 16 = .ok (.ireturn, 1) := dk_172 (dk_at dksJ4_canEncode_0 16 rfl rfl)
abbrev cJ4_indexOfChar : ByteArray := prog_25_method_23_code
def yJ4_indexOfChar : MethodName := ⟨RJ4, "indexOfChar", "([BIII)I"⟩
def dkwJ4_indexOfChar_1 : List UInt8 := [172, 132, 5, 1, 167, 255, 235, 2, 172]
abbrev dktJ4_indexOfChar_1 : List UInt8 := dkwJ4_indexOfChar_1 ++ []
def dkwJ4_indexOfChar_0 : List UInt8 := [27, 145, 54, 4, 28, 54, 5, 21, 5, 29, 162, 0, 21, 42, 21, 5, 51, 21, 4, 160, 0, 6, 21, 5]
abbrev dktJ4_indexOfChar_0 : List UInt8 := dkwJ4_indexOfChar_0 ++ dktJ4_indexOfChar_1
theorem dksJ4_indexOfChar_0 : cJ4_indexOfChar.data.toList.drop 0 = dktJ4_indexOfChar_0 := by decide +kernel
theorem dksJ4_indexOfChar_1 : cJ4_indexOfChar.data.toList.drop 24 = dktJ4_indexOfChar_1 := dk_seg dksJ4_indexOfChar_0 24 rfl rfl
theorem dJ4_indexOfChar_0 : decode cJ4_indexOfChar 0 = .ok (.iload_n 1, 1) := dk_27 (dk_at dksJ4_indexOfChar_0 0 rfl rfl)
theorem dJ4_indexOfChar_1 : decode cJ4_indexOfChar 1 = .ok (.i2b, 1) := dk_145 (dk_at dksJ4_indexOfChar_0 1 rfl rfl)
theorem dJ4_indexOfChar_2 : decode cJ4_indexOfChar 2 = .ok (.istore 4, 2) := dk_54 4 (dk_at dksJ4_indexOfChar_0 2 rfl rfl)
theorem dJ4_indexOfChar_4 : decode cJ4_indexOfChar 4 = .ok (.iload_n 2, 1) := dk_28 (dk_at dksJ4_indexOfChar_0 4 rfl rfl)
theorem dJ4_indexOfChar_5 : decode cJ4_indexOfChar 5 = .ok (.istore 5, 2) := dk_54 5 (dk_at dksJ4_indexOfChar_0 5 rfl rfl)
theorem dJ4_indexOfChar_7 : decode cJ4_indexOfChar 7 = .ok (.iload 5, 2) := dk_21 5 (dk_at dksJ4_indexOfChar_0 7 rfl rfl)
theorem dJ4_indexOfChar_9 : decode cJ4_indexOfChar 9 = .ok (.iload_n 3, 1) := dk_29 (dk_at dksJ4_indexOfChar_0 9 rfl rfl)
theorem dJ4_indexOfChar_10 : decode cJ4_indexOfChar 10 = .ok (.if_icmp .ge 21, 3) := dk_162 0 21 (dk_at dksJ4_indexOfChar_0 10 rfl rfl)
theorem dJ4_indexOfChar_13 : decode cJ4_indexOfChar 13 = .ok (.aload_n 0, 1) := dk_42 (dk_at dksJ4_indexOfChar_0 13 rfl rfl)
theorem dJ4_indexOfChar_14 : decode cJ4_indexOfChar 14 = .ok (.iload 5, 2) := dk_21 5 (dk_at dksJ4_indexOfChar_0 14 rfl rfl)
theorem dJ4_indexOfChar_16 : decode cJ4_indexOfChar 16 = .ok (.baload, 1) := dk_51 (dk_at dksJ4_indexOfChar_0 16 rfl rfl)
theorem dJ4_indexOfChar_17 : decode cJ4_indexOfChar 17 = .ok (.iload 4, 2) := dk_21 4 (dk_at dksJ4_indexOfChar_0 17 rfl rfl)
theorem dJ4_indexOfChar_19 : decode cJ4_indexOfChar 19 = .ok (.if_icmp .ne 6, 3) := dk_160 0 6 (dk_at dksJ4_indexOfChar_0 19 rfl rfl)
theorem dJ4_indexOfChar_22 : decode cJ4_indexOfChar 22 = .ok (.iload 5, 2) := dk_21 5 (dk_at dksJ4_indexOfChar_0 22 rfl rfl)
theorem dJ4_indexOfChar_24 : decode cJ4_indexOfChar 24 = .ok (.ireturn, 1) := dk_172 (dk_at dksJ4_indexOfChar_1 0 rfl rfl)
theorem dJ4_indexOfChar_25 : decode cJ4_indexOfChar 25 = .ok (.iinc 5 1, 3) := dk_132 5 1 (dk_at dksJ4_indexOfChar_1 1 rfl rfl)
theorem dJ4_indexOfChar_28 : decode cJ4_indexOfChar 28 = .ok (.goto (-21), 3) := dk_167 255 235 (dk_at dksJ4_indexOfChar_1 4 rfl rfl)
theorem dJ4_indexOfChar_31 : decode cJ4_indexOfChar 31 = .ok (.iconst (-1), 1) := dk_2 (dk_at dksJ4_indexOfChar_1 7 rfl rfl)
theorem dJ4_indexOfChar_32 : decode cJ4_indexOfChar 32 = .ok (.ireturn, 1) := dk_172 (dk_at dksJ4_indexOfChar_1 8 rfl rfl)
abbrev cJ4_charAt : ByteArray := prog_25_method_2_code
def yJ4_charAt : MethodName := ⟨RJ4, "charAt", "([BI)C"⟩
def dkwJ4_charAt_0 : List UInt8 := [27, 42, 190, 184, 0, 9, 42, 27, 51, 17, 0, 255, 126, 146, 172]
abbrev dktJ4_charAt_0 : List UInt8 := dkwJ4_charAt_0 ++ []
theorem dksJ4_charAt_0 : cJ4_charAt.data.toList.drop 0 = dktJ4_charAt_0 := by decide +kernel
theorem dJ4_charAt_0 : decode cJ4_charAt 0 = .ok (.iload_n 1, 1) := dk_27 (dk_at dksJ4_charAt_0 0 rfl rfl)
theorem dJ4_charAt_1 : decode cJ4_charAt 1 = .ok (.aload_n 0, 1) := dk_42 (dk_at dksJ4_charAt_0 1 rfl rfl)
theorem dJ4_charAt_2 : decode cJ4_charAt 2 = .ok (.arraylength, 1) := dk_190 (dk_at dksJ4_charAt_0 2 rfl rfl)
theorem dJ4_charAt_3 : decode cJ4_charAt 3 = .ok (.invokestatic 9, 3) := dk_184 0 9 (dk_at dksJ4_charAt_0 3 rfl rfl)
theorem dJ4_charAt_6 : decode cJ4_charAt 6 = .ok (.aload_n 0, 1) := dk_42 (dk_at dksJ4_charAt_0 6 rfl rfl)
theorem dJ4_charAt_7 : decode cJ4_charAt 7 = .ok (.iload_n 1, 1) := dk_27 (dk_at dksJ4_charAt_0 7 rfl rfl)
theorem dJ4_charAt_8 : decode cJ4_charAt 8 = .ok (.baload, 1) := dk_51 (dk_at dksJ4_charAt_0 8 rfl rfl)
theorem dJ4_charAt_9 : decode cJ4_charAt 9 = .ok (.sipush 255, 3) := dk_17 0 255 (dk_at dksJ4_charAt_0 9 rfl rfl)
theorem dJ4_charAt_12 : decode cJ4_charAt 12 = .ok (.iand, 1) := dk_126 (dk_at dksJ4_charAt_0 12 rfl rfl)
theorem dJ4_charAt_13 : decode cJ4_charAt 13 = .ok (.i2c, 1) := dk_146 (dk_at dksJ4_charAt_0 13 rfl rfl)
theorem dJ4_charAt_14 : decode cJ4_charAt 14 = .ok (.ireturn, 1) := dk_172 (dk_at dksJ4_charAt_0 14 rfl rfl)
theorem q122 : (Jvm.Cond.initialized "java/lang/StringLatin1") ∈ lw_all := lw_g (lw_at lw_m1 13 rfl) rfl
theorem q616 : (Jvm.Cond.static ({ cls := "java/lang/StringLatin1", name := "indexOf", desc := "([BIII)I" } : Jvm.MethodName)) ∈ lw_all := lw_g (lw_at lw_m3 27 rfl) rfl
theorem q617 : (Jvm.Cond.code ({ cls := "java/lang/StringLatin1", name := "indexOf", desc := "([BIII)I" } : Jvm.MethodName) prog_25_method_22_code (4 : Nat) (Option.some Jvm.ClassFile.FieldType.int)) ∈ lw_all := lw_g (lw_at lw_m3 28 rfl) rfl
theorem q618 : (Jvm.Cond.methodLink "java/lang/StringLatin1" (88 : Nat) ({ cls := "java/lang/StringLatin1", name := "canEncode", desc := "(I)Z" } : Jvm.MethodName)) ∈ lw_all := lw_g (lw_at lw_m3 29 rfl) rfl
theorem q619 : (Jvm.Cond.static ({ cls := "java/lang/StringLatin1", name := "canEncode", desc := "(I)Z" } : Jvm.MethodName)) ∈ lw_all := lw_g (lw_at lw_m3 30 rfl) rfl
theorem q620 : (Jvm.Cond.code ({ cls := "java/lang/StringLatin1", name := "canEncode", desc := "(I)Z" } : Jvm.MethodName) prog_25_method_4_code (1 : Nat) (Option.some Jvm.ClassFile.FieldType.boolean)) ∈ lw_all := lw_g (lw_at lw_m3 31 rfl) rfl
theorem q621 : (Jvm.Cond.methodLink "java/lang/StringLatin1" (92 : Nat) ({ cls := "java/lang/Math", name := "max", desc := "(II)I" } : Jvm.MethodName)) ∈ lw_all := lw_g (lw_at lw_m3 32 rfl) rfl
theorem q622 : (Jvm.Cond.methodLink "java/lang/StringLatin1" (38 : Nat) ({ cls := "java/lang/Math", name := "min", desc := "(II)I" } : Jvm.MethodName)) ∈ lw_all := lw_g (lw_at lw_m3 33 rfl) rfl
theorem q623 : (Jvm.Cond.methodLink "java/lang/StringLatin1" (95 : Nat) ({ cls := "java/lang/StringLatin1", name := "indexOfChar", desc := "([BIII)I" } : Jvm.MethodName)) ∈ lw_all := lw_g (lw_at lw_m3 34 rfl) rfl
theorem q624 : (Jvm.Cond.static ({ cls := "java/lang/StringLatin1", name := "indexOfChar", desc := "([BIII)I" } : Jvm.MethodName)) ∈ lw_all := lw_g (lw_at lw_m3 35 rfl) rfl
theorem q625 : (Jvm.Cond.code ({ cls := "java/lang/StringLatin1", name := "indexOfChar", desc := "([BIII)I" } : Jvm.MethodName) prog_25_method_23_code (6 : Nat) (Option.some Jvm.ClassFile.FieldType.int)) ∈ lw_all := lw_g (lw_at lw_m3 36 rfl) rfl
theorem q1472 : (Jvm.Cond.static ({ cls := "java/lang/StringLatin1", name := "charAt", desc := "([BI)C" } : Jvm.MethodName)) ∈ lw_all := lw_g (lw_at lw_m6 163 rfl) rfl
theorem q1473 : (Jvm.Cond.code ({ cls := "java/lang/StringLatin1", name := "charAt", desc := "([BI)C" } : Jvm.MethodName) prog_25_method_2_code (2 : Nat) (Option.some Jvm.ClassFile.FieldType.char)) ∈ lw_all := lw_g (lw_at lw_m6 164 rfl) rfl
theorem q1474 : (Jvm.Cond.methodLink "java/lang/StringLatin1" (9 : Nat) ({ cls := "java/lang/String", name := "checkIndex", desc := "(II)V" } : Jvm.MethodName)) ∈ lw_all := lw_g (lw_at lw_m6 165 rfl) rfl

/-! jdk/internal/util/Preconditions -/
set_option maxRecDepth 100000
def RJ5 : String := "jdk/internal/util/Preconditions"
abbrev cJ5_checkFromToIndex : ByteArray := prog_33_method_12_code
def yJ5_checkFromToIndex : MethodName := ⟨RJ5, "checkFromToIndex", "(IIILjava/util/function/BiFunction;)I"⟩
def dkwJ5_checkFromToIndex_0 : List UInt8 := [26, 155, 0, 13, 26, 27, 163, 0, 8, 27, 28, 164, 0, 11, 45, 26, 27, 28, 184, 0, 99, 191, 26, 172]
abbrev dktJ5_checkFromToIndex_0 : List UInt8 := dkwJ5_checkFromToIndex_0 ++ []
theorem dksJ5_checkFromToIndex_0 : cJ5_checkFromToIndex.data.toList.drop 0 = dktJ5_checkFromToIndex_0 := by decide +kernel
theorem dJ5_checkFromToIndex_0 : decode cJ5_checkFromToIndex 0 = .ok (.iload_n 0, 1) := dk_26 (dk_at dksJ5_checkFromToIndex_0 0 rfl rfl)
theorem dJ5_checkFromToIndex_1 : decode cJ5_checkFromToIndex 1 = .ok (.ifCond .lt 13, 3) := dk_155 0 13 (dk_at dksJ5_checkFromToIndex_0 1 rfl rfl)
theorem dJ5_checkFromToIndex_4 : decode cJ5_checkFromToIndex 4 = .ok (.iload_n 0, 1) := dk_26 (dk_at dksJ5_checkFromToIndex_0 4 rfl rfl)
theorem dJ5_checkFromToIndex_5 : decode cJ5_checkFromToIndex 5 = .ok (.iload_n 1, 1) := dk_27 (dk_at dksJ5_checkFromToIndex_0 5 rfl rfl)
theorem dJ5_checkFromToIndex_6 : decode cJ5_checkFromToIndex 6 = .ok (.if_icmp .gt 8, 3) := dk_163 0 8 (dk_at dksJ5_checkFromToIndex_0 6 rfl rfl)
theorem dJ5_checkFromToIndex_9 : decode cJ5_checkFromToIndex 9 = .ok (.iload_n 1, 1) := dk_27 (dk_at dksJ5_checkFromToIndex_0 9 rfl rfl)
theorem dJ5_checkFromToIndex_10 : decode cJ5_checkFromToIndex 10 = .ok (.iload_n 2, 1) := dk_28 (dk_at dksJ5_checkFromToIndex_0 10 rfl rfl)
theorem dJ5_checkFromToIndex_11 : decode cJ5_checkFromToIndex 11 = .ok (.if_icmp .le 11, 3) := dk_164 0 11 (dk_at dksJ5_checkFromToIndex_0 11 rfl rfl)
theorem dJ5_checkFromToIndex_14 : decode cJ5_checkFromToIndex 14 = .ok (.aload_n 3, 1) := dk_45 (dk_at dksJ5_checkFromToIndex_0 14 rfl rfl)
theorem dJ5_checkFromToIndex_15 : decode cJ5_checkFromToIndex 15 = .ok (.iload_n 0, 1) := dk_26 (dk_at dksJ5_checkFromToIndex_0 15 rfl rfl)
theorem dJ5_checkFromToIndex_16 : decode cJ5_checkFromToIndex 16 = .ok (.iload_n 1, 1) := dk_27 (dk_at dksJ5_checkFromToIndex_0 16 rfl rfl)
theorem dJ5_checkFromToIndex_17 : decode cJ5_checkFromToIndex 17 = .ok (.iload_n 2, 1) := dk_28 (dk_at dksJ5_checkFromToIndex_0 17 rfl rfl)
theorem dJ5_checkFromToIndex_18 : decode cJ5_checkFromToIndex 18 = .ok (.invokestatic 99, 3) := dk_184 0 99 (dk_at dksJ5_checkFromToIndex_0 18 rfl rfl)
theorem dJ5_checkFromToIndex_21 : decode cJ5_checkFromToIndex 21 = .ok (.athrow, 1) := dk_191 (dk_at dksJ5_checkFromToIndex_0 21 rfl rfl)
theorem dJ5_checkFromToIndex_22 : decode cJ5_checkFromToIndex 22 = .ok (.iload_n 0, 1) := dk_26 (dk_at dksJ5_checkFromToIndex_0 22 rfl rfl)
theorem dJ5_checkFromToIndex_23 : decode cJ5_checkFromToIndex 23 = .ok (.ireturn, 1) := dk_172 (dk_at dksJ5_checkFromToIndex_0 23 rfl rfl)
abbrev cJ5_checkIndex : ByteArray := prog_33_method_11_code
def yJ5_checkIndex : MethodName := ⟨RJ5, "checkIndex", "(IILjava/util/function/BiFunction;)I"⟩
def dkwJ5_checkIndex_0 : List UInt8 := [26, 155, 0, 8, 26, 27, 161, 0, 10, 44, 26, 27, 184, 0, 95, 191, 26, 172]
abbrev dktJ5_checkIndex_0 : List UInt8 := dkwJ5_checkIndex_0 ++ []
theorem dksJ5_checkIndex_0 : cJ5_checkIndex.data.toList.drop 0 = dktJ5_checkIndex_0 := by decide +kernel
theorem dJ5_checkIndex_0 : decode cJ5_checkIndex 0 = .ok (.iload_n 0, 1) := dk_26 (dk_at dksJ5_checkIndex_0 0 rfl rfl)
theorem dJ5_checkIndex_1 : decode cJ5_checkIndex 1 = .ok (.ifCond .lt 8, 3) := dk_155 0 8 (dk_at dksJ5_checkIndex_0 1 rfl rfl)
theorem dJ5_checkIndex_4 : decode cJ5_checkIndex 4 = .ok (.iload_n 0, 1) := dk_26 (dk_at dksJ5_checkIndex_0 4 rfl rfl)
theorem dJ5_checkIndex_5 : decode cJ5_checkIndex 5 = .ok (.iload_n 1, 1) := dk_27 (dk_at dksJ5_checkIndex_0 5 rfl rfl)
theorem dJ5_checkIndex_6 : decode cJ5_checkIndex 6 = .ok (.if_icmp .lt 10, 3) := dk_161 0 10 (dk_at dksJ5_checkIndex_0 6 rfl rfl)
theorem dJ5_checkIndex_9 : decode cJ5_checkIndex 9 = .ok (.aload_n 2, 1) := dk_44 (dk_at dksJ5_checkIndex_0 9 rfl rfl)
theorem dJ5_checkIndex_10 : decode cJ5_checkIndex 10 = .ok (.iload_n 0, 1) := dk_26 (dk_at dksJ5_checkIndex_0 10 rfl rfl)
theorem dJ5_checkIndex_11 : decode cJ5_checkIndex 11 = .ok (.iload_n 1, 1) := dk_27 (dk_at dksJ5_checkIndex_0 11 rfl rfl)
theorem dJ5_checkIndex_12 : decode cJ5_checkIndex 12 = .ok (.invokestatic 95, 3) := dk_184 0 95 (dk_at dksJ5_checkIndex_0 12 rfl rfl)
theorem dJ5_checkIndex_15 : decode cJ5_checkIndex 15 = .ok (.athrow, 1) := dk_191 (dk_at dksJ5_checkIndex_0 15 rfl rfl)
theorem dJ5_checkIndex_16 : decode cJ5_checkIndex 16 = .ok (.iload_n 0, 1) := dk_26 (dk_at dksJ5_checkIndex_0 16 rfl rfl)
theorem dJ5_checkIndex_17 : decode cJ5_checkIndex 17 = .ok (.ireturn, 1) := dk_172 (dk_at dksJ5_checkIndex_0 17 rfl rfl)
theorem q123 : (Jvm.Cond.initialized "jdk/internal/util/Preconditions") ∈ lw_all := lw_g (lw_at lw_m1 14 rfl) rfl
theorem q645 : (Jvm.Cond.laysStatic "jdk/internal/util/Preconditions" "SIOOBE_FORMATTER" "Ljava/util/function/BiFunction;") ∈ lw_tbl := lw_at lw_m3 56 rfl
theorem q647 : (Jvm.Cond.static ({ cls := "jdk/internal/util/Preconditions", name := "checkFromToIndex", desc := "(IIILjava/util/function/BiFunction;)I" } : Jvm.MethodName)) ∈ lw_all := lw_g (lw_at lw_m3 58 rfl) rfl
theorem q648 : (Jvm.Cond.code ({ cls := "jdk/internal/util/Preconditions", name := "checkFromToIndex", desc := "(IIILjava/util/function/BiFunction;)I" } : Jvm.MethodName) prog_33_method_12_code (4 : Nat) (Option.some Jvm.ClassFile.FieldType.int)) ∈ lw_all := lw_g (lw_at lw_m3 59 rfl) rfl
theorem q1478 : (Jvm.Cond.static ({ cls := "jdk/internal/util/Preconditions", name := "checkIndex", desc := "(IILjava/util/function/BiFunction;)I" } : Jvm.MethodName)) ∈ lw_all := lw_g (lw_at lw_m6 169 rfl) rfl
theorem q1479 : (Jvm.Cond.code ({ cls := "jdk/internal/util/Preconditions", name := "checkIndex", desc := "(IILjava/util/function/BiFunction;)I" } : Jvm.MethodName) prog_33_method_11_code (3 : Nat) (Option.some Jvm.ClassFile.FieldType.int)) ∈ lw_all := lw_g (lw_at lw_m6 170 rfl) rfl

/-! java/lang/StringUTF16 -/
set_option maxRecDepth 100000
def RJ6 : String := "java/lang/StringUTF16"
abbrev cJ6_indexOf : ByteArray := prog_26_method_40_code
def yJ6_indexOf : MethodName := ⟨RJ6, "indexOf", "([BIII)I"⟩
def dkwJ6_indexOf_1 : List UInt8 := [18, 227, 162, 0, 11, 42, 27, 28, 29, 184, 0, 228, 172, 42, 27, 28, 29, 184, 0, 232, 172]
abbrev dktJ6_indexOf_1 : List UInt8 := dkwJ6_indexOf_1 ++ []
def dkwJ6_indexOf_0 : List UInt8 := [28, 3, 184, 0, 224, 61, 29, 42, 190, 4, 122, 184, 0, 183, 62, 28, 29, 161, 0, 5, 2, 172, 27]
abbrev dktJ6_indexOf_0 : List UInt8 := dkwJ6_indexOf_0 ++ dktJ6_indexOf_1
theorem dksJ6_indexOf_0 : cJ6_indexOf.data.toList.drop 0 = dktJ6_indexOf_0 := by decide +kernel
theorem dksJ6_indexOf_1 : cJ6_indexOf.data.toList.drop 23 = dktJ6_indexOf_1 := dk_seg dksJ6_indexOf_0 23 rfl rfl
theorem dJ6_indexOf_0 : decode cJ6_indexOf 0 = .ok (.iload_n 2, 1) := dk_28 (dk_at dksJ6_indexOf_0 0 rfl rfl)
theorem dJ6_indexOf_1 : decode cJ6_indexOf 1 = .ok (.iconst 0, 1) := dk_3 (dk_at dksJ6_indexOf_0 1 rfl rfl)
theorem dJ6_indexOf_2 : decode cJ6_indexOf 2 = .ok (.invokestatic 224, 3) := dk_184 0 224 (dk_at dksJ6_indexOf_0 2 rfl rfl)
theorem dJ6_indexOf_5 : decode cJ6_indexOf 5 = .ok (.istore_n 2, 1) := dk_61 (dk_at dksJ6_indexOf_0 5 rfl rfl)
theorem dJ6_indexOf_6 : decode cJ6_indexOf 6 = .ok (.iload_n 3, 1) := dk_29 (dk_at dksJ6_indexOf_0 6 rfl rfl)
theorem dJ6_indexOf_7 : decode cJ6_indexOf 7 = .ok (.aload_n 0, 1) := dk_42 (dk_at dksJ6_indexOf_0 7 rfl rfl)
theorem dJ6_indexOf_8 : decode cJ6_indexOf 8 = .ok (.arraylength, 1) := dk_190 (dk_at dksJ6_indexOf_0 8 rfl rfl)
theorem dJ6_indexOf_9 : decode cJ6_indexOf 9 = .ok (.iconst 1, 1) := dk_4 (dk_at dksJ6_indexOf_0 9 rfl rfl)
theorem dJ6_indexOf_10 : decode cJ6_indexOf 10 = .ok (.ishr, 1) := dk_122 (dk_at dksJ6_indexOf_0 10 rfl rfl)
theorem dJ6_indexOf_11 : decode cJ6_indexOf 11 = .ok (.invokestatic 183, 3) := dk_184 0 183 (dk_at dksJ6_indexOf_0 11 rfl rfl)
theorem dJ6_indexOf_14 : decode cJ6_indexOf 14 = .ok (.istore_n 3, 1) := dk_62 (dk_at dksJ6_indexOf_0 14 rfl rfl)
theorem dJ6_indexOf_15 : decode cJ6_indexOf 15 = .ok (.iload_n 2, 1) := dk_28 (dk_at dksJ6_indexOf_0 15 rfl rfl)
theorem dJ6_indexOf_16 : decode cJ6_indexOf 16 = .ok (.iload_n 3, 1) := dk_29 (dk_at dksJ6_indexOf_0 16 rfl rfl)
theorem dJ6_indexOf_17 : decode cJ6_indexOf 17 = .ok (.if_icmp .lt 5, 3) := dk_161 0 5 (dk_at dksJ6_indexOf_0 17 rfl rfl)
theorem dJ6_indexOf_20 : decode cJ6_indexOf 20 = .ok (.iconst (-1), 1) := dk_2 (dk_at dksJ6_indexOf_0 20 rfl rfl)
theorem dJ6_indexOf_21 : decode cJ6_indexOf 21 = .ok (.ireturn, 1) := dk_172 (dk_at dksJ6_indexOf_0 21 rfl rfl)
theorem dJ6_indexOf_22 : decode cJ6_indexOf 22 = .ok (.iload_n 1, 1) := dk_27 (dk_at dksJ6_indexOf_0 22 rfl rfl)
theorem dJ6_indexOf_23 : decode cJ6_indexOf 23 = .ok (.ldc 227, 2) := dk_18 227 (dk_at dksJ6_indexOf_1 0 rfl rfl)
theorem dJ6_indexOf_25 : decode cJ6_indexOf 25 = .ok (.if_icmp .ge 11, 3) := dk_162 0 11 (dk_at dksJ6_indexOf_1 2 rfl rfl)
theorem dJ6_indexOf_28 : decode cJ6_indexOf 28 = .ok (.aload_n 0, 1) := dk_42 (dk_at dksJ6_indexOf_1 5 rfl rfl)
theorem dJ6_indexOf_29 : decode cJ6_indexOf 29 = .ok (.iload_n 1, 1) := dk_27 (dk_at dksJ6_indexOf_1 6 rfl rfl)
theorem dJ6_indexOf_30 : decode cJ6_indexOf 30 = .ok (.iload_n 2, 1) := dk_28 (dk_at dksJ6_indexOf_1 7 rfl rfl)
theorem dJ6_indexOf_31 : decode cJ6_indexOf 31 = .ok (.iload_n 3, 1) := dk_29 (dk_at dksJ6_indexOf_1 8 rfl rfl)
theorem dJ6_indexOf_32 : decode cJ6_indexOf 32 = .ok (.invokestatic 228, 3) := dk_184 0 228 (dk_at dksJ6_indexOf_1 9 rfl rfl)
theorem dJ6_indexOf_35 : decode cJ6_indexOf 35 = .ok (.ireturn, 1) := dk_172 (dk_at dksJ6_indexOf_1 12 rfl rfl)
theorem dJ6_indexOf_36 : decode cJ6_indexOf 36 = .ok (.aload_n 0, 1) := dk_42 (dk_at dksJ6_indexOf_1 13 rfl rfl)
theorem dJ6_indexOf_37 : decode cJ6_indexOf 37 = .ok (.iload_n 1, 1) := dk_27 (dk_at dksJ6_indexOf_1 14 rfl rfl)
theorem dJ6_indexOf_38 : decode cJ6_indexOf 38 = .ok (.iload_n 2, 1) := dk_28 (dk_at dksJ6_indexOf_1 15 rfl rfl)
theorem dJ6_indexOf_39 : decode cJ6_indexOf 39 = .ok (.iload_n 3, 1) := dk_29 (dk_at dksJ6_indexOf_1 16 rfl rfl)
theorem dJ6_indexOf_40 : decode cJ6_indexOf 40 = .ok (.invokestatic 232, 3) := dk_184 0 232 (dk_at dksJ6_indexOf_1 17 rfl rfl)
theorem dJ6_indexOf_43 : decode cJ6_indexOf 43 = .ok (.ireturn, 1) := dk_172 (dk_at dksJ6_indexOf_1 20 rfl rfl)
abbrev cJ6_indexOfChar : ByteArray := prog_26_method_47_code
def yJ6_indexOfChar : MethodName := ⟨RJ6, "indexOfChar", "([BIII)I"⟩
def dkwJ6_indexOfChar_0 : List UInt8 := [28, 29, 42, 184, 0, 96, 42, 27, 28, 29, 184, 0, 244, 172]
abbrev dktJ6_indexOfChar_0 : List UInt8 := dkwJ6_indexOfChar_0 ++ []
theorem dksJ6_indexOfChar_0 : cJ6_indexOfChar.data.toList.drop 0 = dktJ6_indexOfChar_0 := by decide +kernel
theorem dJ6_indexOfChar_0 : decode cJ6_indexOfChar 0 = .ok (.iload_n 2, 1) := dk_28 (dk_at dksJ6_indexOfChar_0 0 rfl rfl)
theorem dJ6_indexOfChar_1 : decode cJ6_indexOfChar 1 = .ok (.iload_n 3, 1) := dk_29 (dk_at dksJ6_indexOfChar_0 1 rfl rfl)
theorem dJ6_indexOfChar_2 : decode cJ6_indexOfChar 2 = .ok (.aload_n 0, 1) := dk_42 (dk_at dksJ6_indexOfChar_0 2 rfl rfl)
theorem dJ6_indexOfChar_3 : decode cJ6_indexOfChar 3 = .ok (.invokestatic 96, 3) := dk_184 0 96 (dk_at dksJ6_indexOfChar_0 3 rfl rfl)
theorem dJ6_indexOfChar_6 : decode cJ6_indexOfChar 6 = .ok (.aload_n 0, 1) := dk_42 (dk_at dksJ6_indexOfChar_0 6 rfl rfl)
theorem dJ6_indexOfChar_7 : decode cJ6_indexOfChar 7 = .ok (.iload_n 1, 1) := dk_27 (dk_at dksJ6_indexOfChar_0 7 rfl rfl)
theorem dJ6_indexOfChar_8 : decode cJ6_indexOfChar 8 = .ok (.iload_n 2, 1) := dk_28 (dk_at dksJ6_indexOfChar_0 8 rfl rfl)
theorem dJ6_indexOfChar_9 : decode cJ6_indexOfChar 9 = .ok (.iload_n 3, 1) := dk_29 (dk_at dksJ6_indexOfChar_0 9 rfl rfl)
theorem dJ6_indexOfChar_10 : decode cJ6_indexOfChar 10 = .ok (.invokestatic 244, 3) := dk_184 0 244 (dk_at dksJ6_indexOfChar_0 10 rfl rfl)
theorem dJ6_indexOfChar_13 : decode cJ6_indexOfChar 13 = .ok (.ireturn, 1) := dk_172 (dk_at dksJ6_indexOfChar_0 13 rfl rfl)
abbrev cJ6_checkBoundsBeginEnd : ByteArray := prog_26_method_93_code
def yJ6_checkBoundsBeginEnd : MethodName := ⟨RJ6, "checkBoundsBeginEnd", "(II[B)V"⟩
def dkwJ6_checkBoundsBeginEnd_0 : List UInt8 := [26, 27, 44, 184, 0, 48, 184, 0, 241, 177]
abbrev dktJ6_checkBoundsBeginEnd_0 : List UInt8 := dkwJ6_checkBoundsBeginEnd_0 ++ []
theorem dksJ6_checkBoundsBeginEnd_0 : cJ6_checkBoundsBeginEnd.data.toList.drop 0 = dktJ6_checkBoundsBeginEnd_0 := by decide +kernel
theorem dJ6_checkBoundsBeginEnd_0 : decode cJ6_checkBoundsBeginEnd 0 = .ok (.iload_n 0, 1) := dk_26 (dk_at dksJ6_checkBoundsBeginEnd_0 0 rfl rfl)
theorem dJ6_checkBoundsBeginEnd_1 : decode cJ6_checkBoundsBeginEnd 1 = .ok (.iload_n 1, 1) := dk_27 (dk_at dksJ6_checkBoundsBeginEnd_0 1 rfl rfl)
theorem dJ6_checkBoundsBeginEnd_2 : decode cJ6_checkBoundsBeginEnd 2 = .ok (.aload_n 2, 1) := dk_44 (dk_at dksJ6_checkBoundsBeginEnd_0 2 rfl rfl)
theorem dJ6_checkBoundsBeginEnd_3 : decode cJ6_checkBoundsBeginEnd 3 = .ok (.invokestatic 48, 3) := dk_184 0 48 (dk_at dksJ6_checkBoundsBeginEnd_0 3 rfl rfl)
theorem dJ6_checkBoundsBeginEnd_6 : decode cJ6_checkBoundsBeginEnd 6 = .ok (.invokestatic 241, 3) := dk_184 0 241 (dk_at dksJ6_checkBoundsBeginEnd_0 6 rfl rfl)
theorem dJ6_checkBoundsBeginEnd_9 : decode cJ6_checkBoundsBeginEnd 9 = .ok (.return_, 1) := dk_177 (dk_at dksJ6_checkBoundsBeginEnd_0 9 rfl rfl)
abbrev cJ6_length : ByteArray := prog_26_method_6_code
def yJ6_length : MethodName := ⟨RJ6, "length", "([B)I"⟩
def dkwJ6_length_0 : List UInt8 := [42, 190, 4, 122, 172]
abbrev dktJ6_length_0 : List UInt8 := dkwJ6_length_0 ++ []
theorem dksJ6_length_0 : cJ6_length.data.toList.drop 0 = dktJ6_length_0 := by decide +kernel
theorem dJ6_length_0 : decode cJ6_length 0 = .ok (.aload_n 0, 1) := dk_42 (dk_at dksJ6_length_0 0 rfl rfl)
theorem dJ6_length_1 : decode cJ6_length 1 = .ok (.arraylength, 1) := dk_190 (dk_at dksJ6_length_0 1 rfl rfl)
theorem dJ6_length_2 : decode cJ6_length 2 = .ok (.iconst 1, 1) := dk_4 (dk_at dksJ6_length_0 2 rfl rfl)
theorem dJ6_length_3 : decode cJ6_length 3 = .ok (.ishr, 1) := dk_122 (dk_at dksJ6_length_0 3 rfl rfl)
theorem dJ6_length_4 : decode cJ6_length 4 = .ok (.ireturn, 1) := dk_172 (dk_at dksJ6_length_0 4 rfl rfl)
abbrev cJ6_indexOfCharUnsafe : ByteArray := prog_26_method_48_code
def yJ6_indexOfCharUnsafe : MethodName := ⟨RJ6, "indexOfCharUnsafe", "([BIII)I"⟩
def dkwJ6_indexOfCharUnsafe_1 : List UInt8 := [132, 4, 1, 167, 255, 234, 2, 172]
abbrev dktJ6_indexOfCharUnsafe_1 : List UInt8 := dkwJ6_indexOfCharUnsafe_1 ++ []
def dkwJ6_indexOfCharUnsafe_0 : List UInt8 := [28, 54, 4, 21, 4, 29, 162, 0, 22, 42, 21, 4, 184, 0, 71, 27, 160, 0, 6, 21, 4, 172]
abbrev dktJ6_indexOfCharUnsafe_0 : List UInt8 := dkwJ6_indexOfCharUnsafe_0 ++ dktJ6_indexOfCharUnsafe_1
theorem dksJ6_indexOfCharUnsafe_0 : cJ6_indexOfCharUnsafe.data.toList.drop 0 = dktJ6_indexOfCharUnsafe_0 := by decide +kernel
theorem dksJ6_indexOfCharUnsafe_1 : cJ6_indexOfCharUnsafe.data.toList.drop 22 = dktJ6_indexOfCharUnsafe_1 := dk_seg dksJ6_indexOfCharUnsafe_0 22 rfl rfl
theorem dJ6_indexOfCharUnsafe_0 : decode cJ6_indexOfCharUnsafe 0 = .ok (.iload_n 2, 1) := dk_28 (dk_at dksJ6_indexOfCharUnsafe_0 0 rfl rfl)
theorem dJ6_indexOfCharUnsafe_1 : decode cJ6_indexOfCharUnsafe 1 = .ok (.istore 4, 2) := dk_54 4 (dk_at dksJ6_indexOfCharUnsafe_0 1 rfl rfl)
theorem dJ6_indexOfCharUnsafe_3 : decode cJ6_indexOfCharUnsafe 3 = .ok (.iload 4, 2) := dk_21 4 (dk_at dksJ6_indexOfCharUnsafe_0 3 rfl rfl)
theorem dJ6_indexOfCharUnsafe_5 : decode cJ6_indexOfCharUnsafe 5 = .ok (.iload_n 3, 1) := dk_29 (dk_at dksJ6_indexOfCharUnsafe_0 5 rfl rfl)
theorem dJ6_indexOfCharUnsafe_6 : decode cJ6_indexOfCharUnsafe 6 = .ok (.if_icmp .ge 22, 3) := dk_162 0 22 (dk_at dksJ6_indexOfCharUnsafe_0 6 rfl rfl)
theorem dJ6_indexOfCharUnsafe_9 : decode cJ6_indexOfCharUnsafe 9 = .ok (.aload_n 0, 1) := dk_42 (dk_at dksJ6_indexOfCharUnsafe_0 9 rfl rfl)
theorem dJ6_indexOfCharUnsafe_10 : decode cJ6_indexOfCharUnsafe 10 = .ok (.iload 4, 2) := dk_21 4 (dk_at dksJ6_indexOfCharUnsafe_0 10 rfl rfl)
theorem dJ6_indexOfCharUnsafe_12 : decode cJ6_indexOfCharUnsafe 12 = .ok (.invokestatic 71, 3) := dk_184 0 71 (dk_at dksJ6_indexOfCharUnsafe_0 12 rfl rfl)
theorem dJ6_indexOfCharUnsafe_15 : decode cJ6_indexOfCharUnsafe 15 = .ok (.iload_n 1, 1) := dk_27 (dk_at dksJ6_indexOfCharUnsafe_0 15 rfl rfl)
theorem dJ6_indexOfCharUnsafe_16 : decode cJ6_indexOfCharUnsafe 16 = .ok (.if_icmp .ne 6, 3) := dk_160 0 6 (dk_at dksJ6_indexOfCharUnsafe_0 16 rfl rfl)
theorem dJ6_indexOfCharUnsafe_19 : decode cJ6_indexOfCharUnsafe 19 = .ok (.iload 4, 2) := dk_21 4 (dk_at dksJ6_indexOfCharUnsafe_0 19 rfl rfl)
theorem dJ6_indexOfCharUnsafe_21 : decode cJ6_indexOfCharUnsafe 21 = .ok (.ireturn, 1) := dk_172 (dk_at dksJ6_indexOfCharUnsafe_0 21 rfl rfl)
theorem dJ6_indexOfCharUnsafe_22 : decode cJ6_indexOfCharUnsafe 22 = .ok (.iinc 4 1, 3) := dk_132 4 1 (dk_at dksJ6_indexOfCharUnsafe_1 0 rfl rfl)
theorem dJ6_indexOfCharUnsafe_25 : decode cJ6_indexOfCharUnsafe 25 = .ok (.goto (-22), 3) := dk_167 255 234 (dk_at dksJ6_indexOfCharUnsafe_1 3 rfl rfl)
theorem dJ6_indexOfCharUnsafe_28 : decode cJ6_indexOfCharUnsafe 28 = .ok (.iconst (-1), 1) := dk_2 (dk_at dksJ6_indexOfCharUnsafe_1 6 rfl rfl)
theorem dJ6_indexOfCharUnsafe_29 : decode cJ6_indexOfCharUnsafe 29 = .ok (.ireturn, 1) := dk_172 (dk_at dksJ6_indexOfCharUnsafe_1 7 rfl rfl)
abbrev cJ6_getChar : ByteArray := prog_26_method_5_code
def yJ6_getChar : MethodName := ⟨RJ6, "getChar", "([BI)C"⟩
def dkwJ6_getChar_2 : List UInt8 := [51, 17, 0, 255, 126, 178, 0, 63, 120, 128, 146, 172]
abbrev dktJ6_getChar_2 : List UInt8 := dkwJ6_getChar_2 ++ []
def dkwJ6_getChar_1 : List UInt8 := [183, 0, 56, 191, 27, 4, 120, 60, 42, 27, 132, 1, 1, 51, 17, 0, 255, 126, 178, 0, 59, 120, 42, 27]
abbrev dktJ6_getChar_1 : List UInt8 := dkwJ6_getChar_1 ++ dktJ6_getChar_2
def dkwJ6_getChar_0 : List UInt8 := [178, 0, 44, 154, 0, 25, 27, 155, 0, 11, 27, 42, 184, 0, 48, 161, 0, 13, 187, 0, 52, 89, 18, 54]
abbrev dktJ6_getChar_0 : List UInt8 := dkwJ6_getChar_0 ++ dktJ6_getChar_1
theorem dksJ6_getChar_0 : cJ6_getChar.data.toList.drop 0 = dktJ6_getChar_0 := by decide +kernel
theorem dksJ6_getChar_1 : cJ6_getChar.data.toList.drop 24 = dktJ6_getChar_1 := dk_seg dksJ6_getChar_0 24 rfl rfl
theorem dksJ6_getChar_2 : cJ6_getChar.data.toList.drop 48 = dktJ6_getChar_2 := dk_seg dksJ6_getChar_1 24 rfl rfl
theorem dJ6_getChar_0 : decode cJ6_getChar 0 = .ok (.getstatic 44, 3) := dk_178 0 44 (dk_at dksJ6_getChar_0 0 rfl rfl)
theorem dJ6_getChar_3 : decode cJ6_getChar 3 = .ok (.ifCond .ne 25, 3) := dk_154 0 25 (dk_at dksJ6_getChar_0 3 rfl rfl)
theorem dJ6_getChar_6 : decode cJ6_getChar 6 = .ok (.iload_n 1, 1) := dk_27 (dk_at dksJ6_getChar_0 6 rfl rfl)
theorem dJ6_getChar_7 : decode cJ6_getChar 7 = .ok (.ifCond .lt 11, 3) := dk_155 0 11 (dk_at dksJ6_getChar_0 7 rfl rfl)
theorem dJ6_getChar_10 : decode cJ6_getChar 10 = .ok (.iload_n 1, 1) := dk_27 (dk_at dksJ6_getChar_0 10 rfl rfl)
theorem dJ6_getChar_11 : decode cJ6_getChar 11 = .ok (.aload_n 0, 1) := dk_42 (dk_at dksJ6_getChar_0 11 rfl rfl)
theorem dJ6_getChar_12 : decode cJ6_getChar 12 = .ok (.invokestatic 48, 3) := dk_184 0 48 (dk_at dksJ6_getChar_0 12 rfl rfl)
theorem dJ6_getChar_15 : decode cJ6_getChar 15 = .ok (.if_icmp .lt 13, 3) := dk_161 0 13 (dk_at dksJ6_getChar_0 15 rfl rfl)
theorem dJ6_getChar_18 : decode cJ6_getChar 18 = .ok (.new 52, 3) := dk_187 0 52 (dk_at dksJ6_getChar_0 18 rfl rfl)
theorem dJ6_getChar_21 : decode cJ6_getChar 21 = .ok (.dup, 1) := dk_89 (dk_at dksJ6_getChar_0 21 rfl rfl)
theorem dJ6_getChar_22 : decode cJ6_getChar 22 = .ok (.ldc 54, 2) := dk_18 54 (dk_at dksJ6_getChar_0 22 rfl rfl)
theorem dJ6_getChar_24 : decode cJ6_getChar 24 = .ok (.invokespecial 56, 3) := dk_183 0 56 (dk_at dksJ6_getChar_1 0 rfl rfl)
theorem dJ6_getChar_27 : decode cJ6_getChar 27 = .ok (.athrow, 1) := dk_191 (dk_at dksJ6_getChar_1 3 rfl rfl)
theorem dJ6_getChar_28 : decode cJ6_getChar 28 = .ok (.iload_n 1, 1) := dk_27 (dk_at dksJ6_getChar_1 4 rfl rfl)
theorem dJ6_getChar_29 : decode cJ6_getChar 29 = .ok (.iconst 1, 1) := dk_4 (dk_at dksJ6_getChar_1 5 rfl rfl)
theorem dJ6_getChar_30 : decode cJ6_getChar 30 = .ok (.ishl, 1) := dk_120 (dk_at dksJ6_getChar_1 6 rfl rfl)
theorem dJ6_getChar_31 : decode cJ6_getChar 31 = .ok (.istore_n 1, 1) := dk_60 (dk_at dksJ6_getChar_1 7 rfl rfl)
theorem dJ6_getChar_32 : decode cJ6_getChar 32 = .ok (.aload_n 0, 1) := dk_42 (dk_at dksJ6_getChar_1 8 rfl rfl)
theorem dJ6_getChar_33 : decode cJ6_getChar 33 = .ok (.iload_n 1, 1) := dk_27 (dk_at dksJ6_getChar_1 9 rfl rfl)
theorem dJ6_getChar_34 : decode cJ6_getChar 34 = .ok (.iinc 1 1, 3) := dk_132 1 1 (dk_at dksJ6_getChar_1 10 rfl rfl)
theorem dJ6_getChar_37 : decode cJ6_getChar 37 = .ok (.baload, 1) := dk_51 (dk_at dksJ6_getChar_1 13 rfl rfl)
theorem dJ6_getChar_38 : decode cJ6_getChar 38 = .ok (.sipush 255, 3) := dk_17 0 255 (dk_at dksJ6_getChar_1 14 rfl rfl)
theorem dJ6_getChar_41 : decode cJ6_getChar 41 = .ok (.iand, 1) := dk_126 (dk_at dksJ6_getChar_1 17 rfl rfl)
theorem dJ6_getChar_42 : decode cJ6_getChar 42 = .ok (.getstatic 59, 3) := dk_178 0 59 (dk_at dksJ6_getChar_1 18 rfl rfl)
theorem dJ6_getChar_45 : decode cJ6_getChar 45 = .ok (.ishl, 1) := dk_120 (dk_at dksJ6_getChar_1 21 rfl rfl)
theorem dJ6_getChar_46 : decode cJ6_getChar 46 = .ok (.aload_n 0, 1) := dk_42 (dk_at dksJ6_getChar_1 22 rfl rfl)
theorem dJ6_getChar_47 : decode cJ6_getChar 47 = .ok (.iload_n 1, 1) := dk_27 (dk_at dksJ6_getChar_1 23 rfl rfl)
theorem dJ6_getChar_48 : decode cJ6_getChar 48 = .ok (.baload, 1) := dk_51 (dk_at dksJ6_getChar_2 0 rfl rfl)
theorem dJ6_getChar_49 : decode cJ6_getChar 49 = .ok (.sipush 255, 3) := dk_17 0 255 (dk_at dksJ6_getChar_2 1 rfl rfl)
theorem dJ6_getChar_52 : decode cJ6_getChar 52 = .ok (.iand, 1) := dk_126 (dk_at dksJ6_getChar_2 4 rfl rfl)
theorem dJ6_getChar_53 : decode cJ6_getChar 53 = .ok (.getstatic 63, 3) := dk_178 0 63 (dk_at dksJ6_getChar_2 5 rfl rfl)
theorem dJ6_getChar_56 : decode cJ6_getChar 56 = .ok (.ishl, 1) := dk_120 (dk_at dksJ6_getChar_2 8 rfl rfl)
theorem dJ6_getChar_57 : decode cJ6_getChar 57 = .ok (.ior, 1) := dk_128 (dk_at dksJ6_getChar_2 9 rfl rfl)
theorem dJ6_getChar_58 : decode cJ6_getChar 58 = .ok (.i2c, 1) := dk_146 (dk_at dksJ6_getChar_2 10 rfl rfl)
theorem dJ6_getChar_59 : decode cJ6_getChar 59 = .ok (.ireturn, 1) := dk_172 (dk_at dksJ6_getChar_2 11 rfl rfl)
abbrev cJ6_indexOfSupplementary : ByteArray := prog_26_method_49_code
def yJ6_indexOfSupplementary : MethodName := ⟨RJ6, "indexOfSupplementary", "([BIII)I"⟩
def dkwJ6_indexOfSupplementary_3 : List UInt8 := [167, 255, 218, 2, 172]
abbrev dktJ6_indexOfSupplementary_3 : List UInt8 := dkwJ6_indexOfSupplementary_3 ++ []
def dkwJ6_indexOfSupplementary_2 : List UInt8 := [160, 0, 19, 42, 21, 6, 4, 96, 184, 0, 71, 21, 5, 160, 0, 6, 21, 6, 172, 132, 6, 1]
abbrev dktJ6_indexOfSupplementary_2 : List UInt8 := dkwJ6_indexOfSupplementary_2 ++ dktJ6_indexOfSupplementary_3
def dkwJ6_indexOfSupplementary_1 : List UInt8 := [184, 0, 96, 28, 54, 6, 21, 6, 29, 4, 100, 162, 0, 36, 42, 21, 6, 184, 0, 71, 21, 4]
abbrev dktJ6_indexOfSupplementary_1 : List UInt8 := dkwJ6_indexOfSupplementary_1 ++ dktJ6_indexOfSupplementary_2
def dkwJ6_indexOfSupplementary_0 : List UInt8 := [27, 184, 0, 164, 153, 0, 65, 27, 184, 0, 157, 54, 4, 27, 184, 0, 161, 54, 5, 28, 29, 42]
abbrev dktJ6_indexOfSupplementary_0 : List UInt8 := dkwJ6_indexOfSupplementary_0 ++ dktJ6_indexOfSupplementary_1
theorem dksJ6_indexOfSupplementary_0 : cJ6_indexOfSupplementary.data.toList.drop 0 = dktJ6_indexOfSupplementary_0 := by decide +kernel
theorem dksJ6_indexOfSupplementary_1 : cJ6_indexOfSupplementary.data.toList.drop 22 = dktJ6_indexOfSupplementary_1 := dk_seg dksJ6_indexOfSupplementary_0 22 rfl rfl
theorem dksJ6_indexOfSupplementary_2 : cJ6_indexOfSupplementary.data.toList.drop 44 = dktJ6_indexOfSupplementary_2 := dk_seg dksJ6_indexOfSupplementary_1 22 rfl rfl
theorem dksJ6_indexOfSupplementary_3 : cJ6_indexOfSupplementary.data.toList.drop 66 = dktJ6_indexOfSupplementary_3 := dk_seg dksJ6_indexOfSupplementary_2 22 rfl rfl
theorem dJ6_indexOfSupplementary_0 : decode cJ6_indexOfSupplementary 0 = .ok (.iload_n 1, 1) := dk_27 (dk_at dksJ6_indexOfSupplementary_0 0 rfl rfl)
theorem dJ6_indexOfSupplementary_1 : decode cJ6_indexOfSupplementary 1 = .ok (.invokestatic 164, 3) := dk_184 0 164 (dk_at dksJ6_indexOfSupplementary_0 1 rfl rfl)
theorem dJ6_indexOfSupplementary_4 : decode cJ6_indexOfSupplementary 4 = .ok (.ifCond .eq 65, 3) := dk_153 0 65 (dk_at dksJ6_indexOfSupplementary_0 4 rfl rfl)
theorem dJ6_indexOfSupplementary_7 : decode cJ6_indexOfSupplementary 7 = .ok (.iload_n 1, 1) := dk_27 (dk_at dksJ6_indexOfSupplementary_0 7 rfl rfl)
theorem dJ6_indexOfSupplementary_8 : decode cJ6_indexOfSupplementary 8 = .ok (.invokestatic 157, 3) := dk_184 0 157 (dk_at dksJ6_indexOfSupplementary_0 8 rfl rfl)
theorem dJ6_indexOfSupplementary_11 : decode cJ6_indexOfSupplementary 11 = .ok (.istore 4, 2) := dk_54 4 (dk_at dksJ6_indexOfSupplementary_0 11 rfl rfl)
theorem dJ6_indexOfSupplementary_13 : decode cJ6_indexOfSupplementary 13 = .ok (.iload_n 1, 1) := dk_27 (dk_at dksJ6_indexOfSupplementary_0 13 rfl rfl)
theorem dJ6_indexOfSupplementary_14 : decode cJ6_indexOfSupplementary 14 = .ok (.invokestatic 161, 3) := dk_184 0 161 (dk_at dksJ6_indexOfSupplementary_0 14 rfl rfl)
theorem dJ6_indexOfSupplementary_17 : decode cJ6_indexOfSupplementary 17 = .ok (.istore 5, 2) := dk_54 5 (dk_at dksJ6_indexOfSupplementary_0 17 rfl rfl)
theorem dJ6_indexOfSupplementary_19 : decode cJ6_indexOfSupplementary 19 = .ok (.iload_n 2, 1) := dk_28 (dk_at dksJ6_indexOfSupplementary_0 19 rfl rfl)
theorem dJ6_indexOfSupplementary_20 : decode cJ6_indexOfSupplementary 20 = .ok (.iload_n 3, 1) := dk_29 (dk_at dksJ6_indexOfSupplementary_0 20 rfl rfl)
theorem dJ6_indexOfSupplementary_21 : decode cJ6_indexOfSupplementary 21 = .ok (.aload_n 0, 1) := dk_42 (dk_at dksJ6_indexOfSupplementary_0 21 rfl rfl)
theorem dJ6_indexOfSupplementary_22 : decode cJ6_indexOfSupplementary 22 = .ok (.invokestatic 96, 3) := dk_184 0 96 (dk_at dksJ6_indexOfSupplementary_1 0 rfl rfl)
theorem dJ6_indexOfSupplementary_25 : decode cJ6_indexOfSupplementary 25 = .ok (.iload_n 2, 1) := dk_28 (dk_at dksJ6_indexOfSupplementary_1 3 rfl rfl)
theorem dJ6_indexOfSupplementary_26 : decode cJ6_indexOfSupplementary 26 = .ok (.istore 6, 2) := dk_54 6 (dk_at dksJ6_indexOfSupplementary_1 4 rfl rfl)
theorem dJ6_indexOfSupplementary_28 : decode cJ6_indexOfSupplementary 28 = .ok (.iload 6, 2) := dk_21 6 (dk_at dksJ6_indexOfSupplementary_1 6 rfl rfl)
theorem dJ6_indexOfSupplementary_30 : decode cJ6_indexOfSupplementary 30 = .ok (.iload_n 3, 1) := dk_29 (dk_at dksJ6_indexOfSupplementary_1 8 rfl rfl)
theorem dJ6_indexOfSupplementary_31 : decode cJ6_indexOfSupplementary 31 = .ok (.iconst 1, 1) := dk_4 (dk_at dksJ6_indexOfSupplementary_1 9 rfl rfl)
theorem dJ6_indexOfSupplementary_32 : decode cJ6_indexOfSupplementary 32 = .ok (.isub, 1) := dk_100 (dk_at dksJ6_indexOfSupplementary_1 10 rfl rfl)
theorem dJ6_indexOfSupplementary_33 : decode cJ6_indexOfSupplementary 33 = .ok (.if_icmp .ge 36, 3) := dk_162 0 36 (dk_at dksJ6_indexOfSupplementary_1 11 rfl rfl)
theorem dJ6_indexOfSupplementary_36 : decode cJ6_indexOfSupplementary 36 = .ok (.aload_n 0, 1) := dk_42 (dk_at dksJ6_indexOfSupplementary_1 14 rfl rfl)
theorem dJ6_indexOfSupplementary_37 : decode cJ6_indexOfSupplementary 37 = .ok (.iload 6, 2) := dk_21 6 (dk_at dksJ6_indexOfSupplementary_1 15 rfl rfl)
theorem dJ6_indexOfSupplementary_39 : decode cJ6_indexOfSupplementary 39 = .ok (.invokestatic 71, 3) := dk_184 0 71 (dk_at dksJ6_indexOfSupplementary_1 17 rfl rfl)
theorem dJ6_indexOfSupplementary_42 : decode cJ6_indexOfSupplementary 42 = .ok (.iload 4, 2) := dk_21 4 (dk_at dksJ6_indexOfSupplementary_1 20 rfl rfl)
theorem dJ6_indexOfSupplementary_44 : decode cJ6_indexOfSupplementary 44 = .ok (.if_icmp .ne 19, 3) := dk_160 0 19 (dk_at dksJ6_indexOfSupplementary_2 0 rfl rfl)
theorem dJ6_indexOfSupplementary_47 : decode cJ6_indexOfSupplementary 47 = .ok (.aload_n 0, 1) := dk_42 (dk_at dksJ6_indexOfSupplementary_2 3 rfl rfl)
theorem dJ6_indexOfSupplementary_48 : decode cJ6_indexOfSupplementary 48 = .ok (.iload 6, 2) := dk_21 6 (dk_at dksJ6_indexOfSupplementary_2 4 rfl rfl)
theorem dJ6_indexOfSupplementary_50 : decode cJ6_indexOfSupplementary 50 = .ok (.iconst 1, 1) := dk_4 (dk_at dksJ6_indexOfSupplementary_2 6 rfl rfl)
theorem dJ6_indexOfSupplementary_51 : decode cJ6_indexOfSupplementary 51 = .ok (.iadd, 1) := dk_96 (dk_at dksJ6_indexOfSupplementary_2 7 rfl rfl)
theorem dJ6_indexOfSupplementary_52 : decode cJ6_indexOfSupplementary 52 = .ok (.invokestatic 71, 3) := dk_184 0 71 (dk_at dksJ6_indexOfSupplementary_2 8 rfl rfl)
theorem dJ6_indexOfSupplementary_55 : decode cJ6_indexOfSupplementary 55 = .ok (.iload 5, 2) := dk_21 5 (dk_at dksJ6_indexOfSupplementary_2 11 rfl rfl)
theorem dJ6_indexOfSupplementary_57 : decode cJ6_indexOfSupplementary 57 = .ok (.if_icmp .ne 6, 3) := dk_160 0 6 (dk_at dksJ6_indexOfSupplementary_2 13 rfl rfl)
theorem dJ6_indexOfSupplementary_60 : decode cJ6_indexOfSupplementary 60 = .ok (.iload 6, 2) := dk_21 6 (dk_at dksJ6_indexOfSupplementary_2 16 rfl rfl)
theorem dJ6_indexOfSupplementary_62 : decode cJ6_indexOfSupplementary 62 = .ok (.ireturn, 1) := dk_172 (dk_at dksJ6_indexOfSupplementary_2 18 rfl rfl)
theorem dJ6_indexOfSupplementary_63 : decode cJ6_indexOfSupplementary 63 = .ok (.iinc 6 1, 3) := dk_132 6 1 (dk_at dksJ6_indexOfSupplementary_2 19 rfl rfl)
theorem dJ6_indexOfSupplementary_66 : decode cJ6_indexOfSupplementary 66 = .ok (.goto (-38), 3) := dk_167 255 218 (dk_at dksJ6_indexOfSupplementary_3 0 rfl rfl)
theorem dJ6_indexOfSupplementary_69 : decode cJ6_indexOfSupplementary 69 = .ok (.iconst (-1), 1) := dk_2 (dk_at dksJ6_indexOfSupplementary_3 3 rfl rfl)
theorem dJ6_indexOfSupplementary_70 : decode cJ6_indexOfSupplementary 70 = .ok (.ireturn, 1) := dk_172 (dk_at dksJ6_indexOfSupplementary_3 4 rfl rfl)
abbrev cJ6_charAt : ByteArray := prog_26_method_83_code
def yJ6_charAt : MethodName := ⟨RJ6, "charAt", "([BI)C"⟩
def dkwJ6_charAt_0 : List UInt8 := [27, 42, 184, 0, 67, 42, 27, 184, 0, 71, 172]
abbrev dktJ6_charAt_0 : List UInt8 := dkwJ6_charAt_0 ++ []
theorem dksJ6_charAt_0 : cJ6_charAt.data.toList.drop 0 = dktJ6_charAt_0 := by decide +kernel
theorem dJ6_charAt_0 : decode cJ6_charAt 0 = .ok (.iload_n 1, 1) := dk_27 (dk_at dksJ6_charAt_0 0 rfl rfl)
theorem dJ6_charAt_1 : decode cJ6_charAt 1 = .ok (.aload_n 0, 1) := dk_42 (dk_at dksJ6_charAt_0 1 rfl rfl)
theorem dJ6_charAt_2 : decode cJ6_charAt 2 = .ok (.invokestatic 67, 3) := dk_184 0 67 (dk_at dksJ6_charAt_0 2 rfl rfl)
theorem dJ6_charAt_5 : decode cJ6_charAt 5 = .ok (.aload_n 0, 1) := dk_42 (dk_at dksJ6_charAt_0 5 rfl rfl)
theorem dJ6_charAt_6 : decode cJ6_charAt 6 = .ok (.iload_n 1, 1) := dk_27 (dk_at dksJ6_charAt_0 6 rfl rfl)
theorem dJ6_charAt_7 : decode cJ6_charAt 7 = .ok (.invokestatic 71, 3) := dk_184 0 71 (dk_at dksJ6_charAt_0 7 rfl rfl)
theorem dJ6_charAt_10 : decode cJ6_charAt 10 = .ok (.ireturn, 1) := dk_172 (dk_at dksJ6_charAt_0 10 rfl rfl)
abbrev cJ6_checkIndex : ByteArray := prog_26_method_91_code
def yJ6_checkIndex : MethodName := ⟨RJ6, "checkIndex", "(I[B)V"⟩
def dkwJ6_checkIndex_0 : List UInt8 := [26, 43, 184, 0, 48, 184, 1, 158, 177]
abbrev dktJ6_checkIndex_0 : List UInt8 := dkwJ6_checkIndex_0 ++ []
theorem dksJ6_checkIndex_0 : cJ6_checkIndex.data.toList.drop 0 = dktJ6_checkIndex_0 := by decide +kernel
theorem dJ6_checkIndex_0 : decode cJ6_checkIndex 0 = .ok (.iload_n 0, 1) := dk_26 (dk_at dksJ6_checkIndex_0 0 rfl rfl)
theorem dJ6_checkIndex_1 : decode cJ6_checkIndex 1 = .ok (.aload_n 1, 1) := dk_43 (dk_at dksJ6_checkIndex_0 1 rfl rfl)
theorem dJ6_checkIndex_2 : decode cJ6_checkIndex 2 = .ok (.invokestatic 48, 3) := dk_184 0 48 (dk_at dksJ6_checkIndex_0 2 rfl rfl)
theorem dJ6_checkIndex_5 : decode cJ6_checkIndex 5 = .ok (.invokestatic 414, 3) := dk_184 1 158 (dk_at dksJ6_checkIndex_0 5 rfl rfl)
theorem dJ6_checkIndex_8 : decode cJ6_checkIndex 8 = .ok (.return_, 1) := dk_177 (dk_at dksJ6_checkIndex_0 8 rfl rfl)
theorem q124 : (Jvm.Cond.initialized "java/lang/StringUTF16") ∈ lw_all := lw_g (lw_at lw_m1 15 rfl) rfl
theorem q627 : (Jvm.Cond.static ({ cls := "java/lang/StringUTF16", name := "indexOf", desc := "([BIII)I" } : Jvm.MethodName)) ∈ lw_all := lw_g (lw_at lw_m3 38 rfl) rfl
theorem q628 : (Jvm.Cond.code ({ cls := "java/lang/StringUTF16", name := "indexOf", desc := "([BIII)I" } : Jvm.MethodName) prog_26_method_40_code (4 : Nat) (Option.some Jvm.ClassFile.FieldType.int)) ∈ lw_all := lw_g (lw_at lw_m3 39 rfl) rfl
theorem q629 : (Jvm.Cond.methodLink "java/lang/StringUTF16" (224 : Nat) ({ cls := "java/lang/Math", name := "max", desc := "(II)I" } : Jvm.MethodName)) ∈ lw_all := lw_g (lw_at lw_m3 40 rfl) rfl
theorem q630 : (Jvm.Cond.methodLink "java/lang/StringUTF16" (183 : Nat) ({ cls := "java/lang/Math", name := "min", desc := "(II)I" } : Jvm.MethodName)) ∈ lw_all := lw_g (lw_at lw_m3 41 rfl) rfl
theorem q631 : (Jvm.Cond.constant "java/lang/StringUTF16" (227 : Nat) (65536 : Int32)) ∈ lw_all := lw_g (lw_at lw_m3 42 rfl) rfl
theorem q632 : (Jvm.Cond.methodLink "java/lang/StringUTF16" (228 : Nat) ({ cls := "java/lang/StringUTF16", name := "indexOfChar", desc := "([BIII)I" } : Jvm.MethodName)) ∈ lw_all := lw_g (lw_at lw_m3 43 rfl) rfl
theorem q633 : (Jvm.Cond.static ({ cls := "java/lang/StringUTF16", name := "indexOfChar", desc := "([BIII)I" } : Jvm.MethodName)) ∈ lw_all := lw_g (lw_at lw_m3 44 rfl) rfl
theorem q634 : (Jvm.Cond.code ({ cls := "java/lang/StringUTF16", name := "indexOfChar", desc := "([BIII)I" } : Jvm.MethodName) prog_26_method_47_code (4 : Nat) (Option.some Jvm.ClassFile.FieldType.int)) ∈ lw_all := lw_g (lw_at lw_m3 45 rfl) rfl
theorem q635 : (Jvm.Cond.methodLink "java/lang/StringUTF16" (96 : Nat) ({ cls := "java/lang/StringUTF16", name := "checkBoundsBeginEnd", desc := "(II[B)V" } : Jvm.MethodName)) ∈ lw_all := lw_g (lw_at lw_m3 46 rfl) rfl
theorem q636 : (Jvm.Cond.static ({ cls := "java/lang/StringUTF16", name := "checkBoundsBeginEnd", desc := "(II[B)V" } : Jvm.MethodName)) ∈ lw_all := lw_g (lw_at lw_m3 47 rfl) rfl
theorem q637 : (Jvm.Cond.code ({ cls := "java/lang/StringUTF16", name := "checkBoundsBeginEnd", desc := "(II[B)V" } : Jvm.MethodName) prog_26_method_93_code (3 : Nat) (Option.none : Option Jvm.ClassFile.FieldType)) ∈ lw_all := lw_g (lw_at lw_m3 48 rfl) rfl
theorem q638 : (Jvm.Cond.methodLink "java/lang/StringUTF16" (48 : Nat) ({ cls := "java/lang/StringUTF16", name := "length", desc := "([B)I" } : Jvm.MethodName)) ∈ lw_all := lw_g (lw_at lw_m3 49 rfl) rfl
theorem q639 : (Jvm.Cond.static ({ cls := "java/lang/StringUTF16", name := "length", desc := "([B)I" } : Jvm.MethodName)) ∈ lw_all := lw_g (lw_at lw_m3 50 rfl) rfl
theorem q640 : (Jvm.Cond.code ({ cls := "java/lang/StringUTF16", name := "length", desc := "([B)I" } : Jvm.MethodName) prog_26_method_6_code (1 : Nat) (Option.some Jvm.ClassFile.FieldType.int)) ∈ lw_all := lw_g (lw_at lw_m3 51 rfl) rfl
theorem q641 : (Jvm.Cond.methodLink "java/lang/StringUTF16" (241 : Nat) ({ cls := "java/lang/String", name := "checkBoundsBeginEnd", desc := "(III)V" } : Jvm.MethodName)) ∈ lw_all := lw_g (lw_at lw_m3 52 rfl) rfl
theorem q649 : (Jvm.Cond.methodLink "java/lang/StringUTF16" (244 : Nat) ({ cls := "java/lang/StringUTF16", name := "indexOfCharUnsafe", desc := "([BIII)I" } : Jvm.MethodName)) ∈ lw_all := lw_g (lw_at lw_m3 60 rfl) rfl
theorem q650 : (Jvm.Cond.static ({ cls := "java/lang/StringUTF16", name := "indexOfCharUnsafe", desc := "([BIII)I" } : Jvm.MethodName)) ∈ lw_all := lw_g (lw_at lw_m3 61 rfl) rfl
theorem q651 : (Jvm.Cond.code ({ cls := "java/lang/StringUTF16", name := "indexOfCharUnsafe", desc := "([BIII)I" } : Jvm.MethodName) prog_26_method_48_code (5 : Nat) (Option.some Jvm.ClassFile.FieldType.int)) ∈ lw_all := lw_g (lw_at lw_m3 62 rfl) rfl
theorem q652 : (Jvm.Cond.methodLink "java/lang/StringUTF16" (71 : Nat) ({ cls := "java/lang/StringUTF16", name := "getChar", desc := "([BI)C" } : Jvm.MethodName)) ∈ lw_all := lw_g (lw_at lw_m3 63 rfl) rfl
theorem q653 : (Jvm.Cond.static ({ cls := "java/lang/StringUTF16", name := "getChar", desc := "([BI)C" } : Jvm.MethodName)) ∈ lw_all := lw_g (lw_at lw_m3 64 rfl) rfl
theorem q654 : (Jvm.Cond.code ({ cls := "java/lang/StringUTF16", name := "getChar", desc := "([BI)C" } : Jvm.MethodName) prog_26_method_5_code (2 : Nat) (Option.some Jvm.ClassFile.FieldType.char)) ∈ lw_all := lw_g (lw_at lw_m3 65 rfl) rfl
theorem q655 : (Jvm.Cond.fieldLink "java/lang/StringUTF16" (44 : Nat) "java/lang/StringUTF16" "$assertionsDisabled" "Z") ∈ lw_all := lw_g (lw_at lw_m3 66 rfl) rfl
theorem q656 : (Jvm.Cond.laysStatic "java/lang/StringUTF16" "$assertionsDisabled" "Z") ∈ lw_tbl := lw_at lw_m3 67 rfl
theorem q657 : (Jvm.Cond.fieldLink "java/lang/StringUTF16" (59 : Nat) "java/lang/StringUTF16" "HI_BYTE_SHIFT" "I") ∈ lw_all := lw_g (lw_at lw_m3 68 rfl) rfl
theorem q658 : (Jvm.Cond.laysStatic "java/lang/StringUTF16" "HI_BYTE_SHIFT" "I") ∈ lw_tbl := lw_at lw_m3 69 rfl
theorem q659 : (Jvm.Cond.fieldLink "java/lang/StringUTF16" (63 : Nat) "java/lang/StringUTF16" "LO_BYTE_SHIFT" "I") ∈ lw_all := lw_g (lw_at lw_m3 70 rfl) rfl
theorem q660 : (Jvm.Cond.laysStatic "java/lang/StringUTF16" "LO_BYTE_SHIFT" "I") ∈ lw_tbl := lw_at lw_m3 71 rfl
theorem q661 : (Jvm.Cond.methodLink "java/lang/StringUTF16" (232 : Nat) ({ cls := "java/lang/StringUTF16", name := "indexOfSupplementary", desc := "([BIII)I" } : Jvm.MethodName)) ∈ lw_all := lw_g (lw_at lw_m3 72 rfl) rfl
theorem q662 : (Jvm.Cond.static ({ cls := "java/lang/StringUTF16", name := "indexOfSupplementary", desc := "([BIII)I" } : Jvm.MethodName)) ∈ lw_all := lw_g (lw_at lw_m3 73 rfl) rfl
theorem q663 : (Jvm.Cond.code ({ cls := "java/lang/StringUTF16", name := "indexOfSupplementary", desc := "([BIII)I" } : Jvm.MethodName) prog_26_method_49_code (7 : Nat) (Option.some Jvm.ClassFile.FieldType.int)) ∈ lw_all := lw_g (lw_at lw_m3 74 rfl) rfl
theorem q664 : (Jvm.Cond.methodLink "java/lang/StringUTF16" (164 : Nat) ({ cls := "java/lang/Character", name := "isValidCodePoint", desc := "(I)Z" } : Jvm.MethodName)) ∈ lw_all := lw_g (lw_at lw_m3 75 rfl) rfl
theorem q667 : (Jvm.Cond.methodLink "java/lang/StringUTF16" (157 : Nat) ({ cls := "java/lang/Character", name := "highSurrogate", desc := "(I)C" } : Jvm.MethodName)) ∈ lw_all := lw_g (lw_at lw_m3 78 rfl) rfl
theorem q671 : (Jvm.Cond.methodLink "java/lang/StringUTF16" (161 : Nat) ({ cls := "java/lang/Character", name := "lowSurrogate", desc := "(I)C" } : Jvm.MethodName)) ∈ lw_all := lw_g (lw_at lw_m3 82 rfl) rfl
theorem q1481 : (Jvm.Cond.static ({ cls := "java/lang/StringUTF16", name := "charAt", desc := "([BI)C" } : Jvm.MethodName)) ∈ lw_all := lw_g (lw_at lw_m6 172 rfl) rfl
theorem q1482 : (Jvm.Cond.code ({ cls := "java/lang/StringUTF16", name := "charAt", desc := "([BI)C" } : Jvm.MethodName) prog_26_method_83_code (2 : Nat) (Option.some Jvm.ClassFile.FieldType.char)) ∈ lw_all := lw_g (lw_at lw_m6 173 rfl) rfl
theorem q1483 : (Jvm.Cond.methodLink "java/lang/StringUTF16" (67 : Nat) ({ cls := "java/lang/StringUTF16", name := "checkIndex", desc := "(I[B)V" } : Jvm.MethodName)) ∈ lw_all := lw_g (lw_at lw_m6 174 rfl) rfl
theorem q1484 : (Jvm.Cond.static ({ cls := "java/lang/StringUTF16", name := "checkIndex", desc := "(I[B)V" } : Jvm.MethodName)) ∈ lw_all := lw_g (lw_at lw_m6 175 rfl) rfl
theorem q1485 : (Jvm.Cond.code ({ cls := "java/lang/StringUTF16", name := "checkIndex", desc := "(I[B)V" } : Jvm.MethodName) prog_26_method_91_code (2 : Nat) (Option.none : Option Jvm.ClassFile.FieldType)) ∈ lw_all := lw_g (lw_at lw_m6 176 rfl) rfl
theorem q1486 : (Jvm.Cond.methodLink "java/lang/StringUTF16" (414 : Nat) ({ cls := "java/lang/String", name := "checkIndex", desc := "(II)V" } : Jvm.MethodName)) ∈ lw_all := lw_g (lw_at lw_m6 177 rfl) rfl

/-! java/lang/Character -/
set_option maxRecDepth 100000
def RJ7 : String := "java/lang/Character"
abbrev cJ7_isValidCodePoint : ByteArray := prog_15_method_11_code
def yJ7_isValidCodePoint : MethodName := ⟨RJ7, "isValidCodePoint", "(I)Z"⟩
def dkwJ7_isValidCodePoint_0 : List UInt8 := [26, 16, 16, 124, 60, 27, 16, 17, 162, 0, 7, 4, 167, 0, 4, 3, 172]
abbrev dktJ7_isValidCodePoint_0 : List UInt8 := dkwJ7_isValidCodePoint_0 ++ []
theorem dksJ7_isValidCodePoint_0 : cJ7_isValidCodePoint.data.toList.drop 0 = dktJ7_isValidCodePoint_0 := by decide +kernel
theorem dJ7_isValidCodePoint_0 : decode cJ7_isValidCodePoint 0 = .ok (.iload_n 0, 1) := dk_26 (dk_at dksJ7_isValidCodePoint_0 0 rfl rfl)
theorem dJ7_isValidCodePoint_1 : decode cJ7_isValidCodePoint 1 = .ok (.bipush 16, 2) := dk_16 16 (dk_at dksJ7_isValidCodePoint_0 1 rfl rfl)
theorem dJ7_isValidCodePoint_3 : decode cJ7_isValidCodePoint 3 = .ok (.iushr, 1) := dk_124 (dk_at dksJ7_isValidCodePoint_0 3 rfl rfl)
theorem dJ7_isValidCodePoint_4 : decode cJ7_isValidCodePoint 4 = .ok (.istore_n 1, 1) := dk_60 (dk_at dksJ7_isValidCodePoint_0 4 rfl rfl)
theorem dJ7_isValidCodePoint_5 : decode cJ7_isValidCodePoint 5 = .ok (.iload_n 1, 1) := dk_27 (dk_at dksJ7_isValidCodePoint_0 5 rfl rfl)
theorem dJ7_isValidCodePoint_6 : decode cJ7_isValidCodePoint 6 = .ok (.bipush 17, 2) := dk_16 17 (dk_at dksJ7_isValidCodePoint_0 6 rfl rfl)
theorem dJ7_isValidCodePoint_8 : decode cJ7_isValidCodePoint 8 = .ok (.if_icmp .ge 7, 3) := dk_162 0 7 (dk_at dksJ7_isValidCodePoint_0 8 rfl rfl)
theorem dJ7_isValidCodePoint_11 : decode cJ7_isValidCodePoint 11 = .ok (.iconst 1, 1) := dk_4 (dk_at dksJ7_isValidCodePoint_0 11 rfl rfl)
theorem dJ7_isValidCodePoint_12 : decode cJ7_isValidCodePoint 12 = .ok (.goto 4, 3) := dk_167 0 4 (dk_at dksJ7_isValidCodePoint_0 12 rfl rfl)
theorem dJ7_isValidCodePoint_15 : decode cJ7_isValidCodePoint 15 = .ok (.iconst 0, 1) := dk_3 (dk_at dksJ7_isValidCodePoint_0 15 rfl rfl)
theorem dJ7_isValidCodePoint_16 : decode cJ7_isValidCodePoint 16 = .ok (.ireturn, 1) := dk_172 (dk_at dksJ7_isValidCodePoint_0 16 rfl rfl)
abbrev cJ7_highSurrogate : ByteArray := prog_15_method_28_code
def yJ7_highSurrogate : MethodName := ⟨RJ7, "highSurrogate", "(I)C"⟩
def dkwJ7_highSurrogate_0 : List UInt8 := [26, 16, 10, 124, 18, 110, 96, 146, 172]
abbrev dktJ7_highSurrogate_0 : List UInt8 := dkwJ7_highSurrogate_0 ++ []
theorem dksJ7_highSurrogate_0 : cJ7_highSurrogate.data.toList.drop 0 = dktJ7_highSurrogate_0 := by decide +kernel
theorem dJ7_highSurrogate_0 : decode cJ7_highSurrogate 0 = .ok (.iload_n 0, 1) := dk_26 (dk_at dksJ7_highSurrogate_0 0 rfl rfl)
theorem dJ7_highSurrogate_1 : decode cJ7_highSurrogate 1 = .ok (.bipush 10, 2) := dk_16 10 (dk_at dksJ7_highSurrogate_0 1 rfl rfl)
theorem dJ7_highSurrogate_3 : decode cJ7_highSurrogate 3 = .ok (.iushr, 1) := dk_124 (dk_at dksJ7_highSurrogate_0 3 rfl rfl)
theorem dJ7_highSurrogate_4 : decode cJ7_highSurrogate 4 = .ok (.ldc 110, 2) := dk_18 110 (dk_at dksJ7_highSurrogate_0 4 rfl rfl)
theorem dJ7_highSurrogate_6 : decode cJ7_highSurrogate 6 = .ok (.iadd, 1) := dk_96 (dk_at dksJ7_highSurrogate_0 6 rfl rfl)
theorem dJ7_highSurrogate_7 : decode cJ7_highSurrogate 7 = .ok (.i2c, 1) := dk_146 (dk_at dksJ7_highSurrogate_0 7 rfl rfl)
theorem dJ7_highSurrogate_8 : decode cJ7_highSurrogate 8 = .ok (.ireturn, 1) := dk_172 (dk_at dksJ7_highSurrogate_0 8 rfl rfl)
abbrev cJ7_lowSurrogate : ByteArray := prog_15_method_29_code
def yJ7_lowSurrogate : MethodName := ⟨RJ7, "lowSurrogate", "(I)C"⟩
def dkwJ7_lowSurrogate_0 : List UInt8 := [26, 17, 3, 255, 126, 18, 76, 96, 146, 172]
abbrev dktJ7_lowSurrogate_0 : List UInt8 := dkwJ7_lowSurrogate_0 ++ []
theorem dksJ7_lowSurrogate_0 : cJ7_lowSurrogate.data.toList.drop 0 = dktJ7_lowSurrogate_0 := by decide +kernel
theorem dJ7_lowSurrogate_0 : decode cJ7_lowSurrogate 0 = .ok (.iload_n 0, 1) := dk_26 (dk_at dksJ7_lowSurrogate_0 0 rfl rfl)
theorem dJ7_lowSurrogate_1 : decode cJ7_lowSurrogate 1 = .ok (.sipush 1023, 3) := dk_17 3 255 (dk_at dksJ7_lowSurrogate_0 1 rfl rfl)
theorem dJ7_lowSurrogate_4 : decode cJ7_lowSurrogate 4 = .ok (.iand, 1) := dk_126 (dk_at dksJ7_lowSurrogate_0 4 rfl rfl)
theorem dJ7_lowSurrogate_5 : decode cJ7_lowSurrogate 5 = .ok (.ldc 76, 2) := dk_18 76 (dk_at dksJ7_lowSurrogate_0 5 rfl rfl)
theorem dJ7_lowSurrogate_7 : decode cJ7_lowSurrogate 7 = .ok (.iadd, 1) := dk_96 (dk_at dksJ7_lowSurrogate_0 7 rfl rfl)
theorem dJ7_lowSurrogate_8 : decode cJ7_lowSurrogate 8 = .ok (.i2c, 1) := dk_146 (dk_at dksJ7_lowSurrogate_0 8 rfl rfl)
theorem dJ7_lowSurrogate_9 : decode cJ7_lowSurrogate 9 = .ok (.ireturn, 1) := dk_172 (dk_at dksJ7_lowSurrogate_0 9 rfl rfl)
theorem q126 : (Jvm.Cond.initialized "java/lang/Character") ∈ lw_all := lw_g (lw_at lw_m1 17 rfl) rfl
theorem q665 : (Jvm.Cond.static ({ cls := "java/lang/Character", name := "isValidCodePoint", desc := "(I)Z" } : Jvm.MethodName)) ∈ lw_all := lw_g (lw_at lw_m3 76 rfl) rfl
theorem q666 : (Jvm.Cond.code ({ cls := "java/lang/Character", name := "isValidCodePoint", desc := "(I)Z" } : Jvm.MethodName) prog_15_method_11_code (2 : Nat) (Option.some Jvm.ClassFile.FieldType.boolean)) ∈ lw_all := lw_g (lw_at lw_m3 77 rfl) rfl
theorem q668 : (Jvm.Cond.static ({ cls := "java/lang/Character", name := "highSurrogate", desc := "(I)C" } : Jvm.MethodName)) ∈ lw_all := lw_g (lw_at lw_m3 79 rfl) rfl
theorem q669 : (Jvm.Cond.code ({ cls := "java/lang/Character", name := "highSurrogate", desc := "(I)C" } : Jvm.MethodName) prog_15_method_28_code (1 : Nat) (Option.some Jvm.ClassFile.FieldType.char)) ∈ lw_all := lw_g (lw_at lw_m3 80 rfl) rfl
theorem q670 : (Jvm.Cond.constant "java/lang/Character" (110 : Nat) (55232 : Int32)) ∈ lw_all := lw_g (lw_at lw_m3 81 rfl) rfl
theorem q672 : (Jvm.Cond.static ({ cls := "java/lang/Character", name := "lowSurrogate", desc := "(I)C" } : Jvm.MethodName)) ∈ lw_all := lw_g (lw_at lw_m3 83 rfl) rfl
theorem q673 : (Jvm.Cond.code ({ cls := "java/lang/Character", name := "lowSurrogate", desc := "(I)C" } : Jvm.MethodName) prog_15_method_29_code (1 : Nat) (Option.some Jvm.ClassFile.FieldType.char)) ∈ lw_all := lw_g (lw_at lw_m3 84 rfl) rfl
theorem q674 : (Jvm.Cond.constant "java/lang/Character" (76 : Nat) (56320 : Int32)) ∈ lw_all := lw_g (lw_at lw_m3 85 rfl) rfl

/-! java/lang/Integer -/
set_option maxRecDepth 100000
def RJ8 : String := "java/lang/Integer"
abbrev cJ8_bitCount : ByteArray := prog_19_method_49_code
def yJ8_bitCount : MethodName := ⟨RJ8, "bitCount", "(I)I"⟩
def dkwJ8_bitCount_2 : List UInt8 := [26, 16, 63, 126, 172]
abbrev dktJ8_bitCount_2 : List UInt8 := dkwJ8_bitCount_2 ++ []
def dkwJ8_bitCount_1 : List UInt8 := [26, 26, 7, 124, 96, 19, 1, 11, 126, 59, 26, 26, 16, 8, 124, 96, 59, 26, 26, 16, 16, 124, 96, 59]
abbrev dktJ8_bitCount_1 : List UInt8 := dkwJ8_bitCount_1 ++ dktJ8_bitCount_2
def dkwJ8_bitCount_0 : List UInt8 := [26, 26, 4, 124, 19, 1, 9, 126, 100, 59, 26, 19, 1, 10, 126, 26, 5, 124, 19, 1, 10, 126, 96, 59]
abbrev dktJ8_bitCount_0 : List UInt8 := dkwJ8_bitCount_0 ++ dktJ8_bitCount_1
theorem dksJ8_bitCount_0 : cJ8_bitCount.data.toList.drop 0 = dktJ8_bitCount_0 := by decide +kernel
theorem dksJ8_bitCount_1 : cJ8_bitCount.data.toList.drop 24 = dktJ8_bitCount_1 := dk_seg dksJ8_bitCount_0 24 rfl rfl
theorem dksJ8_bitCount_2 : cJ8_bitCount.data.toList.drop 48 = dktJ8_bitCount_2 := dk_seg dksJ8_bitCount_1 24 rfl rfl
theorem dJ8_bitCount_0 : decode cJ8_bitCount 0 = .ok (.iload_n 0, 1) := dk_26 (dk_at dksJ8_bitCount_0 0 rfl rfl)
theorem dJ8_bitCount_1 : decode cJ8_bitCount 1 = .ok (.iload_n 0, 1) := dk_26 (dk_at dksJ8_bitCount_0 1 rfl rfl)
theorem dJ8_bitCount_2 : decode cJ8_bitCount 2 = .ok (.iconst 1, 1) := dk_4 (dk_at dksJ8_bitCount_0 2 rfl rfl)
theorem dJ8_bitCount_3 : decode cJ8_bitCount 3 = .ok (.iushr, 1) := dk_124 (dk_at dksJ8_bitCount_0 3 rfl rfl)
theorem dJ8_bitCount_4 : decode cJ8_bitCount 4 = .ok (.ldc_w 265, 3) := dk_19 1 9 (dk_at dksJ8_bitCount_0 4 rfl rfl)
theorem dJ8_bitCount_7 : decode cJ8_bitCount 7 = .ok (.iand, 1) := dk_126 (dk_at dksJ8_bitCount_0 7 rfl rfl)
theorem dJ8_bitCount_8 : decode cJ8_bitCount 8 = .ok (.isub, 1) := dk_100 (dk_at dksJ8_bitCount_0 8 rfl rfl)
theorem dJ8_bitCount_9 : decode cJ8_bitCount 9 = .ok (.istore_n 0, 1) := dk_59 (dk_at dksJ8_bitCount_0 9 rfl rfl)
theorem dJ8_bitCount_10 : decode cJ8_bitCount 10 = .ok (.iload_n 0, 1) := dk_26 (dk_at dksJ8_bitCount_0 10 rfl rfl)
theorem dJ8_bitCount_11 : decode cJ8_bitCount 11 = .ok (.ldc_w 266, 3) := dk_19 1 10 (dk_at dksJ8_bitCount_0 11 rfl rfl)
theorem dJ8_bitCount_14 : decode cJ8_bitCount 14 = .ok (.iand, 1) := dk_126 (dk_at dksJ8_bitCount_0 14 rfl rfl)
theorem dJ8_bitCount_15 : decode cJ8_bitCount 15 = .ok (.iload_n 0, 1) := dk_26 (dk_at dksJ8_bitCount_0 15 rfl rfl)
theorem dJ8_bitCount_16 : decode cJ8_bitCount 16 = .ok (.iconst 2, 1) := dk_5 (dk_at dksJ8_bitCount_0 16 rfl rfl)
theorem dJ8_bitCount_17 : decode cJ8_bitCount 17 = .ok (.iushr, 1) := dk_124 (dk_at dksJ8_bitCount_0 17 rfl rfl)
theorem dJ8_bitCount_18 : decode cJ8_bitCount 18 = .ok (.ldc_w 266, 3) := dk_19 1 10 (dk_at dksJ8_bitCount_0 18 rfl rfl)
theorem dJ8_bitCount_21 : decode cJ8_bitCount 21 = .ok (.iand, 1) := dk_126 (dk_at dksJ8_bitCount_0 21 rfl rfl)
theorem dJ8_bitCount_22 : decode cJ8_bitCount 22 = .ok (.iadd, 1) := dk_96 (dk_at dksJ8_bitCount_0 22 rfl rfl)
theorem dJ8_bitCount_23 : decode cJ8_bitCount 23 = .ok (.istore_n 0, 1) := dk_59 (dk_at dksJ8_bitCount_0 23 rfl rfl)
theorem dJ8_bitCount_24 : decode cJ8_bitCount 24 = .ok (.iload_n 0, 1) := dk_26 (dk_at dksJ8_bitCount_1 0 rfl rfl)
theorem dJ8_bitCount_25 : decode cJ8_bitCount 25 = .ok (.iload_n 0, 1) := dk_26 (dk_at dksJ8_bitCount_1 1 rfl rfl)
theorem dJ8_bitCount_26 : decode cJ8_bitCount 26 = .ok (.iconst 4, 1) := dk_7 (dk_at dksJ8_bitCount_1 2 rfl rfl)
theorem dJ8_bitCount_27 : decode cJ8_bitCount 27 = .ok (.iushr, 1) := dk_124 (dk_at dksJ8_bitCount_1 3 rfl rfl)
theorem dJ8_bitCount_28 : decode cJ8_bitCount 28 = .ok (.iadd, 1) := dk_96 (dk_at dksJ8_bitCount_1 4 rfl rfl)
theorem dJ8_bitCount_29 : decode cJ8_bitCount 29 = .ok (.ldc_w 267, 3) := dk_19 1 11 (dk_at dksJ8_bitCount_1 5 rfl rfl)
theorem dJ8_bitCount_32 : decode cJ8_bitCount 32 = .ok (.iand, 1) := dk_126 (dk_at dksJ8_bitCount_1 8 rfl rfl)
theorem dJ8_bitCount_33 : decode cJ8_bitCount 33 = .ok (.istore_n 0, 1) := dk_59 (dk_at dksJ8_bitCount_1 9 rfl rfl)
theorem dJ8_bitCount_34 : decode cJ8_bitCount 34 = .ok (.iload_n 0, 1) := dk_26 (dk_at dksJ8_bitCount_1 10 rfl rfl)
theorem dJ8_bitCount_35 : decode cJ8_bitCount 35 = .ok (.iload_n 0, 1) := dk_26 (dk_at dksJ8_bitCount_1 11 rfl rfl)
theorem dJ8_bitCount_36 : decode cJ8_bitCount 36 = .ok (.bipush 8, 2) := dk_16 8 (dk_at dksJ8_bitCount_1 12 rfl rfl)
theorem dJ8_bitCount_38 : decode cJ8_bitCount 38 = .ok (.iushr, 1) := dk_124 (dk_at dksJ8_bitCount_1 14 rfl rfl)
theorem dJ8_bitCount_39 : decode cJ8_bitCount 39 = .ok (.iadd, 1) := dk_96 (dk_at dksJ8_bitCount_1 15 rfl rfl)
theorem dJ8_bitCount_40 : decode cJ8_bitCount 40 = .ok (.istore_n 0, 1) := dk_59 (dk_at dksJ8_bitCount_1 16 rfl rfl)
theorem dJ8_bitCount_41 : decode cJ8_bitCount 41 = .ok (.iload_n 0, 1) := dk_26 (dk_at dksJ8_bitCount_1 17 rfl rfl)
theorem dJ8_bitCount_42 : decode cJ8_bitCount 42 = .ok (.iload_n 0, 1) := dk_26 (dk_at dksJ8_bitCount_1 18 rfl rfl)
theorem dJ8_bitCount_43 : decode cJ8_bitCount 43 = .ok (.bipush 16, 2) := dk_16 16 (dk_at dksJ8_bitCount_1 19 rfl rfl)
theorem dJ8_bitCount_45 : decode cJ8_bitCount 45 = .ok (.iushr, 1) := dk_124 (dk_at dksJ8_bitCount_1 21 rfl rfl)
theorem dJ8_bitCount_46 : decode cJ8_bitCount 46 = .ok (.iadd, 1) := dk_96 (dk_at dksJ8_bitCount_1 22 rfl rfl)
theorem dJ8_bitCount_47 : decode cJ8_bitCount 47 = .ok (.istore_n 0, 1) := dk_59 (dk_at dksJ8_bitCount_1 23 rfl rfl)
theorem dJ8_bitCount_48 : decode cJ8_bitCount 48 = .ok (.iload_n 0, 1) := dk_26 (dk_at dksJ8_bitCount_2 0 rfl rfl)
theorem dJ8_bitCount_49 : decode cJ8_bitCount 49 = .ok (.bipush 63, 2) := dk_16 63 (dk_at dksJ8_bitCount_2 1 rfl rfl)
theorem dJ8_bitCount_51 : decode cJ8_bitCount 51 = .ok (.iand, 1) := dk_126 (dk_at dksJ8_bitCount_2 3 rfl rfl)
theorem dJ8_bitCount_52 : decode cJ8_bitCount 52 = .ok (.ireturn, 1) := dk_172 (dk_at dksJ8_bitCount_2 4 rfl rfl)
abbrev cJ8_signum : ByteArray := prog_19_method_56_code
def yJ8_signum : MethodName := ⟨RJ8, "signum", "(I)I"⟩
def dkwJ8_signum_0 : List UInt8 := [26, 16, 31, 122, 26, 116, 16, 31, 124, 128, 172]
abbrev dktJ8_signum_0 : List UInt8 := dkwJ8_signum_0 ++ []
theorem dksJ8_signum_0 : cJ8_signum.data.toList.drop 0 = dktJ8_signum_0 := by decide +kernel
theorem dJ8_signum_0 : decode cJ8_signum 0 = .ok (.iload_n 0, 1) := dk_26 (dk_at dksJ8_signum_0 0 rfl rfl)
theorem dJ8_signum_1 : decode cJ8_signum 1 = .ok (.bipush 31, 2) := dk_16 31 (dk_at dksJ8_signum_0 1 rfl rfl)
theorem dJ8_signum_3 : decode cJ8_signum 3 = .ok (.ishr, 1) := dk_122 (dk_at dksJ8_signum_0 3 rfl rfl)
theorem dJ8_signum_4 : decode cJ8_signum 4 = .ok (.iload_n 0, 1) := dk_26 (dk_at dksJ8_signum_0 4 rfl rfl)
theorem dJ8_signum_5 : decode cJ8_signum 5 = .ok (.ineg, 1) := dk_116 (dk_at dksJ8_signum_0 5 rfl rfl)
theorem dJ8_signum_6 : decode cJ8_signum 6 = .ok (.bipush 31, 2) := dk_16 31 (dk_at dksJ8_signum_0 6 rfl rfl)
theorem dJ8_signum_8 : decode cJ8_signum 8 = .ok (.iushr, 1) := dk_124 (dk_at dksJ8_signum_0 8 rfl rfl)
theorem dJ8_signum_9 : decode cJ8_signum 9 = .ok (.ior, 1) := dk_128 (dk_at dksJ8_signum_0 9 rfl rfl)
theorem dJ8_signum_10 : decode cJ8_signum 10 = .ok (.ireturn, 1) := dk_172 (dk_at dksJ8_signum_0 10 rfl rfl)
theorem q127 : (Jvm.Cond.initialized "java/lang/Integer") ∈ lw_all := lw_g (lw_at lw_m1 18 rfl) rfl
theorem q684 : (Jvm.Cond.static ({ cls := "java/lang/Integer", name := "bitCount", desc := "(I)I" } : Jvm.MethodName)) ∈ lw_all := lw_g (lw_at lw_m3 95 rfl) rfl
theorem q685 : (Jvm.Cond.code ({ cls := "java/lang/Integer", name := "bitCount", desc := "(I)I" } : Jvm.MethodName) prog_19_method_49_code (1 : Nat) (Option.some Jvm.ClassFile.FieldType.int)) ∈ lw_all := lw_g (lw_at lw_m3 96 rfl) rfl
theorem q686 : (Jvm.Cond.constant "java/lang/Integer" (265 : Nat) (1431655765 : Int32)) ∈ lw_all := lw_g (lw_at lw_m3 97 rfl) rfl
theorem q687 : (Jvm.Cond.constant "java/lang/Integer" (266 : Nat) (858993459 : Int32)) ∈ lw_all := lw_g (lw_at lw_m3 98 rfl) rfl
theorem q688 : (Jvm.Cond.constant "java/lang/Integer" (267 : Nat) (252645135 : Int32)) ∈ lw_all := lw_g (lw_at lw_m3 99 rfl) rfl
theorem q842 : (Jvm.Cond.static ({ cls := "java/lang/Integer", name := "signum", desc := "(I)I" } : Jvm.MethodName)) ∈ lw_all := lw_g (lw_at lw_m4 13 rfl) rfl
theorem q843 : (Jvm.Cond.code ({ cls := "java/lang/Integer", name := "signum", desc := "(I)I" } : Jvm.MethodName) prog_19_method_56_code (1 : Nat) (Option.some Jvm.ClassFile.FieldType.int)) ∈ lw_all := lw_g (lw_at lw_m4 14 rfl) rfl

/-! java/lang/RuntimeException -/
set_option maxRecDepth 100000
def RJ9 : String := "java/lang/RuntimeException"
abbrev cJ9_init : ByteArray := prog_23_method_2_code
def yJ9_init : MethodName := ⟨RJ9, "<init>", "(Ljava/lang/String;)V"⟩
def dkwJ9_init_0 : List UInt8 := [42, 43, 183, 0, 7, 177]
abbrev dktJ9_init_0 : List UInt8 := dkwJ9_init_0 ++ []
theorem dksJ9_init_0 : cJ9_init.data.toList.drop 0 = dktJ9_init_0 := by decide +kernel
theorem dJ9_init_0 : decode cJ9_init 0 = .ok (.aload_n 0, 1) := dk_42 (dk_at dksJ9_init_0 0 rfl rfl)
theorem dJ9_init_1 : decode cJ9_init 1 = .ok (.aload_n 1, 1) := dk_43 (dk_at dksJ9_init_0 1 rfl rfl)
theorem dJ9_init_2 : decode cJ9_init 2 = .ok (.invokespecial 7, 3) := dk_183 0 7 (dk_at dksJ9_init_0 2 rfl rfl)
theorem dJ9_init_5 : decode cJ9_init 5 = .ok (.return_, 1) := dk_177 (dk_at dksJ9_init_0 5 rfl rfl)
abbrev cJ9_init_2 : ByteArray := prog_23_method_1_code
def yJ9_init_2 : MethodName := ⟨RJ9, "<init>", "()V"⟩
theorem dJ9_init_2_0 : decode cJ9_init_2 0 = .ok (.aload_n 0, 1) := by decide +kernel
theorem dJ9_init_2_1 : decode cJ9_init_2 1 = .ok (.invokespecial 1, 3) := by decide +kernel
theorem dJ9_init_2_4 : decode cJ9_init_2 4 = .ok (.return_, 1) := by decide +kernel
theorem q128 : (Jvm.Cond.initialized "java/lang/RuntimeException") ∈ lw_all := lw_g (lw_at lw_m1 19 rfl) rfl
theorem q706 : (Jvm.Cond.instanceMethod ({ cls := "java/lang/RuntimeException", name := "<init>", desc := "(Ljava/lang/String;)V" } : Jvm.MethodName)) ∈ lw_all := lw_g (lw_at lw_m3 117 rfl) rfl
theorem q707 : (Jvm.Cond.code ({ cls := "java/lang/RuntimeException", name := "<init>", desc := "(Ljava/lang/String;)V" } : Jvm.MethodName) prog_23_method_2_code (2 : Nat) (Option.none : Option Jvm.ClassFile.FieldType)) ∈ lw_all := lw_g (lw_at lw_m3 118 rfl) rfl
theorem q708 : (Jvm.Cond.methodLink "java/lang/RuntimeException" (7 : Nat) ({ cls := "java/lang/Exception", name := "<init>", desc := "(Ljava/lang/String;)V" } : Jvm.MethodName)) ∈ lw_all := lw_g (lw_at lw_m3 119 rfl) rfl
theorem q722 : (Jvm.Cond.declares ({ cls := "java/lang/RuntimeException", name := "<init>", desc := "()V" } : Jvm.MethodName)) ∈ lw_tbl := lw_at lw_m3 133 rfl
theorem q723 : (Jvm.Cond.declares ({ cls := "java/lang/RuntimeException", name := "<init>", desc := "(Ljava/lang/String;)V" } : Jvm.MethodName)) ∈ lw_tbl := lw_at lw_m3 134 rfl
theorem q1258 : (Jvm.Cond.instanceMethod ({ cls := "java/lang/RuntimeException", name := "<init>", desc := "()V" } : Jvm.MethodName)) ∈ lw_all := lw_g (lw_at lw_m5 189 rfl) rfl
theorem q1259 : (Jvm.Cond.code ({ cls := "java/lang/RuntimeException", name := "<init>", desc := "()V" } : Jvm.MethodName) prog_23_method_1_code (1 : Nat) (Option.none : Option Jvm.ClassFile.FieldType)) ∈ lw_all := lw_g (lw_at lw_m5 190 rfl) rfl
theorem q1260 : (Jvm.Cond.methodLink "java/lang/RuntimeException" (1 : Nat) ({ cls := "java/lang/Exception", name := "<init>", desc := "()V" } : Jvm.MethodName)) ∈ lw_all := lw_g (lw_at lw_m5 191 rfl) rfl

/-! BonnetValleyLaw -/
set_option maxRecDepth 100000
def RX0 : String := "BonnetValleyLaw"
abbrev cX0_person : ByteArray := method_3_code
def yX0_person : MethodName := ⟨RX0, "person", "(LBonnetValley;II[J)I"⟩
def dkwX0_person_0 : List UInt8 := [45, 3, 42, 27, 28, 182, 0, 7, 133, 80, 167, 0, 7, 58, 4, 4, 172, 3, 172]
abbrev dktX0_person_0 : List UInt8 := dkwX0_person_0 ++ []
theorem dksX0_person_0 : cX0_person.data.toList.drop 0 = dktX0_person_0 := by decide +kernel
theorem dX0_person_0 : decode cX0_person 0 = .ok (.aload_n 3, 1) := dk_45 (dk_at dksX0_person_0 0 rfl rfl)
theorem dX0_person_1 : decode cX0_person 1 = .ok (.iconst 0, 1) := dk_3 (dk_at dksX0_person_0 1 rfl rfl)
theorem dX0_person_2 : decode cX0_person 2 = .ok (.aload_n 0, 1) := dk_42 (dk_at dksX0_person_0 2 rfl rfl)
theorem dX0_person_3 : decode cX0_person 3 = .ok (.iload_n 1, 1) := dk_27 (dk_at dksX0_person_0 3 rfl rfl)
theorem dX0_person_4 : decode cX0_person 4 = .ok (.iload_n 2, 1) := dk_28 (dk_at dksX0_person_0 4 rfl rfl)
theorem dX0_person_5 : decode cX0_person 5 = .ok (.invokevirtual 7, 3) := dk_182 0 7 (dk_at dksX0_person_0 5 rfl rfl)
theorem dX0_person_8 : decode cX0_person 8 = .ok (.i2l, 1) := dk_133 (dk_at dksX0_person_0 8 rfl rfl)
theorem dX0_person_9 : decode cX0_person 9 = .ok (.lastore, 1) := dk_80 (dk_at dksX0_person_0 9 rfl rfl)
theorem dX0_person_10 : decode cX0_person 10 = .ok (.goto 7, 3) := dk_167 0 7 (dk_at dksX0_person_0 10 rfl rfl)
theorem dX0_person_13 : decode cX0_person 13 = .ok (.astore 4, 2) := dk_58 4 (dk_at dksX0_person_0 13 rfl rfl)
theorem dX0_person_15 : decode cX0_person 15 = .ok (.iconst 1, 1) := dk_4 (dk_at dksX0_person_0 15 rfl rfl)
theorem dX0_person_16 : decode cX0_person 16 = .ok (.ireturn, 1) := dk_172 (dk_at dksX0_person_0 16 rfl rfl)
theorem dX0_person_17 : decode cX0_person 17 = .ok (.iconst 0, 1) := dk_3 (dk_at dksX0_person_0 17 rfl rfl)
theorem dX0_person_18 : decode cX0_person 18 = .ok (.ireturn, 1) := dk_172 (dk_at dksX0_person_0 18 rfl rfl)
abbrev cX0_thing : ByteArray := method_4_code
def yX0_thing : MethodName := ⟨RX0, "thing", "(LBonnetValley;II[J)I"⟩
def dkwX0_thing_0 : List UInt8 := [45, 3, 42, 27, 28, 182, 0, 15, 133, 80, 167, 0, 7, 58, 4, 4, 172, 3, 172]
abbrev dktX0_thing_0 : List UInt8 := dkwX0_thing_0 ++ []
theorem dksX0_thing_0 : cX0_thing.data.toList.drop 0 = dktX0_thing_0 := by decide +kernel
theorem dX0_thing_0 : decode cX0_thing 0 = .ok (.aload_n 3, 1) := dk_45 (dk_at dksX0_thing_0 0 rfl rfl)
theorem dX0_thing_1 : decode cX0_thing 1 = .ok (.iconst 0, 1) := dk_3 (dk_at dksX0_thing_0 1 rfl rfl)
theorem dX0_thing_2 : decode cX0_thing 2 = .ok (.aload_n 0, 1) := dk_42 (dk_at dksX0_thing_0 2 rfl rfl)
theorem dX0_thing_3 : decode cX0_thing 3 = .ok (.iload_n 1, 1) := dk_27 (dk_at dksX0_thing_0 3 rfl rfl)
theorem dX0_thing_4 : decode cX0_thing 4 = .ok (.iload_n 2, 1) := dk_28 (dk_at dksX0_thing_0 4 rfl rfl)
theorem dX0_thing_5 : decode cX0_thing 5 = .ok (.invokevirtual 15, 3) := dk_182 0 15 (dk_at dksX0_thing_0 5 rfl rfl)
theorem dX0_thing_8 : decode cX0_thing 8 = .ok (.i2l, 1) := dk_133 (dk_at dksX0_thing_0 8 rfl rfl)
theorem dX0_thing_9 : decode cX0_thing 9 = .ok (.lastore, 1) := dk_80 (dk_at dksX0_thing_0 9 rfl rfl)
theorem dX0_thing_10 : decode cX0_thing 10 = .ok (.goto 7, 3) := dk_167 0 7 (dk_at dksX0_thing_0 10 rfl rfl)
theorem dX0_thing_13 : decode cX0_thing 13 = .ok (.astore 4, 2) := dk_58 4 (dk_at dksX0_thing_0 13 rfl rfl)
theorem dX0_thing_15 : decode cX0_thing 15 = .ok (.iconst 1, 1) := dk_4 (dk_at dksX0_thing_0 15 rfl rfl)
theorem dX0_thing_16 : decode cX0_thing 16 = .ok (.ireturn, 1) := dk_172 (dk_at dksX0_thing_0 16 rfl rfl)
theorem dX0_thing_17 : decode cX0_thing 17 = .ok (.iconst 0, 1) := dk_3 (dk_at dksX0_thing_0 17 rfl rfl)
theorem dX0_thing_18 : decode cX0_thing 18 = .ok (.ireturn, 1) := dk_172 (dk_at dksX0_thing_0 18 rfl rfl)
abbrev cX0_row : ByteArray := method_5_code
def yX0_row : MethodName := ⟨RX0, "row", "(LBonnetValley;I[J)I"⟩
def dkwX0_row_0 : List UInt8 := [44, 3, 42, 27, 182, 0, 18, 80, 167, 0, 6, 78, 4, 172, 3, 172]
abbrev dktX0_row_0 : List UInt8 := dkwX0_row_0 ++ []
theorem dksX0_row_0 : cX0_row.data.toList.drop 0 = dktX0_row_0 := by decide +kernel
theorem dX0_row_0 : decode cX0_row 0 = .ok (.aload_n 2, 1) := dk_44 (dk_at dksX0_row_0 0 rfl rfl)
theorem dX0_row_1 : decode cX0_row 1 = .ok (.iconst 0, 1) := dk_3 (dk_at dksX0_row_0 1 rfl rfl)
theorem dX0_row_2 : decode cX0_row 2 = .ok (.aload_n 0, 1) := dk_42 (dk_at dksX0_row_0 2 rfl rfl)
theorem dX0_row_3 : decode cX0_row 3 = .ok (.iload_n 1, 1) := dk_27 (dk_at dksX0_row_0 3 rfl rfl)
theorem dX0_row_4 : decode cX0_row 4 = .ok (.invokevirtual 18, 3) := dk_182 0 18 (dk_at dksX0_row_0 4 rfl rfl)
theorem dX0_row_7 : decode cX0_row 7 = .ok (.lastore, 1) := dk_80 (dk_at dksX0_row_0 7 rfl rfl)
theorem dX0_row_8 : decode cX0_row 8 = .ok (.goto 6, 3) := dk_167 0 6 (dk_at dksX0_row_0 8 rfl rfl)
theorem dX0_row_11 : decode cX0_row 11 = .ok (.astore_n 3, 1) := dk_78 (dk_at dksX0_row_0 11 rfl rfl)
theorem dX0_row_12 : decode cX0_row 12 = .ok (.iconst 1, 1) := dk_4 (dk_at dksX0_row_0 12 rfl rfl)
theorem dX0_row_13 : decode cX0_row 13 = .ok (.ireturn, 1) := dk_172 (dk_at dksX0_row_0 13 rfl rfl)
theorem dX0_row_14 : decode cX0_row 14 = .ok (.iconst 0, 1) := dk_3 (dk_at dksX0_row_0 14 rfl rfl)
theorem dX0_row_15 : decode cX0_row 15 = .ok (.ireturn, 1) := dk_172 (dk_at dksX0_row_0 15 rfl rfl)
theorem q109 : (Jvm.Cond.initialized "BonnetValleyLaw") ∈ lw_all := lw_g (lw_at lw_m1 0 rfl) rfl
theorem q136 : (Jvm.Cond.classLink "BonnetValleyLaw" (8 : Nat) "BonnetValley") ∈ lw_all := lw_g (lw_at lw_m1 27 rfl) rfl
theorem q138 : (Jvm.Cond.methodLink "BonnetValleyLaw" (22 : Nat) ({ cls := "BonnetValley", name := "<init>", desc := "()V" } : Jvm.MethodName)) ∈ lw_all := lw_g (lw_at lw_m1 29 rfl) rfl
theorem q331 : (Jvm.Cond.methodLink "BonnetValleyLaw" (26 : Nat) ({ cls := "BonnetValley", name := "sign", desc := "(I)I" } : Jvm.MethodName)) ∈ lw_all := lw_g (lw_at lw_m1 222 rfl) rfl
theorem q335 : (Jvm.Cond.methodLink "BonnetValleyLaw" (31 : Nat) ({ cls := "BonnetValley", name := "end", desc := "(I)Z" } : Jvm.MethodName)) ∈ lw_all := lw_g (lw_at lw_m1 226 rfl) rfl
theorem q342 : (Jvm.Cond.methodLink "BonnetValleyLaw" (36 : Nat) ({ cls := "BonnetValley", name := "valley", desc := "()I" } : Jvm.MethodName)) ∈ lw_all := lw_g (lw_at lw_m1 233 rfl) rfl
theorem q485 : (Jvm.Cond.methodLink "BonnetValleyLaw" (41 : Nat) ({ cls := "BonnetValley", name := "people", desc := "()I" } : Jvm.MethodName)) ∈ lw_all := lw_g (lw_at lw_m2 136 rfl) rfl
theorem q501 : (Jvm.Cond.methodLink "BonnetValleyLaw" (45 : Nat) ({ cls := "BonnetValley", name := "things", desc := "()I" } : Jvm.MethodName)) ∈ lw_all := lw_g (lw_at lw_m2 152 rfl) rfl
theorem q505 : (Jvm.Cond.methodLink "BonnetValleyLaw" (49 : Nat) ({ cls := "BonnetValley", name := "light", desc := "()I" } : Jvm.MethodName)) ∈ lw_all := lw_g (lw_at lw_m2 156 rfl) rfl
theorem q514 : (Jvm.Cond.methodLink "BonnetValleyLaw" (53 : Nat) ({ cls := "BonnetValley", name := "rule", desc := "()I" } : Jvm.MethodName)) ∈ lw_all := lw_g (lw_at lw_m2 165 rfl) rfl
theorem q697 : (Jvm.Cond.methodLink "BonnetValleyLaw" (69 : Nat) ({ cls := "BonnetValley", name := "sheet", desc := "(IIII)I" } : Jvm.MethodName)) ∈ lw_all := lw_g (lw_at lw_m3 108 rfl) rfl
theorem q744 : (Jvm.Cond.methodLink "BonnetValleyLaw" (74 : Nat) ({ cls := "BonnetValley", name := "hours", desc := "(I)I" } : Jvm.MethodName)) ∈ lw_all := lw_g (lw_at lw_m3 155 rfl) rfl
theorem q861 : (Jvm.Cond.methodLink "BonnetValleyLaw" (78 : Nat) ({ cls := "BonnetValley", name := "faces", desc := "(II)I" } : Jvm.MethodName)) ∈ lw_all := lw_g (lw_at lw_m4 32 rfl) rfl
theorem q875 : (Jvm.Cond.methodLink "BonnetValleyLaw" (82 : Nat) ({ cls := "BonnetValley", name := "steps", desc := "(II)I" } : Jvm.MethodName)) ∈ lw_all := lw_g (lw_at lw_m4 46 rfl) rfl
theorem q891 : (Jvm.Cond.methodLink "BonnetValleyLaw" (86 : Nat) ({ cls := "BonnetValley", name := "trims", desc := "(II)I" } : Jvm.MethodName)) ∈ lw_all := lw_g (lw_at lw_m4 62 rfl) rfl
theorem q900 : (Jvm.Cond.methodLink "BonnetValleyLaw" (90 : Nat) ({ cls := "BonnetValley", name := "puts", desc := "(II)I" } : Jvm.MethodName)) ∈ lw_all := lw_g (lw_at lw_m4 71 rfl) rfl
theorem q920 : (Jvm.Cond.methodLink "BonnetValleyLaw" (94 : Nat) ({ cls := "BonnetValley", name := "day", desc := "()I" } : Jvm.MethodName)) ∈ lw_all := lw_g (lw_at lw_m4 91 rfl) rfl
theorem q982 : (Jvm.Cond.methodLink "BonnetValleyLaw" (98 : Nat) ({ cls := "BonnetValley", name := "undo", desc := "()I" } : Jvm.MethodName)) ∈ lw_all := lw_g (lw_at lw_m4 153 rfl) rfl
theorem q986 : (Jvm.Cond.methodLink "BonnetValleyLaw" (102 : Nat) ({ cls := "BonnetValley", name := "sees", desc := "(I)J" } : Jvm.MethodName)) ∈ lw_all := lw_g (lw_at lw_m4 157 rfl) rfl
theorem q1009 : (Jvm.Cond.methodLink "BonnetValleyLaw" (106 : Nat) ({ cls := "BonnetValley", name := "seers", desc := "(I)I" } : Jvm.MethodName)) ∈ lw_all := lw_g (lw_at lw_m4 180 rfl) rfl
theorem q1021 : (Jvm.Cond.methodLink "BonnetValleyLaw" (110 : Nat) ({ cls := "BonnetValley", name := "hidden", desc := "()J" } : Jvm.MethodName)) ∈ lw_all := lw_g (lw_at lw_m4 192 rfl) rfl
theorem q1033 : (Jvm.Cond.methodLink "BonnetValleyLaw" (115 : Nat) ({ cls := "BonnetValley", name := "pairs", desc := "()I" } : Jvm.MethodName)) ∈ lw_all := lw_g (lw_at lw_m4 204 rfl) rfl
theorem q1037 : (Jvm.Cond.methodLink "BonnetValleyLaw" (119 : Nat) ({ cls := "BonnetValley", name := "behind", desc := "(I)I" } : Jvm.MethodName)) ∈ lw_all := lw_g (lw_at lw_m4 208 rfl) rfl
theorem q1041 : (Jvm.Cond.methodLink "BonnetValleyLaw" (123 : Nat) ({ cls := "BonnetValley", name := "widest", desc := "()I" } : Jvm.MethodName)) ∈ lw_all := lw_g (lw_at lw_m4 212 rfl) rfl
theorem q1049 : (Jvm.Cond.methodLink "BonnetValleyLaw" (127 : Nat) ({ cls := "BonnetValley", name := "watch", desc := "()I" } : Jvm.MethodName)) ∈ lw_all := lw_g (lw_at lw_m4 220 rfl) rfl
theorem q1057 : (Jvm.Cond.methodLink "BonnetValleyLaw" (131 : Nat) ({ cls := "BonnetValley", name := "learns", desc := "(II)I" } : Jvm.MethodName)) ∈ lw_all := lw_g (lw_at lw_m4 228 rfl) rfl
theorem q1065 : (Jvm.Cond.methodLink "BonnetValleyLaw" (135 : Nat) ({ cls := "BonnetValley", name := "all", desc := "()I" } : Jvm.MethodName)) ∈ lw_all := lw_g (lw_at lw_m4 236 rfl) rfl
theorem q1077 : (Jvm.Cond.methodLink "BonnetValleyLaw" (139 : Nat) ({ cls := "BonnetValley", name := "ahead", desc := "(I)I" } : Jvm.MethodName)) ∈ lw_all := lw_g (lw_at lw_m5 8 rfl) rfl
theorem q1082 : (Jvm.Cond.methodLink "BonnetValleyLaw" (143 : Nat) ({ cls := "BonnetValley", name := "gossip", desc := "(I)I" } : Jvm.MethodName)) ∈ lw_all := lw_g (lw_at lw_m5 13 rfl) rfl
theorem q1086 : (Jvm.Cond.methodLink "BonnetValleyLaw" (147 : Nat) ({ cls := "BonnetValley", name := "eighths", desc := "(II)I" } : Jvm.MethodName)) ∈ lw_all := lw_g (lw_at lw_m5 17 rfl) rfl
theorem q1098 : (Jvm.Cond.methodLink "BonnetValleyLaw" (151 : Nat) ({ cls := "BonnetValley", name := "turned", desc := "()I" } : Jvm.MethodName)) ∈ lw_all := lw_g (lw_at lw_m5 29 rfl) rfl
theorem q1111 : (Jvm.Cond.methodLink "BonnetValleyLaw" (155 : Nat) ({ cls := "BonnetValley", name := "best", desc := "(I)I" } : Jvm.MethodName)) ∈ lw_all := lw_g (lw_at lw_m5 42 rfl) rfl
theorem q1115 : (Jvm.Cond.methodLink "BonnetValleyLaw" (159 : Nat) ({ cls := "BonnetValley", name := "bears", desc := "(II)I" } : Jvm.MethodName)) ∈ lw_all := lw_g (lw_at lw_m5 46 rfl) rfl
theorem q1127 : (Jvm.Cond.methodLink "BonnetValleyLaw" (163 : Nat) ({ cls := "BonnetValley", name := "back", desc := "(II)I" } : Jvm.MethodName)) ∈ lw_all := lw_g (lw_at lw_m5 58 rfl) rfl
theorem q1142 : (Jvm.Cond.methodLink "BonnetValleyLaw" (167 : Nat) ({ cls := "BonnetValley", name := "open", desc := "(II)I" } : Jvm.MethodName)) ∈ lw_all := lw_g (lw_at lw_m5 73 rfl) rfl
theorem q1146 : (Jvm.Cond.methodLink "BonnetValleyLaw" (171 : Nat) ({ cls := "BonnetValley", name := "heard", desc := "(II)I" } : Jvm.MethodName)) ∈ lw_all := lw_g (lw_at lw_m5 77 rfl) rfl
theorem q1150 : (Jvm.Cond.methodLink "BonnetValleyLaw" (175 : Nat) ({ cls := "BonnetValley", name := "forget", desc := "()I" } : Jvm.MethodName)) ∈ lw_all := lw_g (lw_at lw_m5 81 rfl) rfl
theorem q1154 : (Jvm.Cond.methodLink "BonnetValleyLaw" (179 : Nat) ({ cls := "BonnetValley", name := "lost", desc := "()J" } : Jvm.MethodName)) ∈ lw_all := lw_g (lw_at lw_m5 85 rfl) rfl
theorem q1162 : (Jvm.Cond.methodLink "BonnetValleyLaw" (183 : Nat) ({ cls := "BonnetValley", name := "asks", desc := "()I" } : Jvm.MethodName)) ∈ lw_all := lw_g (lw_at lw_m5 93 rfl) rfl
theorem q1166 : (Jvm.Cond.methodLink "BonnetValleyLaw" (187 : Nat) ({ cls := "BonnetValley", name := "storm", desc := "(III)I" } : Jvm.MethodName)) ∈ lw_all := lw_g (lw_at lw_m5 97 rfl) rfl
theorem q1175 : (Jvm.Cond.methodLink "BonnetValleyLaw" (192 : Nat) ({ cls := "BonnetValley", name := "cock", desc := "(II)I" } : Jvm.MethodName)) ∈ lw_all := lw_g (lw_at lw_m5 106 rfl) rfl
theorem q1181 : (Jvm.Cond.methodLink "BonnetValleyLaw" (196 : Nat) ({ cls := "BonnetValley", name := "law", desc := "()I" } : Jvm.MethodName)) ∈ lw_all := lw_g (lw_at lw_m5 112 rfl) rfl
theorem q1185 : (Jvm.Cond.methodLink "BonnetValleyLaw" (200 : Nat) ({ cls := "BonnetValley", name := "rests", desc := "(I)I" } : Jvm.MethodName)) ∈ lw_all := lw_g (lw_at lw_m5 116 rfl) rfl
theorem q1196 : (Jvm.Cond.methodLink "BonnetValleyLaw" (204 : Nat) ({ cls := "BonnetValley", name := "years", desc := "(II)I" } : Jvm.MethodName)) ∈ lw_all := lw_g (lw_at lw_m5 127 rfl) rfl
theorem q1205 : (Jvm.Cond.methodLink "BonnetValleyLaw" (208 : Nat) ({ cls := "BonnetValley", name := "keep", desc := "(I)Z" } : Jvm.MethodName)) ∈ lw_all := lw_g (lw_at lw_m5 136 rfl) rfl
theorem q1229 : (Jvm.Cond.methodLink "BonnetValleyLaw" (212 : Nat) ({ cls := "BonnetValley", name := "again", desc := "(I)Z" } : Jvm.MethodName)) ∈ lw_all := lw_g (lw_at lw_m5 160 rfl) rfl
theorem q1233 : (Jvm.Cond.methodLink "BonnetValleyLaw" (216 : Nat) ({ cls := "BonnetValley", name := "count", desc := "(I)I" } : Jvm.MethodName)) ∈ lw_all := lw_g (lw_at lw_m5 164 rfl) rfl
theorem q1237 : (Jvm.Cond.methodLink "BonnetValleyLaw" (57 : Nat) ({ cls := "BonnetValleyLaw", name := "person", desc := "(LBonnetValley;II[J)I" } : Jvm.MethodName)) ∈ lw_all := lw_g (lw_at lw_m5 168 rfl) rfl
theorem q1238 : (Jvm.Cond.static ({ cls := "BonnetValleyLaw", name := "person", desc := "(LBonnetValley;II[J)I" } : Jvm.MethodName)) ∈ lw_all := lw_g (lw_at lw_m5 169 rfl) rfl
theorem q1239 : (Jvm.Cond.codeWith ({ cls := "BonnetValleyLaw", name := "person", desc := "(LBonnetValley;II[J)I" } : Jvm.MethodName) method_3_code (5 : Nat) (Option.some Jvm.ClassFile.FieldType.int) [((0 : Nat), (10 : Nat), (13 : Nat), (13 : Nat))]) ∈ lw_all := lw_g (lw_at lw_m5 170 rfl) rfl
theorem q1240 : (Jvm.Cond.classLink "BonnetValleyLaw" (13 : Nat) "java/util/NoSuchElementException") ∈ lw_all := lw_g (lw_at lw_m5 171 rfl) rfl
theorem q1241 : (Jvm.Cond.methodLink "BonnetValleyLaw" (7 : Nat) ({ cls := "BonnetValley", name := "person", desc := "(II)I" } : Jvm.MethodName)) ∈ lw_all := lw_g (lw_at lw_m5 172 rfl) rfl
theorem q1264 : (Jvm.Cond.methodLink "BonnetValleyLaw" (66 : Nat) ({ cls := "BonnetValleyLaw", name := "thing", desc := "(LBonnetValley;II[J)I" } : Jvm.MethodName)) ∈ lw_all := lw_g (lw_at lw_m5 195 rfl) rfl
theorem q1265 : (Jvm.Cond.static ({ cls := "BonnetValleyLaw", name := "thing", desc := "(LBonnetValley;II[J)I" } : Jvm.MethodName)) ∈ lw_all := lw_g (lw_at lw_m5 196 rfl) rfl
theorem q1266 : (Jvm.Cond.codeWith ({ cls := "BonnetValleyLaw", name := "thing", desc := "(LBonnetValley;II[J)I" } : Jvm.MethodName) method_4_code (5 : Nat) (Option.some Jvm.ClassFile.FieldType.int) [((0 : Nat), (10 : Nat), (13 : Nat), (13 : Nat))]) ∈ lw_all := lw_g (lw_at lw_m5 197 rfl) rfl
theorem q1267 : (Jvm.Cond.methodLink "BonnetValleyLaw" (15 : Nat) ({ cls := "BonnetValley", name := "thing", desc := "(II)I" } : Jvm.MethodName)) ∈ lw_all := lw_g (lw_at lw_m5 198 rfl) rfl
theorem q1271 : (Jvm.Cond.methodLink "BonnetValleyLaw" (220 : Nat) ({ cls := "BonnetValleyLaw", name := "row", desc := "(LBonnetValley;I[J)I" } : Jvm.MethodName)) ∈ lw_all := lw_g (lw_at lw_m5 202 rfl) rfl
theorem q1272 : (Jvm.Cond.static ({ cls := "BonnetValleyLaw", name := "row", desc := "(LBonnetValley;I[J)I" } : Jvm.MethodName)) ∈ lw_all := lw_g (lw_at lw_m5 203 rfl) rfl
theorem q1273 : (Jvm.Cond.codeWith ({ cls := "BonnetValleyLaw", name := "row", desc := "(LBonnetValley;I[J)I" } : Jvm.MethodName) method_5_code (4 : Nat) (Option.some Jvm.ClassFile.FieldType.int) [((0 : Nat), (8 : Nat), (11 : Nat), (13 : Nat))]) ∈ lw_all := lw_g (lw_at lw_m5 204 rfl) rfl
theorem q1274 : (Jvm.Cond.methodLink "BonnetValleyLaw" (18 : Nat) ({ cls := "BonnetValley", name := "row", desc := "(I)J" } : Jvm.MethodName)) ∈ lw_all := lw_g (lw_at lw_m5 205 rfl) rfl
theorem q1278 : (Jvm.Cond.methodLink "BonnetValleyLaw" (63 : Nat) ({ cls := "BonnetValleyModel", name := "thrown", desc := "()I" } : Jvm.MethodName)) ∈ lw_all := lw_g (lw_at lw_m5 209 rfl) rfl
theorem q1282 : (Jvm.Cond.classLink "BonnetValleyLaw" (23 : Nat) "BonnetValleyModel") ∈ lw_all := lw_g (lw_at lw_m5 213 rfl) rfl
theorem q1284 : (Jvm.Cond.methodLink "BonnetValleyLaw" (25 : Nat) ({ cls := "BonnetValleyModel", name := "<init>", desc := "()V" } : Jvm.MethodName)) ∈ lw_all := lw_g (lw_at lw_m5 215 rfl) rfl
theorem q1437 : (Jvm.Cond.methodLink "BonnetValleyLaw" (30 : Nat) ({ cls := "BonnetValleyModel", name := "sign", desc := "(I)I" } : Jvm.MethodName)) ∈ lw_all := lw_g (lw_at lw_m6 128 rfl) rfl
theorem q1441 : (Jvm.Cond.methodLink "BonnetValleyLaw" (35 : Nat) ({ cls := "BonnetValleyModel", name := "end", desc := "(I)Z" } : Jvm.MethodName)) ∈ lw_all := lw_g (lw_at lw_m6 132 rfl) rfl
theorem q1448 : (Jvm.Cond.methodLink "BonnetValleyLaw" (40 : Nat) ({ cls := "BonnetValleyModel", name := "valley", desc := "()I" } : Jvm.MethodName)) ∈ lw_all := lw_g (lw_at lw_m6 139 rfl) rfl
theorem q1491 : (Jvm.Cond.methodLink "BonnetValleyLaw" (44 : Nat) ({ cls := "BonnetValleyModel", name := "people", desc := "()I" } : Jvm.MethodName)) ∈ lw_all := lw_g (lw_at lw_m6 182 rfl) rfl
theorem q1526 : (Jvm.Cond.methodLink "BonnetValleyLaw" (48 : Nat) ({ cls := "BonnetValleyModel", name := "things", desc := "()I" } : Jvm.MethodName)) ∈ lw_all := lw_g (lw_at lw_m6 217 rfl) rfl
theorem q1530 : (Jvm.Cond.methodLink "BonnetValleyLaw" (52 : Nat) ({ cls := "BonnetValleyModel", name := "light", desc := "()I" } : Jvm.MethodName)) ∈ lw_all := lw_g (lw_at lw_m6 221 rfl) rfl
theorem q1544 : (Jvm.Cond.methodLink "BonnetValleyLaw" (56 : Nat) ({ cls := "BonnetValleyModel", name := "rule", desc := "()I" } : Jvm.MethodName)) ∈ lw_all := lw_g (lw_at lw_m6 235 rfl) rfl
theorem q1572 : (Jvm.Cond.methodLink "BonnetValleyLaw" (62 : Nat) ({ cls := "BonnetValleyModel", name := "person", desc := "(II)I" } : Jvm.MethodName)) ∈ lw_all := lw_g (lw_at lw_m7 23 rfl) rfl
theorem q1629 : (Jvm.Cond.methodLink "BonnetValleyLaw" (68 : Nat) ({ cls := "BonnetValleyModel", name := "thing", desc := "(II)I" } : Jvm.MethodName)) ∈ lw_all := lw_g (lw_at lw_m7 80 rfl) rfl
theorem q1650 : (Jvm.Cond.methodLink "BonnetValleyLaw" (73 : Nat) ({ cls := "BonnetValleyModel", name := "sheet", desc := "(IIII)I" } : Jvm.MethodName)) ∈ lw_all := lw_g (lw_at lw_m7 101 rfl) rfl
theorem q1655 : (Jvm.Cond.methodLink "BonnetValleyLaw" (101 : Nat) ({ cls := "BonnetValleyModel", name := "undo", desc := "()I" } : Jvm.MethodName)) ∈ lw_all := lw_g (lw_at lw_m7 106 rfl) rfl
theorem q1659 : (Jvm.Cond.methodLink "BonnetValleyLaw" (77 : Nat) ({ cls := "BonnetValleyModel", name := "hours", desc := "(I)I" } : Jvm.MethodName)) ∈ lw_all := lw_g (lw_at lw_m7 110 rfl) rfl
theorem q1696 : (Jvm.Cond.methodLink "BonnetValleyLaw" (81 : Nat) ({ cls := "BonnetValleyModel", name := "faces", desc := "(II)I" } : Jvm.MethodName)) ∈ lw_all := lw_g (lw_at lw_m7 147 rfl) rfl
theorem q1709 : (Jvm.Cond.methodLink "BonnetValleyLaw" (85 : Nat) ({ cls := "BonnetValleyModel", name := "steps", desc := "(II)I" } : Jvm.MethodName)) ∈ lw_all := lw_g (lw_at lw_m7 160 rfl) rfl
theorem q1721 : (Jvm.Cond.methodLink "BonnetValleyLaw" (89 : Nat) ({ cls := "BonnetValleyModel", name := "trims", desc := "(II)I" } : Jvm.MethodName)) ∈ lw_all := lw_g (lw_at lw_m7 172 rfl) rfl
theorem q1730 : (Jvm.Cond.methodLink "BonnetValleyLaw" (93 : Nat) ({ cls := "BonnetValleyModel", name := "puts", desc := "(II)I" } : Jvm.MethodName)) ∈ lw_all := lw_g (lw_at lw_m7 181 rfl) rfl
theorem q1742 : (Jvm.Cond.methodLink "BonnetValleyLaw" (97 : Nat) ({ cls := "BonnetValleyModel", name := "day", desc := "()I" } : Jvm.MethodName)) ∈ lw_all := lw_g (lw_at lw_m7 193 rfl) rfl
theorem q1755 : (Jvm.Cond.methodLink "BonnetValleyLaw" (105 : Nat) ({ cls := "BonnetValleyModel", name := "sees", desc := "(I)J" } : Jvm.MethodName)) ∈ lw_all := lw_g (lw_at lw_m7 206 rfl) rfl
theorem q1765 : (Jvm.Cond.methodLink "BonnetValleyLaw" (109 : Nat) ({ cls := "BonnetValleyModel", name := "seers", desc := "(I)I" } : Jvm.MethodName)) ∈ lw_all := lw_g (lw_at lw_m7 216 rfl) rfl
theorem q1769 : (Jvm.Cond.methodLink "BonnetValleyLaw" (114 : Nat) ({ cls := "BonnetValleyModel", name := "hidden", desc := "()J" } : Jvm.MethodName)) ∈ lw_all := lw_g (lw_at lw_m7 220 rfl) rfl
theorem q1781 : (Jvm.Cond.methodLink "BonnetValleyLaw" (118 : Nat) ({ cls := "BonnetValleyModel", name := "pairs", desc := "()I" } : Jvm.MethodName)) ∈ lw_all := lw_g (lw_at lw_m7 232 rfl) rfl
theorem q1785 : (Jvm.Cond.methodLink "BonnetValleyLaw" (122 : Nat) ({ cls := "BonnetValleyModel", name := "behind", desc := "(I)I" } : Jvm.MethodName)) ∈ lw_all := lw_g (lw_at lw_m7 236 rfl) rfl
theorem q1789 : (Jvm.Cond.methodLink "BonnetValleyLaw" (126 : Nat) ({ cls := "BonnetValleyModel", name := "widest", desc := "()I" } : Jvm.MethodName)) ∈ lw_all := lw_g (lw_at lw_m8 0 rfl) rfl
theorem q1793 : (Jvm.Cond.methodLink "BonnetValleyLaw" (130 : Nat) ({ cls := "BonnetValleyModel", name := "watch", desc := "()I" } : Jvm.MethodName)) ∈ lw_all := lw_g (lw_at lw_m8 4 rfl) rfl
theorem q1800 : (Jvm.Cond.methodLink "BonnetValleyLaw" (134 : Nat) ({ cls := "BonnetValleyModel", name := "learns", desc := "(II)I" } : Jvm.MethodName)) ∈ lw_all := lw_g (lw_at lw_m8 11 rfl) rfl
theorem q1808 : (Jvm.Cond.methodLink "BonnetValleyLaw" (138 : Nat) ({ cls := "BonnetValleyModel", name := "all", desc := "()I" } : Jvm.MethodName)) ∈ lw_all := lw_g (lw_at lw_m8 19 rfl) rfl
theorem q1816 : (Jvm.Cond.methodLink "BonnetValleyLaw" (142 : Nat) ({ cls := "BonnetValleyModel", name := "ahead", desc := "(I)I" } : Jvm.MethodName)) ∈ lw_all := lw_g (lw_at lw_m8 27 rfl) rfl
theorem q1821 : (Jvm.Cond.methodLink "BonnetValleyLaw" (146 : Nat) ({ cls := "BonnetValleyModel", name := "gossip", desc := "(I)I" } : Jvm.MethodName)) ∈ lw_all := lw_g (lw_at lw_m8 32 rfl) rfl
theorem q1825 : (Jvm.Cond.methodLink "BonnetValleyLaw" (150 : Nat) ({ cls := "BonnetValleyModel", name := "eighths", desc := "(II)I" } : Jvm.MethodName)) ∈ lw_all := lw_g (lw_at lw_m8 36 rfl) rfl
theorem q1834 : (Jvm.Cond.methodLink "BonnetValleyLaw" (154 : Nat) ({ cls := "BonnetValleyModel", name := "turned", desc := "()I" } : Jvm.MethodName)) ∈ lw_all := lw_g (lw_at lw_m8 45 rfl) rfl
theorem q1849 : (Jvm.Cond.methodLink "BonnetValleyLaw" (158 : Nat) ({ cls := "BonnetValleyModel", name := "best", desc := "(I)I" } : Jvm.MethodName)) ∈ lw_all := lw_g (lw_at lw_m8 60 rfl) rfl
theorem q1853 : (Jvm.Cond.methodLink "BonnetValleyLaw" (162 : Nat) ({ cls := "BonnetValleyModel", name := "bears", desc := "(II)I" } : Jvm.MethodName)) ∈ lw_all := lw_g (lw_at lw_m8 64 rfl) rfl
theorem q1857 : (Jvm.Cond.methodLink "BonnetValleyLaw" (166 : Nat) ({ cls := "BonnetValleyModel", name := "back", desc := "(II)I" } : Jvm.MethodName)) ∈ lw_all := lw_g (lw_at lw_m8 68 rfl) rfl
theorem q1869 : (Jvm.Cond.methodLink "BonnetValleyLaw" (170 : Nat) ({ cls := "BonnetValleyModel", name := "open", desc := "(II)I" } : Jvm.MethodName)) ∈ lw_all := lw_g (lw_at lw_m8 80 rfl) rfl
theorem q1873 : (Jvm.Cond.methodLink "BonnetValleyLaw" (174 : Nat) ({ cls := "BonnetValleyModel", name := "heard", desc := "(II)I" } : Jvm.MethodName)) ∈ lw_all := lw_g (lw_at lw_m8 84 rfl) rfl
theorem q1877 : (Jvm.Cond.methodLink "BonnetValleyLaw" (178 : Nat) ({ cls := "BonnetValleyModel", name := "forget", desc := "()I" } : Jvm.MethodName)) ∈ lw_all := lw_g (lw_at lw_m8 88 rfl) rfl
theorem q1881 : (Jvm.Cond.methodLink "BonnetValleyLaw" (182 : Nat) ({ cls := "BonnetValleyModel", name := "lost", desc := "()J" } : Jvm.MethodName)) ∈ lw_all := lw_g (lw_at lw_m8 92 rfl) rfl
theorem q1889 : (Jvm.Cond.methodLink "BonnetValleyLaw" (186 : Nat) ({ cls := "BonnetValleyModel", name := "asks", desc := "()I" } : Jvm.MethodName)) ∈ lw_all := lw_g (lw_at lw_m8 100 rfl) rfl
theorem q1893 : (Jvm.Cond.methodLink "BonnetValleyLaw" (191 : Nat) ({ cls := "BonnetValleyModel", name := "storm", desc := "(III)I" } : Jvm.MethodName)) ∈ lw_all := lw_g (lw_at lw_m8 104 rfl) rfl
theorem q1902 : (Jvm.Cond.methodLink "BonnetValleyLaw" (195 : Nat) ({ cls := "BonnetValleyModel", name := "cock", desc := "(II)I" } : Jvm.MethodName)) ∈ lw_all := lw_g (lw_at lw_m8 113 rfl) rfl
theorem q1907 : (Jvm.Cond.methodLink "BonnetValleyLaw" (199 : Nat) ({ cls := "BonnetValleyModel", name := "law", desc := "()I" } : Jvm.MethodName)) ∈ lw_all := lw_g (lw_at lw_m8 118 rfl) rfl
theorem q1911 : (Jvm.Cond.methodLink "BonnetValleyLaw" (203 : Nat) ({ cls := "BonnetValleyModel", name := "rests", desc := "(I)I" } : Jvm.MethodName)) ∈ lw_all := lw_g (lw_at lw_m8 122 rfl) rfl
theorem q1922 : (Jvm.Cond.methodLink "BonnetValleyLaw" (207 : Nat) ({ cls := "BonnetValleyModel", name := "years", desc := "(II)I" } : Jvm.MethodName)) ∈ lw_all := lw_g (lw_at lw_m8 133 rfl) rfl
theorem q1931 : (Jvm.Cond.methodLink "BonnetValleyLaw" (211 : Nat) ({ cls := "BonnetValleyModel", name := "keep", desc := "(I)Z" } : Jvm.MethodName)) ∈ lw_all := lw_g (lw_at lw_m8 142 rfl) rfl
theorem q1935 : (Jvm.Cond.methodLink "BonnetValleyLaw" (215 : Nat) ({ cls := "BonnetValleyModel", name := "again", desc := "(I)Z" } : Jvm.MethodName)) ∈ lw_all := lw_g (lw_at lw_m8 146 rfl) rfl
theorem q1939 : (Jvm.Cond.methodLink "BonnetValleyLaw" (219 : Nat) ({ cls := "BonnetValleyModel", name := "count", desc := "(I)I" } : Jvm.MethodName)) ∈ lw_all := lw_g (lw_at lw_m8 150 rfl) rfl
theorem q1943 : (Jvm.Cond.methodLink "BonnetValleyLaw" (223 : Nat) ({ cls := "BonnetValleyModel", name := "row", desc := "(I)J" } : Jvm.MethodName)) ∈ lw_all := lw_g (lw_at lw_m8 154 rfl) rfl

/-! BonnetValley -/
set_option maxRecDepth 100000
def RX1 : String := "BonnetValley"
def TX1 : u_T := fun k => match k with
  | 0 => ("BonnetValley", "look", "LBonnetValley$Look;", true)
  | 1 => ("BonnetValley", "turned", "LBonnetValley$Turned;", true)
  | 2 => ("BonnetValley", "trimmed", "LBonnetValley$Trimmed;", true)
  | 3 => ("BonnetValley", "rows", "I", false)
  | 4 => ("BonnetValley", "columns", "I", false)
  | 5 => ("BonnetValley", "men", "I", false)
  | 6 => ("BonnetValley", "things", "I", false)
  | 7 => ("BonnetValley", "came", "I", false)
  | 8 => ("BonnetValley", "undoMany", "I", false)
  | 9 => ("BonnetValley", "rocks", "J", false)
  | 10 => ("BonnetValley", "now", "LBonnetValley$Upland;", true)
  | 11 => ("BonnetValley", "aside", "LBonnetValley$Upland;", true)
  | 12 => ("BonnetValley", "tried", "LBonnetValley$Upland;", true)
  | 13 => ("BonnetValley", "ahead", "[LBonnetValley$Upland;", true)
  | 14 => ("BonnetValley", "light", "[B", false)
  | 15 => ("BonnetValley", "text", "[B", true)
  | 16 => ("BonnetValley", "typed", "I", false)
  | 17 => ("BonnetValley", "row", "[J", true)
  | 18 => ("BonnetValley", "rowMany", "I", false)
  | 19 => ("BonnetValley", "rule", "LBonnetValley$Rule;", false)
  | 20 => ("BonnetValley", "then", "[I", true)
  | 21 => ("BonnetValley", "fieldsOf", "[J", true)
  | 22 => ("BonnetValley", "by", "[[I", true)
  | 23 => ("BonnetValley", "fewest", "[[I", true)
  | 24 => ("BonnetValley", "far", "[I", true)
  | 25 => ("BonnetValley", "heardOf", "[I", true)
  | 26 => ("BonnetValley", "heardMany", "I", false)
  | 27 => ("BonnetValley", "heardBits", "I", false)
  | 28 => ("BonnetValley", "wins", "[[I", true)
  | 29 => ("BonnetValley", "drawn", "I", false)
  | _ => ("BonnetValley", "pages", "[LBonnetValley$Page;", true)
def tyX1 : Nat → FieldType := fun k => match k with
  | 0 => .object "BonnetValley$Look"
  | 1 => .object "BonnetValley$Turned"
  | 2 => .object "BonnetValley$Trimmed"
  | 3 => .int
  | 4 => .int
  | 5 => .int
  | 6 => .int
  | 7 => .int
  | 8 => .int
  | 9 => .long
  | 10 => .object "BonnetValley$Upland"
  | 11 => .object "BonnetValley$Upland"
  | 12 => .object "BonnetValley$Upland"
  | 13 => .array (.object "BonnetValley$Upland")
  | 14 => .array .byte
  | 15 => .array .byte
  | 16 => .int
  | 17 => .array .long
  | 18 => .int
  | 19 => .object "BonnetValley$Rule"
  | 20 => .array .int
  | 21 => .array .long
  | 22 => .array (.array .int)
  | 23 => .array (.array .int)
  | 24 => .array .int
  | 25 => .array .int
  | 26 => .int
  | 27 => .int
  | 28 => .array (.array .int)
  | 29 => .int
  | _ => .array (.object "BonnetValley$Page")
abbrev wsX10 : List Cond := u_ws RX1 TX1 31
set_option maxRecDepth 100000 in
theorem nmX1 : ∀ a, a < 31 → ∀ b, b < 31 → a ≠ b → (TX1 a).2.1 ≠ (TX1 b).2.1 := by decide +kernel
set_option maxRecDepth 100000 in
theorem tyX1_ok : ∀ k, k < 31 → parseFieldDescriptor (TX1 k).2.2.1 = some (tyX1 k) := by decide +kernel
abbrev cX1_init : ByteArray := prog_1_method_7_code
def yX1_init : MethodName := ⟨RX1, "<init>", "()V"⟩
def dkwX1_init_9 : List UInt8 := [187, 0, 35, 89, 183, 0, 83, 83, 132, 1, 1, 167, 255, 234, 177]
abbrev dktX1_init_9 : List UInt8 := dkwX1_init_9 ++ []
def dkwX1_init_8 : List UInt8 := [181, 0, 130, 42, 6, 189, 0, 133, 181, 0, 135, 3, 60, 27, 16, 15, 162, 0, 22, 42, 180, 0, 94, 27]
abbrev dktX1_init_8 : List UInt8 := dkwX1_init_8 ++ dktX1_init_9
def dkwX1_init_7 : List UInt8 := [188, 10, 181, 0, 124, 42, 16, 10, 188, 10, 181, 0, 127, 42, 16, 61, 16, 10, 197, 0, 116, 2]
abbrev dktX1_init_7 : List UInt8 := dkwX1_init_7 ++ dktX1_init_8
def dkwX1_init_6 : List UInt8 := [197, 0, 116, 2, 181, 0, 118, 42, 16, 9, 17, 1, 0, 197, 0, 116, 2, 181, 0, 121, 42, 16, 49]
abbrev dktX1_init_6 : List UInt8 := dkwX1_init_6 ++ dktX1_init_7
def dkwX1_init_5 : List UInt8 := [181, 0, 105, 42, 16, 8, 188, 10, 181, 0, 109, 42, 16, 8, 188, 11, 181, 0, 113, 42, 16, 8, 16, 8]
abbrev dktX1_init_5 : List UInt8 := dkwX1_init_5 ++ dktX1_init_6
def dkwX1_init_4 : List UInt8 := [4, 188, 8, 89, 3, 16, 9, 84, 181, 0, 98, 42, 16, 80, 188, 8, 181, 0, 102, 42, 16, 64, 188, 11]
abbrev dktX1_init_4 : List UInt8 := dkwX1_init_4 ++ dktX1_init_5
def dkwX1_init_3 : List UInt8 := [181, 0, 88, 42, 187, 0, 35, 89, 183, 0, 83, 181, 0, 91, 42, 16, 15, 189, 0, 35, 181, 0, 94, 42]
abbrev dktX1_init_3 : List UInt8 := dkwX1_init_3 ++ dktX1_init_4
def dkwX1_init_2 : List UInt8 := [6, 181, 0, 13, 42, 187, 0, 35, 89, 183, 0, 83, 181, 0, 84, 42, 187, 0, 35, 89, 183, 0, 83]
abbrev dktX1_init_2 : List UInt8 := dkwX1_init_2 ++ dktX1_init_3
def dkwX1_init_1 : List UInt8 := [183, 0, 68, 181, 0, 69, 42, 187, 0, 73, 89, 42, 183, 0, 75, 181, 0, 76, 42, 6, 181, 0, 80, 42]
abbrev dktX1_init_1 : List UInt8 := dkwX1_init_1 ++ dktX1_init_2
def dkwX1_init_0 : List UInt8 := [42, 183, 0, 51, 42, 187, 0, 57, 89, 42, 183, 0, 59, 181, 0, 62, 42, 187, 0, 66, 89, 42]
abbrev dktX1_init_0 : List UInt8 := dkwX1_init_0 ++ dktX1_init_1
theorem dksX1_init_0 : cX1_init.data.toList.drop 0 = dktX1_init_0 := by decide +kernel
theorem dksX1_init_1 : cX1_init.data.toList.drop 22 = dktX1_init_1 := dk_seg dksX1_init_0 22 rfl rfl
theorem dksX1_init_2 : cX1_init.data.toList.drop 46 = dktX1_init_2 := dk_seg dksX1_init_1 24 rfl rfl
theorem dksX1_init_3 : cX1_init.data.toList.drop 69 = dktX1_init_3 := dk_seg dksX1_init_2 23 rfl rfl
theorem dksX1_init_4 : cX1_init.data.toList.drop 93 = dktX1_init_4 := dk_seg dksX1_init_3 24 rfl rfl
theorem dksX1_init_5 : cX1_init.data.toList.drop 117 = dktX1_init_5 := dk_seg dksX1_init_4 24 rfl rfl
theorem dksX1_init_6 : cX1_init.data.toList.drop 141 = dktX1_init_6 := dk_seg dksX1_init_5 24 rfl rfl
theorem dksX1_init_7 : cX1_init.data.toList.drop 164 = dktX1_init_7 := dk_seg dksX1_init_6 23 rfl rfl
theorem dksX1_init_8 : cX1_init.data.toList.drop 186 = dktX1_init_8 := dk_seg dksX1_init_7 22 rfl rfl
theorem dksX1_init_9 : cX1_init.data.toList.drop 210 = dktX1_init_9 := dk_seg dksX1_init_8 24 rfl rfl
theorem dX1_init_0 : decode cX1_init 0 = .ok (.aload_n 0, 1) := dk_42 (dk_at dksX1_init_0 0 rfl rfl)
theorem dX1_init_1 : decode cX1_init 1 = .ok (.invokespecial 51, 3) := dk_183 0 51 (dk_at dksX1_init_0 1 rfl rfl)
theorem dX1_init_4 : decode cX1_init 4 = .ok (.aload_n 0, 1) := dk_42 (dk_at dksX1_init_0 4 rfl rfl)
theorem dX1_init_5 : decode cX1_init 5 = .ok (.new 57, 3) := dk_187 0 57 (dk_at dksX1_init_0 5 rfl rfl)
theorem dX1_init_8 : decode cX1_init 8 = .ok (.dup, 1) := dk_89 (dk_at dksX1_init_0 8 rfl rfl)
theorem dX1_init_9 : decode cX1_init 9 = .ok (.aload_n 0, 1) := dk_42 (dk_at dksX1_init_0 9 rfl rfl)
theorem dX1_init_10 : decode cX1_init 10 = .ok (.invokespecial 59, 3) := dk_183 0 59 (dk_at dksX1_init_0 10 rfl rfl)
theorem dX1_init_13 : decode cX1_init 13 = .ok (.putfield 62, 3) := dk_181 0 62 (dk_at dksX1_init_0 13 rfl rfl)
theorem dX1_init_16 : decode cX1_init 16 = .ok (.aload_n 0, 1) := dk_42 (dk_at dksX1_init_0 16 rfl rfl)
theorem dX1_init_17 : decode cX1_init 17 = .ok (.new 66, 3) := dk_187 0 66 (dk_at dksX1_init_0 17 rfl rfl)
theorem dX1_init_20 : decode cX1_init 20 = .ok (.dup, 1) := dk_89 (dk_at dksX1_init_0 20 rfl rfl)
theorem dX1_init_21 : decode cX1_init 21 = .ok (.aload_n 0, 1) := dk_42 (dk_at dksX1_init_0 21 rfl rfl)
theorem dX1_init_22 : decode cX1_init 22 = .ok (.invokespecial 68, 3) := dk_183 0 68 (dk_at dksX1_init_1 0 rfl rfl)
theorem dX1_init_25 : decode cX1_init 25 = .ok (.putfield 69, 3) := dk_181 0 69 (dk_at dksX1_init_1 3 rfl rfl)
theorem dX1_init_28 : decode cX1_init 28 = .ok (.aload_n 0, 1) := dk_42 (dk_at dksX1_init_1 6 rfl rfl)
theorem dX1_init_29 : decode cX1_init 29 = .ok (.new 73, 3) := dk_187 0 73 (dk_at dksX1_init_1 7 rfl rfl)
theorem dX1_init_32 : decode cX1_init 32 = .ok (.dup, 1) := dk_89 (dk_at dksX1_init_1 10 rfl rfl)
theorem dX1_init_33 : decode cX1_init 33 = .ok (.aload_n 0, 1) := dk_42 (dk_at dksX1_init_1 11 rfl rfl)
theorem dX1_init_34 : decode cX1_init 34 = .ok (.invokespecial 75, 3) := dk_183 0 75 (dk_at dksX1_init_1 12 rfl rfl)
theorem dX1_init_37 : decode cX1_init 37 = .ok (.putfield 76, 3) := dk_181 0 76 (dk_at dksX1_init_1 15 rfl rfl)
theorem dX1_init_40 : decode cX1_init 40 = .ok (.aload_n 0, 1) := dk_42 (dk_at dksX1_init_1 18 rfl rfl)
theorem dX1_init_41 : decode cX1_init 41 = .ok (.iconst 3, 1) := dk_6 (dk_at dksX1_init_1 19 rfl rfl)
theorem dX1_init_42 : decode cX1_init 42 = .ok (.putfield 80, 3) := dk_181 0 80 (dk_at dksX1_init_1 20 rfl rfl)
theorem dX1_init_45 : decode cX1_init 45 = .ok (.aload_n 0, 1) := dk_42 (dk_at dksX1_init_1 23 rfl rfl)
theorem dX1_init_46 : decode cX1_init 46 = .ok (.iconst 3, 1) := dk_6 (dk_at dksX1_init_2 0 rfl rfl)
theorem dX1_init_47 : decode cX1_init 47 = .ok (.putfield 13, 3) := dk_181 0 13 (dk_at dksX1_init_2 1 rfl rfl)
theorem dX1_init_50 : decode cX1_init 50 = .ok (.aload_n 0, 1) := dk_42 (dk_at dksX1_init_2 4 rfl rfl)
theorem dX1_init_51 : decode cX1_init 51 = .ok (.new 35, 3) := dk_187 0 35 (dk_at dksX1_init_2 5 rfl rfl)
theorem dX1_init_54 : decode cX1_init 54 = .ok (.dup, 1) := dk_89 (dk_at dksX1_init_2 8 rfl rfl)
theorem dX1_init_55 : decode cX1_init 55 = .ok (.invokespecial 83, 3) := dk_183 0 83 (dk_at dksX1_init_2 9 rfl rfl)
theorem dX1_init_58 : decode cX1_init 58 = .ok (.putfield 84, 3) := dk_181 0 84 (dk_at dksX1_init_2 12 rfl rfl)
theorem dX1_init_61 : decode cX1_init 61 = .ok (.aload_n 0, 1) := dk_42 (dk_at dksX1_init_2 15 rfl rfl)
theorem dX1_init_62 : decode cX1_init 62 = .ok (.new 35, 3) := dk_187 0 35 (dk_at dksX1_init_2 16 rfl rfl)
theorem dX1_init_65 : decode cX1_init 65 = .ok (.dup, 1) := dk_89 (dk_at dksX1_init_2 19 rfl rfl)
theorem dX1_init_66 : decode cX1_init 66 = .ok (.invokespecial 83, 3) := dk_183 0 83 (dk_at dksX1_init_2 20 rfl rfl)
theorem dX1_init_69 : decode cX1_init 69 = .ok (.putfield 88, 3) := dk_181 0 88 (dk_at dksX1_init_3 0 rfl rfl)
theorem dX1_init_72 : decode cX1_init 72 = .ok (.aload_n 0, 1) := dk_42 (dk_at dksX1_init_3 3 rfl rfl)
theorem dX1_init_73 : decode cX1_init 73 = .ok (.new 35, 3) := dk_187 0 35 (dk_at dksX1_init_3 4 rfl rfl)
theorem dX1_init_76 : decode cX1_init 76 = .ok (.dup, 1) := dk_89 (dk_at dksX1_init_3 7 rfl rfl)
theorem dX1_init_77 : decode cX1_init 77 = .ok (.invokespecial 83, 3) := dk_183 0 83 (dk_at dksX1_init_3 8 rfl rfl)
theorem dX1_init_80 : decode cX1_init 80 = .ok (.putfield 91, 3) := dk_181 0 91 (dk_at dksX1_init_3 11 rfl rfl)
theorem dX1_init_83 : decode cX1_init 83 = .ok (.aload_n 0, 1) := dk_42 (dk_at dksX1_init_3 14 rfl rfl)
theorem dX1_init_84 : decode cX1_init 84 = .ok (.bipush 15, 2) := dk_16 15 (dk_at dksX1_init_3 15 rfl rfl)
theorem dX1_init_86 : decode cX1_init 86 = .ok (.anewarray 35, 3) := dk_189 0 35 (dk_at dksX1_init_3 17 rfl rfl)
theorem dX1_init_89 : decode cX1_init 89 = .ok (.putfield 94, 3) := dk_181 0 94 (dk_at dksX1_init_3 20 rfl rfl)
theorem dX1_init_92 : decode cX1_init 92 = .ok (.aload_n 0, 1) := dk_42 (dk_at dksX1_init_3 23 rfl rfl)
theorem dX1_init_93 : decode cX1_init 93 = .ok (.iconst 1, 1) := dk_4 (dk_at dksX1_init_4 0 rfl rfl)
theorem dX1_init_94 : decode cX1_init 94 = .ok (.newarray .byte, 2) := dk_188_8 (dk_at dksX1_init_4 1 rfl rfl)
theorem dX1_init_96 : decode cX1_init 96 = .ok (.dup, 1) := dk_89 (dk_at dksX1_init_4 3 rfl rfl)
theorem dX1_init_97 : decode cX1_init 97 = .ok (.iconst 0, 1) := dk_3 (dk_at dksX1_init_4 4 rfl rfl)
theorem dX1_init_98 : decode cX1_init 98 = .ok (.bipush 9, 2) := dk_16 9 (dk_at dksX1_init_4 5 rfl rfl)
theorem dX1_init_100 : decode cX1_init 100 = .ok (.bastore, 1) := dk_84 (dk_at dksX1_init_4 7 rfl rfl)
theorem dX1_init_101 : decode cX1_init 101 = .ok (.putfield 98, 3) := dk_181 0 98 (dk_at dksX1_init_4 8 rfl rfl)
theorem dX1_init_104 : decode cX1_init 104 = .ok (.aload_n 0, 1) := dk_42 (dk_at dksX1_init_4 11 rfl rfl)
theorem dX1_init_105 : decode cX1_init 105 = .ok (.bipush 80, 2) := dk_16 80 (dk_at dksX1_init_4 12 rfl rfl)
theorem dX1_init_107 : decode cX1_init 107 = .ok (.newarray .byte, 2) := dk_188_8 (dk_at dksX1_init_4 14 rfl rfl)
theorem dX1_init_109 : decode cX1_init 109 = .ok (.putfield 102, 3) := dk_181 0 102 (dk_at dksX1_init_4 16 rfl rfl)
theorem dX1_init_112 : decode cX1_init 112 = .ok (.aload_n 0, 1) := dk_42 (dk_at dksX1_init_4 19 rfl rfl)
theorem dX1_init_113 : decode cX1_init 113 = .ok (.bipush 64, 2) := dk_16 64 (dk_at dksX1_init_4 20 rfl rfl)
theorem dX1_init_115 : decode cX1_init 115 = .ok (.newarray .long, 2) := dk_188_11 (dk_at dksX1_init_4 22 rfl rfl)
theorem dX1_init_117 : decode cX1_init 117 = .ok (.putfield 105, 3) := dk_181 0 105 (dk_at dksX1_init_5 0 rfl rfl)
theorem dX1_init_120 : decode cX1_init 120 = .ok (.aload_n 0, 1) := dk_42 (dk_at dksX1_init_5 3 rfl rfl)
theorem dX1_init_121 : decode cX1_init 121 = .ok (.bipush 8, 2) := dk_16 8 (dk_at dksX1_init_5 4 rfl rfl)
theorem dX1_init_123 : decode cX1_init 123 = .ok (.newarray .int, 2) := dk_188_10 (dk_at dksX1_init_5 6 rfl rfl)
theorem dX1_init_125 : decode cX1_init 125 = .ok (.putfield 109, 3) := dk_181 0 109 (dk_at dksX1_init_5 8 rfl rfl)
theorem dX1_init_128 : decode cX1_init 128 = .ok (.aload_n 0, 1) := dk_42 (dk_at dksX1_init_5 11 rfl rfl)
theorem dX1_init_129 : decode cX1_init 129 = .ok (.bipush 8, 2) := dk_16 8 (dk_at dksX1_init_5 12 rfl rfl)
theorem dX1_init_131 : decode cX1_init 131 = .ok (.newarray .long, 2) := dk_188_11 (dk_at dksX1_init_5 14 rfl rfl)
theorem dX1_init_133 : decode cX1_init 133 = .ok (.putfield 113, 3) := dk_181 0 113 (dk_at dksX1_init_5 16 rfl rfl)
theorem dX1_init_136 : decode cX1_init 136 = .ok (.aload_n 0, 1) := dk_42 (dk_at dksX1_init_5 19 rfl rfl)
theorem dX1_init_137 : decode cX1_init 137 = .ok (.bipush 8, 2) := dk_16 8 (dk_at dksX1_init_5 20 rfl rfl)
theorem dX1_init_139 : decode cX1_init 139 = .ok (.bipush 8, 2) := dk_16 8 (dk_at dksX1_init_5 22 rfl rfl)
theorem dX1_init_141 : decode cX1_init 141 = .ok (.multianewarray 116 2, 4) := by decide +kernel
theorem dX1_init_145 : decode cX1_init 145 = .ok (.putfield 118, 3) := dk_181 0 118 (dk_at dksX1_init_6 4 rfl rfl)
theorem dX1_init_148 : decode cX1_init 148 = .ok (.aload_n 0, 1) := dk_42 (dk_at dksX1_init_6 7 rfl rfl)
theorem dX1_init_149 : decode cX1_init 149 = .ok (.bipush 9, 2) := dk_16 9 (dk_at dksX1_init_6 8 rfl rfl)
theorem dX1_init_151 : decode cX1_init 151 = .ok (.sipush 256, 3) := dk_17 1 0 (dk_at dksX1_init_6 10 rfl rfl)
theorem dX1_init_154 : decode cX1_init 154 = .ok (.multianewarray 116 2, 4) := by decide +kernel
theorem dX1_init_158 : decode cX1_init 158 = .ok (.putfield 121, 3) := dk_181 0 121 (dk_at dksX1_init_6 17 rfl rfl)
theorem dX1_init_161 : decode cX1_init 161 = .ok (.aload_n 0, 1) := dk_42 (dk_at dksX1_init_6 20 rfl rfl)
theorem dX1_init_162 : decode cX1_init 162 = .ok (.bipush 49, 2) := dk_16 49 (dk_at dksX1_init_6 21 rfl rfl)
theorem dX1_init_164 : decode cX1_init 164 = .ok (.newarray .int, 2) := dk_188_10 (dk_at dksX1_init_7 0 rfl rfl)
theorem dX1_init_166 : decode cX1_init 166 = .ok (.putfield 124, 3) := dk_181 0 124 (dk_at dksX1_init_7 2 rfl rfl)
theorem dX1_init_169 : decode cX1_init 169 = .ok (.aload_n 0, 1) := dk_42 (dk_at dksX1_init_7 5 rfl rfl)
theorem dX1_init_170 : decode cX1_init 170 = .ok (.bipush 10, 2) := dk_16 10 (dk_at dksX1_init_7 6 rfl rfl)
theorem dX1_init_172 : decode cX1_init 172 = .ok (.newarray .int, 2) := dk_188_10 (dk_at dksX1_init_7 8 rfl rfl)
theorem dX1_init_174 : decode cX1_init 174 = .ok (.putfield 127, 3) := dk_181 0 127 (dk_at dksX1_init_7 10 rfl rfl)
theorem dX1_init_177 : decode cX1_init 177 = .ok (.aload_n 0, 1) := dk_42 (dk_at dksX1_init_7 13 rfl rfl)
theorem dX1_init_178 : decode cX1_init 178 = .ok (.bipush 61, 2) := dk_16 61 (dk_at dksX1_init_7 14 rfl rfl)
theorem dX1_init_180 : decode cX1_init 180 = .ok (.bipush 10, 2) := dk_16 10 (dk_at dksX1_init_7 16 rfl rfl)
theorem dX1_init_182 : decode cX1_init 182 = .ok (.multianewarray 116 2, 4) := by decide +kernel
theorem dX1_init_186 : decode cX1_init 186 = .ok (.putfield 130, 3) := dk_181 0 130 (dk_at dksX1_init_8 0 rfl rfl)
theorem dX1_init_189 : decode cX1_init 189 = .ok (.aload_n 0, 1) := dk_42 (dk_at dksX1_init_8 3 rfl rfl)
theorem dX1_init_190 : decode cX1_init 190 = .ok (.iconst 3, 1) := dk_6 (dk_at dksX1_init_8 4 rfl rfl)
theorem dX1_init_191 : decode cX1_init 191 = .ok (.anewarray 133, 3) := dk_189 0 133 (dk_at dksX1_init_8 5 rfl rfl)
theorem dX1_init_194 : decode cX1_init 194 = .ok (.putfield 135, 3) := dk_181 0 135 (dk_at dksX1_init_8 8 rfl rfl)
theorem dX1_init_197 : decode cX1_init 197 = .ok (.iconst 0, 1) := dk_3 (dk_at dksX1_init_8 11 rfl rfl)
theorem dX1_init_198 : decode cX1_init 198 = .ok (.istore_n 1, 1) := dk_60 (dk_at dksX1_init_8 12 rfl rfl)
theorem dX1_init_199 : decode cX1_init 199 = .ok (.iload_n 1, 1) := dk_27 (dk_at dksX1_init_8 13 rfl rfl)
theorem dX1_init_200 : decode cX1_init 200 = .ok (.bipush 15, 2) := dk_16 15 (dk_at dksX1_init_8 14 rfl rfl)
theorem dX1_init_202 : decode cX1_init 202 = .ok (.if_icmp .ge 22, 3) := dk_162 0 22 (dk_at dksX1_init_8 16 rfl rfl)
theorem dX1_init_205 : decode cX1_init 205 = .ok (.aload_n 0, 1) := dk_42 (dk_at dksX1_init_8 19 rfl rfl)
theorem dX1_init_206 : decode cX1_init 206 = .ok (.getfield 94, 3) := dk_180 0 94 (dk_at dksX1_init_8 20 rfl rfl)
theorem dX1_init_209 : decode cX1_init 209 = .ok (.iload_n 1, 1) := dk_27 (dk_at dksX1_init_8 23 rfl rfl)
theorem dX1_init_210 : decode cX1_init 210 = .ok (.new 35, 3) := dk_187 0 35 (dk_at dksX1_init_9 0 rfl rfl)
theorem dX1_init_213 : decode cX1_init 213 = .ok (.dup, 1) := dk_89 (dk_at dksX1_init_9 3 rfl rfl)
theorem dX1_init_214 : decode cX1_init 214 = .ok (.invokespecial 83, 3) := dk_183 0 83 (dk_at dksX1_init_9 4 rfl rfl)
theorem dX1_init_217 : decode cX1_init 217 = .ok (.aastore, 1) := dk_83 (dk_at dksX1_init_9 7 rfl rfl)
theorem dX1_init_218 : decode cX1_init 218 = .ok (.iinc 1 1, 3) := dk_132 1 1 (dk_at dksX1_init_9 8 rfl rfl)
theorem dX1_init_221 : decode cX1_init 221 = .ok (.goto (-22), 3) := dk_167 255 234 (dk_at dksX1_init_9 11 rfl rfl)
theorem dX1_init_224 : decode cX1_init 224 = .ok (.return_, 1) := dk_177 (dk_at dksX1_init_9 14 rfl rfl)
abbrev cX1_sign : ByteArray := prog_1_method_18_code
def yX1_sign : MethodName := ⟨RX1, "sign", "(I)I"⟩
def dkwX1_sign_2 : List UInt8 := [167, 255, 226, 42, 180, 0, 160, 172]
abbrev dktX1_sign_2 : List UInt8 := dkwX1_sign_2 ++ []
def dkwX1_sign_1 : List UInt8 := [42, 180, 0, 160, 27, 28, 122, 145, 84, 42, 89, 180, 0, 160, 4, 96, 181, 0, 160, 132, 2, 248]
abbrev dktX1_sign_1 : List UInt8 := dkwX1_sign_1 ++ dktX1_sign_2
def dkwX1_sign_0 : List UInt8 := [42, 180, 0, 160, 7, 96, 16, 80, 164, 0, 5, 2, 172, 16, 24, 61, 28, 155, 0, 32, 42, 180, 0, 102]
abbrev dktX1_sign_0 : List UInt8 := dkwX1_sign_0 ++ dktX1_sign_1
theorem dksX1_sign_0 : cX1_sign.data.toList.drop 0 = dktX1_sign_0 := by decide +kernel
theorem dksX1_sign_1 : cX1_sign.data.toList.drop 24 = dktX1_sign_1 := dk_seg dksX1_sign_0 24 rfl rfl
theorem dksX1_sign_2 : cX1_sign.data.toList.drop 46 = dktX1_sign_2 := dk_seg dksX1_sign_1 22 rfl rfl
theorem dX1_sign_0 : decode cX1_sign 0 = .ok (.aload_n 0, 1) := dk_42 (dk_at dksX1_sign_0 0 rfl rfl)
theorem dX1_sign_1 : decode cX1_sign 1 = .ok (.getfield 160, 3) := dk_180 0 160 (dk_at dksX1_sign_0 1 rfl rfl)
theorem dX1_sign_4 : decode cX1_sign 4 = .ok (.iconst 4, 1) := dk_7 (dk_at dksX1_sign_0 4 rfl rfl)
theorem dX1_sign_5 : decode cX1_sign 5 = .ok (.iadd, 1) := dk_96 (dk_at dksX1_sign_0 5 rfl rfl)
theorem dX1_sign_6 : decode cX1_sign 6 = .ok (.bipush 80, 2) := dk_16 80 (dk_at dksX1_sign_0 6 rfl rfl)
theorem dX1_sign_8 : decode cX1_sign 8 = .ok (.if_icmp .le 5, 3) := dk_164 0 5 (dk_at dksX1_sign_0 8 rfl rfl)
theorem dX1_sign_11 : decode cX1_sign 11 = .ok (.iconst (-1), 1) := dk_2 (dk_at dksX1_sign_0 11 rfl rfl)
theorem dX1_sign_12 : decode cX1_sign 12 = .ok (.ireturn, 1) := dk_172 (dk_at dksX1_sign_0 12 rfl rfl)
theorem dX1_sign_13 : decode cX1_sign 13 = .ok (.bipush 24, 2) := dk_16 24 (dk_at dksX1_sign_0 13 rfl rfl)
theorem dX1_sign_15 : decode cX1_sign 15 = .ok (.istore_n 2, 1) := dk_61 (dk_at dksX1_sign_0 15 rfl rfl)
theorem dX1_sign_16 : decode cX1_sign 16 = .ok (.iload_n 2, 1) := dk_28 (dk_at dksX1_sign_0 16 rfl rfl)
theorem dX1_sign_17 : decode cX1_sign 17 = .ok (.ifCond .lt 32, 3) := dk_155 0 32 (dk_at dksX1_sign_0 17 rfl rfl)
theorem dX1_sign_20 : decode cX1_sign 20 = .ok (.aload_n 0, 1) := dk_42 (dk_at dksX1_sign_0 20 rfl rfl)
theorem dX1_sign_21 : decode cX1_sign 21 = .ok (.getfield 102, 3) := dk_180 0 102 (dk_at dksX1_sign_0 21 rfl rfl)
theorem dX1_sign_24 : decode cX1_sign 24 = .ok (.aload_n 0, 1) := dk_42 (dk_at dksX1_sign_1 0 rfl rfl)
theorem dX1_sign_25 : decode cX1_sign 25 = .ok (.getfield 160, 3) := dk_180 0 160 (dk_at dksX1_sign_1 1 rfl rfl)
theorem dX1_sign_28 : decode cX1_sign 28 = .ok (.iload_n 1, 1) := dk_27 (dk_at dksX1_sign_1 4 rfl rfl)
theorem dX1_sign_29 : decode cX1_sign 29 = .ok (.iload_n 2, 1) := dk_28 (dk_at dksX1_sign_1 5 rfl rfl)
theorem dX1_sign_30 : decode cX1_sign 30 = .ok (.ishr, 1) := dk_122 (dk_at dksX1_sign_1 6 rfl rfl)
theorem dX1_sign_31 : decode cX1_sign 31 = .ok (.i2b, 1) := dk_145 (dk_at dksX1_sign_1 7 rfl rfl)
theorem dX1_sign_32 : decode cX1_sign 32 = .ok (.bastore, 1) := dk_84 (dk_at dksX1_sign_1 8 rfl rfl)
theorem dX1_sign_33 : decode cX1_sign 33 = .ok (.aload_n 0, 1) := dk_42 (dk_at dksX1_sign_1 9 rfl rfl)
theorem dX1_sign_34 : decode cX1_sign 34 = .ok (.dup, 1) := dk_89 (dk_at dksX1_sign_1 10 rfl rfl)
theorem dX1_sign_35 : decode cX1_sign 35 = .ok (.getfield 160, 3) := dk_180 0 160 (dk_at dksX1_sign_1 11 rfl rfl)
theorem dX1_sign_38 : decode cX1_sign 38 = .ok (.iconst 1, 1) := dk_4 (dk_at dksX1_sign_1 14 rfl rfl)
theorem dX1_sign_39 : decode cX1_sign 39 = .ok (.iadd, 1) := dk_96 (dk_at dksX1_sign_1 15 rfl rfl)
theorem dX1_sign_40 : decode cX1_sign 40 = .ok (.putfield 160, 3) := dk_181 0 160 (dk_at dksX1_sign_1 16 rfl rfl)
theorem dX1_sign_43 : decode cX1_sign 43 = .ok (.iinc 2 (-8), 3) := dk_132 2 248 (dk_at dksX1_sign_1 19 rfl rfl)
theorem dX1_sign_46 : decode cX1_sign 46 = .ok (.goto (-30), 3) := dk_167 255 226 (dk_at dksX1_sign_2 0 rfl rfl)
theorem dX1_sign_49 : decode cX1_sign 49 = .ok (.aload_n 0, 1) := dk_42 (dk_at dksX1_sign_2 3 rfl rfl)
theorem dX1_sign_50 : decode cX1_sign 50 = .ok (.getfield 160, 3) := dk_180 0 160 (dk_at dksX1_sign_2 4 rfl rfl)
theorem dX1_sign_53 : decode cX1_sign 53 = .ok (.ireturn, 1) := dk_172 (dk_at dksX1_sign_2 7 rfl rfl)
abbrev cX1_end : ByteArray := prog_1_method_19_code
def yX1_end : MethodName := ⟨RX1, "end", "(I)Z"⟩
def dkwX1_end_0 : List UInt8 := [27, 133, 9, 42, 180, 0, 160, 133, 184, 0, 146, 154, 0, 5, 3, 172, 42, 27, 181, 0, 160, 4, 172]
abbrev dktX1_end_0 : List UInt8 := dkwX1_end_0 ++ []
theorem dksX1_end_0 : cX1_end.data.toList.drop 0 = dktX1_end_0 := by decide +kernel
theorem dX1_end_0 : decode cX1_end 0 = .ok (.iload_n 1, 1) := dk_27 (dk_at dksX1_end_0 0 rfl rfl)
theorem dX1_end_1 : decode cX1_end 1 = .ok (.i2l, 1) := dk_133 (dk_at dksX1_end_0 1 rfl rfl)
theorem dX1_end_2 : decode cX1_end 2 = .ok (.lconst 0, 1) := dk_9 (dk_at dksX1_end_0 2 rfl rfl)
theorem dX1_end_3 : decode cX1_end 3 = .ok (.aload_n 0, 1) := dk_42 (dk_at dksX1_end_0 3 rfl rfl)
theorem dX1_end_4 : decode cX1_end 4 = .ok (.getfield 160, 3) := dk_180 0 160 (dk_at dksX1_end_0 4 rfl rfl)
theorem dX1_end_7 : decode cX1_end 7 = .ok (.i2l, 1) := dk_133 (dk_at dksX1_end_0 7 rfl rfl)
theorem dX1_end_8 : decode cX1_end 8 = .ok (.invokestatic 146, 3) := dk_184 0 146 (dk_at dksX1_end_0 8 rfl rfl)
theorem dX1_end_11 : decode cX1_end 11 = .ok (.ifCond .ne 5, 3) := dk_154 0 5 (dk_at dksX1_end_0 11 rfl rfl)
theorem dX1_end_14 : decode cX1_end 14 = .ok (.iconst 0, 1) := dk_3 (dk_at dksX1_end_0 14 rfl rfl)
theorem dX1_end_15 : decode cX1_end 15 = .ok (.ireturn, 1) := dk_172 (dk_at dksX1_end_0 15 rfl rfl)
theorem dX1_end_16 : decode cX1_end 16 = .ok (.aload_n 0, 1) := dk_42 (dk_at dksX1_end_0 16 rfl rfl)
theorem dX1_end_17 : decode cX1_end 17 = .ok (.iload_n 1, 1) := dk_27 (dk_at dksX1_end_0 17 rfl rfl)
theorem dX1_end_18 : decode cX1_end 18 = .ok (.putfield 160, 3) := dk_181 0 160 (dk_at dksX1_end_0 18 rfl rfl)
theorem dX1_end_21 : decode cX1_end 21 = .ok (.iconst 1, 1) := dk_4 (dk_at dksX1_end_0 21 rfl rfl)
theorem dX1_end_22 : decode cX1_end 22 = .ok (.ireturn, 1) := dk_172 (dk_at dksX1_end_0 22 rfl rfl)
abbrev cX1_in : ByteArray := prog_1_method_1_code
def yX1_in : MethodName := ⟨RX1, "in", "(JJJ)Z"⟩
def dkwX1_in_0 : List UInt8 := [30, 32, 148, 155, 0, 14, 30, 22, 4, 148, 157, 0, 7, 4, 167, 0, 4, 3, 172]
abbrev dktX1_in_0 : List UInt8 := dkwX1_in_0 ++ []
theorem dksX1_in_0 : cX1_in.data.toList.drop 0 = dktX1_in_0 := by decide +kernel
theorem dX1_in_0 : decode cX1_in 0 = .ok (.lload_n 0, 1) := dk_30 (dk_at dksX1_in_0 0 rfl rfl)
theorem dX1_in_1 : decode cX1_in 1 = .ok (.lload_n 2, 1) := dk_32 (dk_at dksX1_in_0 1 rfl rfl)
theorem dX1_in_2 : decode cX1_in 2 = .ok (.lcmp, 1) := dk_148 (dk_at dksX1_in_0 2 rfl rfl)
theorem dX1_in_3 : decode cX1_in 3 = .ok (.ifCond .lt 14, 3) := dk_155 0 14 (dk_at dksX1_in_0 3 rfl rfl)
theorem dX1_in_6 : decode cX1_in 6 = .ok (.lload_n 0, 1) := dk_30 (dk_at dksX1_in_0 6 rfl rfl)
theorem dX1_in_7 : decode cX1_in 7 = .ok (.lload 4, 2) := dk_22 4 (dk_at dksX1_in_0 7 rfl rfl)
theorem dX1_in_9 : decode cX1_in 9 = .ok (.lcmp, 1) := dk_148 (dk_at dksX1_in_0 9 rfl rfl)
theorem dX1_in_10 : decode cX1_in 10 = .ok (.ifCond .gt 7, 3) := dk_157 0 7 (dk_at dksX1_in_0 10 rfl rfl)
theorem dX1_in_13 : decode cX1_in 13 = .ok (.iconst 1, 1) := dk_4 (dk_at dksX1_in_0 13 rfl rfl)
theorem dX1_in_14 : decode cX1_in 14 = .ok (.goto 4, 3) := dk_167 0 4 (dk_at dksX1_in_0 14 rfl rfl)
theorem dX1_in_17 : decode cX1_in 17 = .ok (.iconst 0, 1) := dk_3 (dk_at dksX1_in_0 17 rfl rfl)
theorem dX1_in_18 : decode cX1_in 18 = .ok (.ireturn, 1) := dk_172 (dk_at dksX1_in_0 18 rfl rfl)
abbrev cX1_valley : ByteArray := prog_1_method_20_code
def yX1_valley : MethodName := ⟨RX1, "valley", "()I"⟩
def dkwX1_valley_6 : List UInt8 := [172]
abbrev dktX1_valley_6 : List UInt8 := dkwX1_valley_6 ++ []
def dkwX1_valley_5 : List UInt8 := [3, 181, 0, 153, 42, 3, 181, 0, 190, 42, 180, 0, 84, 3, 181, 0, 34, 42, 182, 0, 193, 28, 29, 104]
abbrev dktX1_valley_5 : List UInt8 := dkwX1_valley_5 ++ dktX1_valley_6
def dkwX1_valley_4 : List UInt8 := [100, 172, 42, 28, 181, 0, 80, 42, 29, 181, 0, 13, 42, 22, 4, 181, 0, 22, 42, 3, 181, 0, 150, 42]
abbrev dktX1_valley_4 : List UInt8 := dkwX1_valley_4 ++ dktX1_valley_5
def dkwX1_valley_3 : List UInt8 := [182, 0, 178, 132, 6, 1, 167, 255, 214, 43, 182, 0, 182, 167, 0, 13, 58, 6, 2, 25, 6, 180, 0, 187]
abbrev dktX1_valley_3 : List UInt8 := dkwX1_valley_3 ++ dktX1_valley_4
def dkwX1_valley_2 : List UInt8 := [153, 0, 15, 22, 4, 10, 21, 6, 121, 129, 55, 4, 167, 0, 13, 43, 43, 16, 46, 182, 0, 174]
abbrev dktX1_valley_2 : List UInt8 := dkwX1_valley_2 ++ dktX1_valley_3
def dkwX1_valley_1 : List UInt8 := [182, 0, 170, 6, 96, 62, 3, 54, 6, 21, 6, 28, 29, 104, 162, 0, 40, 43, 16, 35, 182, 0, 174]
abbrev dktX1_valley_1 : List UInt8 := dkwX1_valley_1 ++ dktX1_valley_2
def dkwX1_valley_0 : List UInt8 := [42, 16, 51, 182, 0, 166, 76, 9, 55, 4, 43, 16, 51, 8, 182, 0, 170, 6, 96, 61, 43, 16, 51, 8]
abbrev dktX1_valley_0 : List UInt8 := dkwX1_valley_0 ++ dktX1_valley_1
theorem dksX1_valley_0 : cX1_valley.data.toList.drop 0 = dktX1_valley_0 := by decide +kernel
theorem dksX1_valley_1 : cX1_valley.data.toList.drop 24 = dktX1_valley_1 := dk_seg dksX1_valley_0 24 rfl rfl
theorem dksX1_valley_2 : cX1_valley.data.toList.drop 47 = dktX1_valley_2 := dk_seg dksX1_valley_1 23 rfl rfl
theorem dksX1_valley_3 : cX1_valley.data.toList.drop 69 = dktX1_valley_3 := dk_seg dksX1_valley_2 22 rfl rfl
theorem dksX1_valley_4 : cX1_valley.data.toList.drop 93 = dktX1_valley_4 := dk_seg dksX1_valley_3 24 rfl rfl
theorem dksX1_valley_5 : cX1_valley.data.toList.drop 117 = dktX1_valley_5 := dk_seg dksX1_valley_4 24 rfl rfl
theorem dksX1_valley_6 : cX1_valley.data.toList.drop 141 = dktX1_valley_6 := dk_seg dksX1_valley_5 24 rfl rfl
theorem dX1_valley_0 : decode cX1_valley 0 = .ok (.aload_n 0, 1) := dk_42 (dk_at dksX1_valley_0 0 rfl rfl)
theorem dX1_valley_1 : decode cX1_valley 1 = .ok (.bipush 51, 2) := dk_16 51 (dk_at dksX1_valley_0 1 rfl rfl)
theorem dX1_valley_3 : decode cX1_valley 3 = .ok (.invokevirtual 166, 3) := dk_182 0 166 (dk_at dksX1_valley_0 3 rfl rfl)
theorem dX1_valley_6 : decode cX1_valley 6 = .ok (.astore_n 1, 1) := dk_76 (dk_at dksX1_valley_0 6 rfl rfl)
theorem dX1_valley_7 : decode cX1_valley 7 = .ok (.lconst 0, 1) := dk_9 (dk_at dksX1_valley_0 7 rfl rfl)
theorem dX1_valley_8 : decode cX1_valley 8 = .ok (.lstore 4, 2) := dk_55 4 (dk_at dksX1_valley_0 8 rfl rfl)
theorem dX1_valley_10 : decode cX1_valley 10 = .ok (.aload_n 1, 1) := dk_43 (dk_at dksX1_valley_0 10 rfl rfl)
theorem dX1_valley_11 : decode cX1_valley 11 = .ok (.bipush 51, 2) := dk_16 51 (dk_at dksX1_valley_0 11 rfl rfl)
theorem dX1_valley_13 : decode cX1_valley 13 = .ok (.iconst 5, 1) := dk_8 (dk_at dksX1_valley_0 13 rfl rfl)
theorem dX1_valley_14 : decode cX1_valley 14 = .ok (.invokevirtual 170, 3) := dk_182 0 170 (dk_at dksX1_valley_0 14 rfl rfl)
theorem dX1_valley_17 : decode cX1_valley 17 = .ok (.iconst 3, 1) := dk_6 (dk_at dksX1_valley_0 17 rfl rfl)
theorem dX1_valley_18 : decode cX1_valley 18 = .ok (.iadd, 1) := dk_96 (dk_at dksX1_valley_0 18 rfl rfl)
theorem dX1_valley_19 : decode cX1_valley 19 = .ok (.istore_n 2, 1) := dk_61 (dk_at dksX1_valley_0 19 rfl rfl)
theorem dX1_valley_20 : decode cX1_valley 20 = .ok (.aload_n 1, 1) := dk_43 (dk_at dksX1_valley_0 20 rfl rfl)
theorem dX1_valley_21 : decode cX1_valley 21 = .ok (.bipush 51, 2) := dk_16 51 (dk_at dksX1_valley_0 21 rfl rfl)
theorem dX1_valley_23 : decode cX1_valley 23 = .ok (.iconst 5, 1) := dk_8 (dk_at dksX1_valley_0 23 rfl rfl)
theorem dX1_valley_24 : decode cX1_valley 24 = .ok (.invokevirtual 170, 3) := dk_182 0 170 (dk_at dksX1_valley_1 0 rfl rfl)
theorem dX1_valley_27 : decode cX1_valley 27 = .ok (.iconst 3, 1) := dk_6 (dk_at dksX1_valley_1 3 rfl rfl)
theorem dX1_valley_28 : decode cX1_valley 28 = .ok (.iadd, 1) := dk_96 (dk_at dksX1_valley_1 4 rfl rfl)
theorem dX1_valley_29 : decode cX1_valley 29 = .ok (.istore_n 3, 1) := dk_62 (dk_at dksX1_valley_1 5 rfl rfl)
theorem dX1_valley_30 : decode cX1_valley 30 = .ok (.iconst 0, 1) := dk_3 (dk_at dksX1_valley_1 6 rfl rfl)
theorem dX1_valley_31 : decode cX1_valley 31 = .ok (.istore 6, 2) := dk_54 6 (dk_at dksX1_valley_1 7 rfl rfl)
theorem dX1_valley_33 : decode cX1_valley 33 = .ok (.iload 6, 2) := dk_21 6 (dk_at dksX1_valley_1 9 rfl rfl)
theorem dX1_valley_35 : decode cX1_valley 35 = .ok (.iload_n 2, 1) := dk_28 (dk_at dksX1_valley_1 11 rfl rfl)
theorem dX1_valley_36 : decode cX1_valley 36 = .ok (.iload_n 3, 1) := dk_29 (dk_at dksX1_valley_1 12 rfl rfl)
theorem dX1_valley_37 : decode cX1_valley 37 = .ok (.imul, 1) := dk_104 (dk_at dksX1_valley_1 13 rfl rfl)
theorem dX1_valley_38 : decode cX1_valley 38 = .ok (.if_icmp .ge 40, 3) := dk_162 0 40 (dk_at dksX1_valley_1 14 rfl rfl)
theorem dX1_valley_41 : decode cX1_valley 41 = .ok (.aload_n 1, 1) := dk_43 (dk_at dksX1_valley_1 17 rfl rfl)
theorem dX1_valley_42 : decode cX1_valley 42 = .ok (.bipush 35, 2) := dk_16 35 (dk_at dksX1_valley_1 18 rfl rfl)
theorem dX1_valley_44 : decode cX1_valley 44 = .ok (.invokevirtual 174, 3) := dk_182 0 174 (dk_at dksX1_valley_1 20 rfl rfl)
theorem dX1_valley_47 : decode cX1_valley 47 = .ok (.ifCond .eq 15, 3) := dk_153 0 15 (dk_at dksX1_valley_2 0 rfl rfl)
theorem dX1_valley_50 : decode cX1_valley 50 = .ok (.lload 4, 2) := dk_22 4 (dk_at dksX1_valley_2 3 rfl rfl)
theorem dX1_valley_52 : decode cX1_valley 52 = .ok (.lconst 1, 1) := dk_10 (dk_at dksX1_valley_2 5 rfl rfl)
theorem dX1_valley_53 : decode cX1_valley 53 = .ok (.iload 6, 2) := dk_21 6 (dk_at dksX1_valley_2 6 rfl rfl)
theorem dX1_valley_55 : decode cX1_valley 55 = .ok (.lshl, 1) := dk_121 (dk_at dksX1_valley_2 8 rfl rfl)
theorem dX1_valley_56 : decode cX1_valley 56 = .ok (.lor, 1) := dk_129 (dk_at dksX1_valley_2 9 rfl rfl)
theorem dX1_valley_57 : decode cX1_valley 57 = .ok (.lstore 4, 2) := dk_55 4 (dk_at dksX1_valley_2 10 rfl rfl)
theorem dX1_valley_59 : decode cX1_valley 59 = .ok (.goto 13, 3) := dk_167 0 13 (dk_at dksX1_valley_2 12 rfl rfl)
theorem dX1_valley_62 : decode cX1_valley 62 = .ok (.aload_n 1, 1) := dk_43 (dk_at dksX1_valley_2 15 rfl rfl)
theorem dX1_valley_63 : decode cX1_valley 63 = .ok (.aload_n 1, 1) := dk_43 (dk_at dksX1_valley_2 16 rfl rfl)
theorem dX1_valley_64 : decode cX1_valley 64 = .ok (.bipush 46, 2) := dk_16 46 (dk_at dksX1_valley_2 17 rfl rfl)
theorem dX1_valley_66 : decode cX1_valley 66 = .ok (.invokevirtual 174, 3) := dk_182 0 174 (dk_at dksX1_valley_2 19 rfl rfl)
theorem dX1_valley_69 : decode cX1_valley 69 = .ok (.invokevirtual 178, 3) := dk_182 0 178 (dk_at dksX1_valley_3 0 rfl rfl)
theorem dX1_valley_72 : decode cX1_valley 72 = .ok (.iinc 6 1, 3) := dk_132 6 1 (dk_at dksX1_valley_3 3 rfl rfl)
theorem dX1_valley_75 : decode cX1_valley 75 = .ok (.goto (-42), 3) := dk_167 255 214 (dk_at dksX1_valley_3 6 rfl rfl)
theorem dX1_valley_78 : decode cX1_valley 78 = .ok (.aload_n 1, 1) := dk_43 (dk_at dksX1_valley_3 9 rfl rfl)
theorem dX1_valley_79 : decode cX1_valley 79 = .ok (.invokevirtual 182, 3) := dk_182 0 182 (dk_at dksX1_valley_3 10 rfl rfl)
theorem dX1_valley_82 : decode cX1_valley 82 = .ok (.goto 13, 3) := dk_167 0 13 (dk_at dksX1_valley_3 13 rfl rfl)
theorem dX1_valley_85 : decode cX1_valley 85 = .ok (.astore 6, 2) := dk_58 6 (dk_at dksX1_valley_3 16 rfl rfl)
theorem dX1_valley_87 : decode cX1_valley 87 = .ok (.iconst (-1), 1) := dk_2 (dk_at dksX1_valley_3 18 rfl rfl)
theorem dX1_valley_88 : decode cX1_valley 88 = .ok (.aload 6, 2) := dk_25 6 (dk_at dksX1_valley_3 19 rfl rfl)
theorem dX1_valley_90 : decode cX1_valley 90 = .ok (.getfield 187, 3) := dk_180 0 187 (dk_at dksX1_valley_3 21 rfl rfl)
theorem dX1_valley_93 : decode cX1_valley 93 = .ok (.isub, 1) := dk_100 (dk_at dksX1_valley_4 0 rfl rfl)
theorem dX1_valley_94 : decode cX1_valley 94 = .ok (.ireturn, 1) := dk_172 (dk_at dksX1_valley_4 1 rfl rfl)
theorem dX1_valley_95 : decode cX1_valley 95 = .ok (.aload_n 0, 1) := dk_42 (dk_at dksX1_valley_4 2 rfl rfl)
theorem dX1_valley_96 : decode cX1_valley 96 = .ok (.iload_n 2, 1) := dk_28 (dk_at dksX1_valley_4 3 rfl rfl)
theorem dX1_valley_97 : decode cX1_valley 97 = .ok (.putfield 80, 3) := dk_181 0 80 (dk_at dksX1_valley_4 4 rfl rfl)
theorem dX1_valley_100 : decode cX1_valley 100 = .ok (.aload_n 0, 1) := dk_42 (dk_at dksX1_valley_4 7 rfl rfl)
theorem dX1_valley_101 : decode cX1_valley 101 = .ok (.iload_n 3, 1) := dk_29 (dk_at dksX1_valley_4 8 rfl rfl)
theorem dX1_valley_102 : decode cX1_valley 102 = .ok (.putfield 13, 3) := dk_181 0 13 (dk_at dksX1_valley_4 9 rfl rfl)
theorem dX1_valley_105 : decode cX1_valley 105 = .ok (.aload_n 0, 1) := dk_42 (dk_at dksX1_valley_4 12 rfl rfl)
theorem dX1_valley_106 : decode cX1_valley 106 = .ok (.lload 4, 2) := dk_22 4 (dk_at dksX1_valley_4 13 rfl rfl)
theorem dX1_valley_108 : decode cX1_valley 108 = .ok (.putfield 22, 3) := dk_181 0 22 (dk_at dksX1_valley_4 15 rfl rfl)
theorem dX1_valley_111 : decode cX1_valley 111 = .ok (.aload_n 0, 1) := dk_42 (dk_at dksX1_valley_4 18 rfl rfl)
theorem dX1_valley_112 : decode cX1_valley 112 = .ok (.iconst 0, 1) := dk_3 (dk_at dksX1_valley_4 19 rfl rfl)
theorem dX1_valley_113 : decode cX1_valley 113 = .ok (.putfield 150, 3) := dk_181 0 150 (dk_at dksX1_valley_4 20 rfl rfl)
theorem dX1_valley_116 : decode cX1_valley 116 = .ok (.aload_n 0, 1) := dk_42 (dk_at dksX1_valley_4 23 rfl rfl)
theorem dX1_valley_117 : decode cX1_valley 117 = .ok (.iconst 0, 1) := dk_3 (dk_at dksX1_valley_5 0 rfl rfl)
theorem dX1_valley_118 : decode cX1_valley 118 = .ok (.putfield 153, 3) := dk_181 0 153 (dk_at dksX1_valley_5 1 rfl rfl)
theorem dX1_valley_121 : decode cX1_valley 121 = .ok (.aload_n 0, 1) := dk_42 (dk_at dksX1_valley_5 4 rfl rfl)
theorem dX1_valley_122 : decode cX1_valley 122 = .ok (.iconst 0, 1) := dk_3 (dk_at dksX1_valley_5 5 rfl rfl)
theorem dX1_valley_123 : decode cX1_valley 123 = .ok (.putfield 190, 3) := dk_181 0 190 (dk_at dksX1_valley_5 6 rfl rfl)
theorem dX1_valley_126 : decode cX1_valley 126 = .ok (.aload_n 0, 1) := dk_42 (dk_at dksX1_valley_5 9 rfl rfl)
theorem dX1_valley_127 : decode cX1_valley 127 = .ok (.getfield 84, 3) := dk_180 0 84 (dk_at dksX1_valley_5 10 rfl rfl)
theorem dX1_valley_130 : decode cX1_valley 130 = .ok (.iconst 0, 1) := dk_3 (dk_at dksX1_valley_5 13 rfl rfl)
theorem dX1_valley_131 : decode cX1_valley 131 = .ok (.putfield 34, 3) := dk_181 0 34 (dk_at dksX1_valley_5 14 rfl rfl)
theorem dX1_valley_134 : decode cX1_valley 134 = .ok (.aload_n 0, 1) := dk_42 (dk_at dksX1_valley_5 17 rfl rfl)
theorem dX1_valley_135 : decode cX1_valley 135 = .ok (.invokevirtual 193, 3) := dk_182 0 193 (dk_at dksX1_valley_5 18 rfl rfl)
theorem dX1_valley_138 : decode cX1_valley 138 = .ok (.iload_n 2, 1) := dk_28 (dk_at dksX1_valley_5 21 rfl rfl)
theorem dX1_valley_139 : decode cX1_valley 139 = .ok (.iload_n 3, 1) := dk_29 (dk_at dksX1_valley_5 22 rfl rfl)
theorem dX1_valley_140 : decode cX1_valley 140 = .ok (.imul, 1) := dk_104 (dk_at dksX1_valley_5 23 rfl rfl)
theorem dX1_valley_141 : decode cX1_valley 141 = .ok (.ireturn, 1) := dk_172 (dk_at dksX1_valley_6 0 rfl rfl)
abbrev cX1_words : ByteArray := prog_1_method_17_code
def yX1_words : MethodName := ⟨RX1, "words", "(I)LBonnetValley$Words;"⟩
def dkwX1_words_0 : List UInt8 := [187, 0, 158, 89, 42, 180, 0, 102, 42, 180, 0, 160, 27, 183, 0, 163, 77, 42, 3, 181, 0, 160, 44, 176]
abbrev dktX1_words_0 : List UInt8 := dkwX1_words_0 ++ []
theorem dksX1_words_0 : cX1_words.data.toList.drop 0 = dktX1_words_0 := by decide +kernel
theorem dX1_words_0 : decode cX1_words 0 = .ok (.new 158, 3) := dk_187 0 158 (dk_at dksX1_words_0 0 rfl rfl)
theorem dX1_words_3 : decode cX1_words 3 = .ok (.dup, 1) := dk_89 (dk_at dksX1_words_0 3 rfl rfl)
theorem dX1_words_4 : decode cX1_words 4 = .ok (.aload_n 0, 1) := dk_42 (dk_at dksX1_words_0 4 rfl rfl)
theorem dX1_words_5 : decode cX1_words 5 = .ok (.getfield 102, 3) := dk_180 0 102 (dk_at dksX1_words_0 5 rfl rfl)
theorem dX1_words_8 : decode cX1_words 8 = .ok (.aload_n 0, 1) := dk_42 (dk_at dksX1_words_0 8 rfl rfl)
theorem dX1_words_9 : decode cX1_words 9 = .ok (.getfield 160, 3) := dk_180 0 160 (dk_at dksX1_words_0 9 rfl rfl)
theorem dX1_words_12 : decode cX1_words 12 = .ok (.iload_n 1, 1) := dk_27 (dk_at dksX1_words_0 12 rfl rfl)
theorem dX1_words_13 : decode cX1_words 13 = .ok (.invokespecial 163, 3) := dk_183 0 163 (dk_at dksX1_words_0 13 rfl rfl)
theorem dX1_words_16 : decode cX1_words 16 = .ok (.astore_n 2, 1) := dk_77 (dk_at dksX1_words_0 16 rfl rfl)
theorem dX1_words_17 : decode cX1_words 17 = .ok (.aload_n 0, 1) := dk_42 (dk_at dksX1_words_0 17 rfl rfl)
theorem dX1_words_18 : decode cX1_words 18 = .ok (.iconst 0, 1) := dk_3 (dk_at dksX1_words_0 18 rfl rfl)
theorem dX1_words_19 : decode cX1_words 19 = .ok (.putfield 160, 3) := dk_181 0 160 (dk_at dksX1_words_0 19 rfl rfl)
theorem dX1_words_22 : decode cX1_words 22 = .ok (.aload_n 2, 1) := dk_44 (dk_at dksX1_words_0 22 rfl rfl)
theorem dX1_words_23 : decode cX1_words 23 = .ok (.areturn, 1) := dk_176 (dk_at dksX1_words_0 23 rfl rfl)
abbrev cX1_comes : ByteArray := prog_1_method_21_code
def yX1_comes : MethodName := ⟨RX1, "comes", "()V"⟩
def dkwX1_comes_0 : List UInt8 := [42, 3, 181, 0, 196, 42, 89, 180, 0, 199, 4, 96, 181, 0, 199, 177]
abbrev dktX1_comes_0 : List UInt8 := dkwX1_comes_0 ++ []
theorem dksX1_comes_0 : cX1_comes.data.toList.drop 0 = dktX1_comes_0 := by decide +kernel
theorem dX1_comes_0 : decode cX1_comes 0 = .ok (.aload_n 0, 1) := dk_42 (dk_at dksX1_comes_0 0 rfl rfl)
theorem dX1_comes_1 : decode cX1_comes 1 = .ok (.iconst 0, 1) := dk_3 (dk_at dksX1_comes_0 1 rfl rfl)
theorem dX1_comes_2 : decode cX1_comes 2 = .ok (.putfield 196, 3) := dk_181 0 196 (dk_at dksX1_comes_0 2 rfl rfl)
theorem dX1_comes_5 : decode cX1_comes 5 = .ok (.aload_n 0, 1) := dk_42 (dk_at dksX1_comes_0 5 rfl rfl)
theorem dX1_comes_6 : decode cX1_comes 6 = .ok (.dup, 1) := dk_89 (dk_at dksX1_comes_0 6 rfl rfl)
theorem dX1_comes_7 : decode cX1_comes 7 = .ok (.getfield 199, 3) := dk_180 0 199 (dk_at dksX1_comes_0 7 rfl rfl)
theorem dX1_comes_10 : decode cX1_comes 10 = .ok (.iconst 1, 1) := dk_4 (dk_at dksX1_comes_0 10 rfl rfl)
theorem dX1_comes_11 : decode cX1_comes 11 = .ok (.iadd, 1) := dk_96 (dk_at dksX1_comes_0 11 rfl rfl)
theorem dX1_comes_12 : decode cX1_comes 12 = .ok (.putfield 199, 3) := dk_181 0 199 (dk_at dksX1_comes_0 12 rfl rfl)
theorem dX1_comes_15 : decode cX1_comes 15 = .ok (.return_, 1) := dk_177 (dk_at dksX1_comes_0 15 rfl rfl)
abbrev cX1_people : ByteArray := prog_1_method_23_code
def yX1_people : MethodName := ⟨RX1, "people", "()I"⟩
def dkwX1_people_9 : List UInt8 := [132, 4, 1, 42, 89, 180, 0, 150, 4, 96, 181, 0, 150, 167, 255, 170, 42, 182, 0, 193, 29, 172]
abbrev dktX1_people_9 : List UInt8 := dkwX1_people_9 ++ []
def dkwX1_people_8 : List UInt8 := [42, 180, 0, 150, 44, 21, 4, 50, 5, 46, 79, 42, 180, 0, 84, 180, 0, 225, 42, 180, 0, 150, 3, 79]
abbrev dktX1_people_8 : List UInt8 := dkwX1_people_8 ++ dktX1_people_9
def dkwX1_people_7 : List UInt8 := [180, 0, 84, 180, 0, 219, 42, 180, 0, 150, 44, 21, 4, 50, 4, 46, 79, 42, 180, 0, 84, 180, 0, 222]
abbrev dktX1_people_7 : List UInt8 := dkwX1_people_7 ++ dktX1_people_8
def dkwX1_people_6 : List UInt8 := [162, 0, 86, 42, 180, 0, 84, 180, 0, 217, 42, 180, 0, 150, 44, 21, 4, 50, 3, 46, 79, 42]
abbrev dktX1_people_6 : List UInt8 := dkwX1_people_6 ++ dktX1_people_7
def dkwX1_people_5 : List UInt8 := [182, 0, 182, 167, 0, 13, 58, 4, 2, 25, 4, 180, 0, 187, 100, 172, 3, 54, 4, 21, 4, 29]
abbrev dktX1_people_5 : List UInt8 := dkwX1_people_5 ++ dktX1_people_6
def dkwX1_people_4 : List UInt8 := [29, 50, 5, 43, 16, 48, 8, 182, 0, 170, 79, 132, 3, 1, 43, 16, 59, 182, 0, 174, 154, 255, 166, 43]
abbrev dktX1_people_4 : List UInt8 := dkwX1_people_4 ++ dktX1_people_5
def dkwX1_people_3 : List UInt8 := [43, 180, 0, 213, 4, 100, 183, 0, 214, 191, 44, 29, 50, 4, 43, 16, 48, 16, 8, 182, 0, 170, 79, 44]
abbrev dktX1_people_3 : List UInt8 := dkwX1_people_3 ++ dktX1_people_4
def dkwX1_people_2 : List UInt8 := [50, 3, 42, 43, 182, 0, 205, 79, 42, 44, 29, 50, 3, 46, 182, 0, 209, 153, 0, 17, 187, 0, 185, 89]
abbrev dktX1_people_2 : List UInt8 := dkwX1_people_2 ++ dktX1_people_3
def dkwX1_people_1 : List UInt8 := [3, 62, 43, 42, 180, 0, 150, 29, 96, 16, 8, 162, 0, 7, 4, 167, 0, 4, 3, 182, 0, 178, 44, 29]
abbrev dktX1_people_1 : List UInt8 := dkwX1_people_1 ++ dktX1_people_2
def dkwX1_people_0 : List UInt8 := [42, 16, 39, 182, 0, 166, 76, 43, 180, 0, 202, 154, 0, 5, 3, 172, 16, 8, 6, 197, 0, 116, 2, 77]
abbrev dktX1_people_0 : List UInt8 := dkwX1_people_0 ++ dktX1_people_1
theorem dksX1_people_0 : cX1_people.data.toList.drop 0 = dktX1_people_0 := by decide +kernel
theorem dksX1_people_1 : cX1_people.data.toList.drop 24 = dktX1_people_1 := dk_seg dksX1_people_0 24 rfl rfl
theorem dksX1_people_2 : cX1_people.data.toList.drop 48 = dktX1_people_2 := dk_seg dksX1_people_1 24 rfl rfl
theorem dksX1_people_3 : cX1_people.data.toList.drop 72 = dktX1_people_3 := dk_seg dksX1_people_2 24 rfl rfl
theorem dksX1_people_4 : cX1_people.data.toList.drop 96 = dktX1_people_4 := dk_seg dksX1_people_3 24 rfl rfl
theorem dksX1_people_5 : cX1_people.data.toList.drop 120 = dktX1_people_5 := dk_seg dksX1_people_4 24 rfl rfl
theorem dksX1_people_6 : cX1_people.data.toList.drop 142 = dktX1_people_6 := dk_seg dksX1_people_5 22 rfl rfl
theorem dksX1_people_7 : cX1_people.data.toList.drop 164 = dktX1_people_7 := dk_seg dksX1_people_6 22 rfl rfl
theorem dksX1_people_8 : cX1_people.data.toList.drop 188 = dktX1_people_8 := dk_seg dksX1_people_7 24 rfl rfl
theorem dksX1_people_9 : cX1_people.data.toList.drop 212 = dktX1_people_9 := dk_seg dksX1_people_8 24 rfl rfl
theorem dX1_people_0 : decode cX1_people 0 = .ok (.aload_n 0, 1) := dk_42 (dk_at dksX1_people_0 0 rfl rfl)
theorem dX1_people_1 : decode cX1_people 1 = .ok (.bipush 39, 2) := dk_16 39 (dk_at dksX1_people_0 1 rfl rfl)
theorem dX1_people_3 : decode cX1_people 3 = .ok (.invokevirtual 166, 3) := dk_182 0 166 (dk_at dksX1_people_0 3 rfl rfl)
theorem dX1_people_6 : decode cX1_people 6 = .ok (.astore_n 1, 1) := dk_76 (dk_at dksX1_people_0 6 rfl rfl)
theorem dX1_people_7 : decode cX1_people 7 = .ok (.aload_n 1, 1) := dk_43 (dk_at dksX1_people_0 7 rfl rfl)
theorem dX1_people_8 : decode cX1_people 8 = .ok (.getfield 202, 3) := dk_180 0 202 (dk_at dksX1_people_0 8 rfl rfl)
theorem dX1_people_11 : decode cX1_people 11 = .ok (.ifCond .ne 5, 3) := dk_154 0 5 (dk_at dksX1_people_0 11 rfl rfl)
theorem dX1_people_14 : decode cX1_people 14 = .ok (.iconst 0, 1) := dk_3 (dk_at dksX1_people_0 14 rfl rfl)
theorem dX1_people_15 : decode cX1_people 15 = .ok (.ireturn, 1) := dk_172 (dk_at dksX1_people_0 15 rfl rfl)
theorem dX1_people_16 : decode cX1_people 16 = .ok (.bipush 8, 2) := dk_16 8 (dk_at dksX1_people_0 16 rfl rfl)
theorem dX1_people_18 : decode cX1_people 18 = .ok (.iconst 3, 1) := dk_6 (dk_at dksX1_people_0 18 rfl rfl)
theorem dX1_people_19 : decode cX1_people 19 = .ok (.multianewarray 116 2, 4) := by decide +kernel
theorem dX1_people_23 : decode cX1_people 23 = .ok (.astore_n 2, 1) := dk_77 (dk_at dksX1_people_0 23 rfl rfl)
theorem dX1_people_24 : decode cX1_people 24 = .ok (.iconst 0, 1) := dk_3 (dk_at dksX1_people_1 0 rfl rfl)
theorem dX1_people_25 : decode cX1_people 25 = .ok (.istore_n 3, 1) := dk_62 (dk_at dksX1_people_1 1 rfl rfl)
theorem dX1_people_26 : decode cX1_people 26 = .ok (.aload_n 1, 1) := dk_43 (dk_at dksX1_people_1 2 rfl rfl)
theorem dX1_people_27 : decode cX1_people 27 = .ok (.aload_n 0, 1) := dk_42 (dk_at dksX1_people_1 3 rfl rfl)
theorem dX1_people_28 : decode cX1_people 28 = .ok (.getfield 150, 3) := dk_180 0 150 (dk_at dksX1_people_1 4 rfl rfl)
theorem dX1_people_31 : decode cX1_people 31 = .ok (.iload_n 3, 1) := dk_29 (dk_at dksX1_people_1 7 rfl rfl)
theorem dX1_people_32 : decode cX1_people 32 = .ok (.iadd, 1) := dk_96 (dk_at dksX1_people_1 8 rfl rfl)
theorem dX1_people_33 : decode cX1_people 33 = .ok (.bipush 8, 2) := dk_16 8 (dk_at dksX1_people_1 9 rfl rfl)
theorem dX1_people_35 : decode cX1_people 35 = .ok (.if_icmp .ge 7, 3) := dk_162 0 7 (dk_at dksX1_people_1 11 rfl rfl)
theorem dX1_people_38 : decode cX1_people 38 = .ok (.iconst 1, 1) := dk_4 (dk_at dksX1_people_1 14 rfl rfl)
theorem dX1_people_39 : decode cX1_people 39 = .ok (.goto 4, 3) := dk_167 0 4 (dk_at dksX1_people_1 15 rfl rfl)
theorem dX1_people_42 : decode cX1_people 42 = .ok (.iconst 0, 1) := dk_3 (dk_at dksX1_people_1 18 rfl rfl)
theorem dX1_people_43 : decode cX1_people 43 = .ok (.invokevirtual 178, 3) := dk_182 0 178 (dk_at dksX1_people_1 19 rfl rfl)
theorem dX1_people_46 : decode cX1_people 46 = .ok (.aload_n 2, 1) := dk_44 (dk_at dksX1_people_1 22 rfl rfl)
theorem dX1_people_47 : decode cX1_people 47 = .ok (.iload_n 3, 1) := dk_29 (dk_at dksX1_people_1 23 rfl rfl)
theorem dX1_people_48 : decode cX1_people 48 = .ok (.aaload, 1) := dk_50 (dk_at dksX1_people_2 0 rfl rfl)
theorem dX1_people_49 : decode cX1_people 49 = .ok (.iconst 0, 1) := dk_3 (dk_at dksX1_people_2 1 rfl rfl)
theorem dX1_people_50 : decode cX1_people 50 = .ok (.aload_n 0, 1) := dk_42 (dk_at dksX1_people_2 2 rfl rfl)
theorem dX1_people_51 : decode cX1_people 51 = .ok (.aload_n 1, 1) := dk_43 (dk_at dksX1_people_2 3 rfl rfl)
theorem dX1_people_52 : decode cX1_people 52 = .ok (.invokevirtual 205, 3) := dk_182 0 205 (dk_at dksX1_people_2 4 rfl rfl)
theorem dX1_people_55 : decode cX1_people 55 = .ok (.iastore, 1) := dk_79 (dk_at dksX1_people_2 7 rfl rfl)
theorem dX1_people_56 : decode cX1_people 56 = .ok (.aload_n 0, 1) := dk_42 (dk_at dksX1_people_2 8 rfl rfl)
theorem dX1_people_57 : decode cX1_people 57 = .ok (.aload_n 2, 1) := dk_44 (dk_at dksX1_people_2 9 rfl rfl)
theorem dX1_people_58 : decode cX1_people 58 = .ok (.iload_n 3, 1) := dk_29 (dk_at dksX1_people_2 10 rfl rfl)
theorem dX1_people_59 : decode cX1_people 59 = .ok (.aaload, 1) := dk_50 (dk_at dksX1_people_2 11 rfl rfl)
theorem dX1_people_60 : decode cX1_people 60 = .ok (.iconst 0, 1) := dk_3 (dk_at dksX1_people_2 12 rfl rfl)
theorem dX1_people_61 : decode cX1_people 61 = .ok (.iaload, 1) := dk_46 (dk_at dksX1_people_2 13 rfl rfl)
theorem dX1_people_62 : decode cX1_people 62 = .ok (.invokevirtual 209, 3) := dk_182 0 209 (dk_at dksX1_people_2 14 rfl rfl)
theorem dX1_people_65 : decode cX1_people 65 = .ok (.ifCond .eq 17, 3) := dk_153 0 17 (dk_at dksX1_people_2 17 rfl rfl)
theorem dX1_people_68 : decode cX1_people 68 = .ok (.new 185, 3) := dk_187 0 185 (dk_at dksX1_people_2 20 rfl rfl)
theorem dX1_people_71 : decode cX1_people 71 = .ok (.dup, 1) := dk_89 (dk_at dksX1_people_2 23 rfl rfl)
theorem dX1_people_72 : decode cX1_people 72 = .ok (.aload_n 1, 1) := dk_43 (dk_at dksX1_people_3 0 rfl rfl)
theorem dX1_people_73 : decode cX1_people 73 = .ok (.getfield 213, 3) := dk_180 0 213 (dk_at dksX1_people_3 1 rfl rfl)
theorem dX1_people_76 : decode cX1_people 76 = .ok (.iconst 1, 1) := dk_4 (dk_at dksX1_people_3 4 rfl rfl)
theorem dX1_people_77 : decode cX1_people 77 = .ok (.isub, 1) := dk_100 (dk_at dksX1_people_3 5 rfl rfl)
theorem dX1_people_78 : decode cX1_people 78 = .ok (.invokespecial 214, 3) := dk_183 0 214 (dk_at dksX1_people_3 6 rfl rfl)
theorem dX1_people_81 : decode cX1_people 81 = .ok (.athrow, 1) := dk_191 (dk_at dksX1_people_3 9 rfl rfl)
theorem dX1_people_82 : decode cX1_people 82 = .ok (.aload_n 2, 1) := dk_44 (dk_at dksX1_people_3 10 rfl rfl)
theorem dX1_people_83 : decode cX1_people 83 = .ok (.iload_n 3, 1) := dk_29 (dk_at dksX1_people_3 11 rfl rfl)
theorem dX1_people_84 : decode cX1_people 84 = .ok (.aaload, 1) := dk_50 (dk_at dksX1_people_3 12 rfl rfl)
theorem dX1_people_85 : decode cX1_people 85 = .ok (.iconst 1, 1) := dk_4 (dk_at dksX1_people_3 13 rfl rfl)
theorem dX1_people_86 : decode cX1_people 86 = .ok (.aload_n 1, 1) := dk_43 (dk_at dksX1_people_3 14 rfl rfl)
theorem dX1_people_87 : decode cX1_people 87 = .ok (.bipush 48, 2) := dk_16 48 (dk_at dksX1_people_3 15 rfl rfl)
theorem dX1_people_89 : decode cX1_people 89 = .ok (.bipush 8, 2) := dk_16 8 (dk_at dksX1_people_3 17 rfl rfl)
theorem dX1_people_91 : decode cX1_people 91 = .ok (.invokevirtual 170, 3) := dk_182 0 170 (dk_at dksX1_people_3 19 rfl rfl)
theorem dX1_people_94 : decode cX1_people 94 = .ok (.iastore, 1) := dk_79 (dk_at dksX1_people_3 22 rfl rfl)
theorem dX1_people_95 : decode cX1_people 95 = .ok (.aload_n 2, 1) := dk_44 (dk_at dksX1_people_3 23 rfl rfl)
theorem dX1_people_96 : decode cX1_people 96 = .ok (.iload_n 3, 1) := dk_29 (dk_at dksX1_people_4 0 rfl rfl)
theorem dX1_people_97 : decode cX1_people 97 = .ok (.aaload, 1) := dk_50 (dk_at dksX1_people_4 1 rfl rfl)
theorem dX1_people_98 : decode cX1_people 98 = .ok (.iconst 2, 1) := dk_5 (dk_at dksX1_people_4 2 rfl rfl)
theorem dX1_people_99 : decode cX1_people 99 = .ok (.aload_n 1, 1) := dk_43 (dk_at dksX1_people_4 3 rfl rfl)
theorem dX1_people_100 : decode cX1_people 100 = .ok (.bipush 48, 2) := dk_16 48 (dk_at dksX1_people_4 4 rfl rfl)
theorem dX1_people_102 : decode cX1_people 102 = .ok (.iconst 5, 1) := dk_8 (dk_at dksX1_people_4 6 rfl rfl)
theorem dX1_people_103 : decode cX1_people 103 = .ok (.invokevirtual 170, 3) := dk_182 0 170 (dk_at dksX1_people_4 7 rfl rfl)
theorem dX1_people_106 : decode cX1_people 106 = .ok (.iastore, 1) := dk_79 (dk_at dksX1_people_4 10 rfl rfl)
theorem dX1_people_107 : decode cX1_people 107 = .ok (.iinc 3 1, 3) := dk_132 3 1 (dk_at dksX1_people_4 11 rfl rfl)
theorem dX1_people_110 : decode cX1_people 110 = .ok (.aload_n 1, 1) := dk_43 (dk_at dksX1_people_4 14 rfl rfl)
theorem dX1_people_111 : decode cX1_people 111 = .ok (.bipush 59, 2) := dk_16 59 (dk_at dksX1_people_4 15 rfl rfl)
theorem dX1_people_113 : decode cX1_people 113 = .ok (.invokevirtual 174, 3) := dk_182 0 174 (dk_at dksX1_people_4 17 rfl rfl)
theorem dX1_people_116 : decode cX1_people 116 = .ok (.ifCond .ne (-90), 3) := dk_154 255 166 (dk_at dksX1_people_4 20 rfl rfl)
theorem dX1_people_119 : decode cX1_people 119 = .ok (.aload_n 1, 1) := dk_43 (dk_at dksX1_people_4 23 rfl rfl)
theorem dX1_people_120 : decode cX1_people 120 = .ok (.invokevirtual 182, 3) := dk_182 0 182 (dk_at dksX1_people_5 0 rfl rfl)
theorem dX1_people_123 : decode cX1_people 123 = .ok (.goto 13, 3) := dk_167 0 13 (dk_at dksX1_people_5 3 rfl rfl)
theorem dX1_people_126 : decode cX1_people 126 = .ok (.astore 4, 2) := dk_58 4 (dk_at dksX1_people_5 6 rfl rfl)
theorem dX1_people_128 : decode cX1_people 128 = .ok (.iconst (-1), 1) := dk_2 (dk_at dksX1_people_5 8 rfl rfl)
theorem dX1_people_129 : decode cX1_people 129 = .ok (.aload 4, 2) := dk_25 4 (dk_at dksX1_people_5 9 rfl rfl)
theorem dX1_people_131 : decode cX1_people 131 = .ok (.getfield 187, 3) := dk_180 0 187 (dk_at dksX1_people_5 11 rfl rfl)
theorem dX1_people_134 : decode cX1_people 134 = .ok (.isub, 1) := dk_100 (dk_at dksX1_people_5 14 rfl rfl)
theorem dX1_people_135 : decode cX1_people 135 = .ok (.ireturn, 1) := dk_172 (dk_at dksX1_people_5 15 rfl rfl)
theorem dX1_people_136 : decode cX1_people 136 = .ok (.iconst 0, 1) := dk_3 (dk_at dksX1_people_5 16 rfl rfl)
theorem dX1_people_137 : decode cX1_people 137 = .ok (.istore 4, 2) := dk_54 4 (dk_at dksX1_people_5 17 rfl rfl)
theorem dX1_people_139 : decode cX1_people 139 = .ok (.iload 4, 2) := dk_21 4 (dk_at dksX1_people_5 19 rfl rfl)
theorem dX1_people_141 : decode cX1_people 141 = .ok (.iload_n 3, 1) := dk_29 (dk_at dksX1_people_5 21 rfl rfl)
theorem dX1_people_142 : decode cX1_people 142 = .ok (.if_icmp .ge 86, 3) := dk_162 0 86 (dk_at dksX1_people_6 0 rfl rfl)
theorem dX1_people_145 : decode cX1_people 145 = .ok (.aload_n 0, 1) := dk_42 (dk_at dksX1_people_6 3 rfl rfl)
theorem dX1_people_146 : decode cX1_people 146 = .ok (.getfield 84, 3) := dk_180 0 84 (dk_at dksX1_people_6 4 rfl rfl)
theorem dX1_people_149 : decode cX1_people 149 = .ok (.getfield 217, 3) := dk_180 0 217 (dk_at dksX1_people_6 7 rfl rfl)
theorem dX1_people_152 : decode cX1_people 152 = .ok (.aload_n 0, 1) := dk_42 (dk_at dksX1_people_6 10 rfl rfl)
theorem dX1_people_153 : decode cX1_people 153 = .ok (.getfield 150, 3) := dk_180 0 150 (dk_at dksX1_people_6 11 rfl rfl)
theorem dX1_people_156 : decode cX1_people 156 = .ok (.aload_n 2, 1) := dk_44 (dk_at dksX1_people_6 14 rfl rfl)
theorem dX1_people_157 : decode cX1_people 157 = .ok (.iload 4, 2) := dk_21 4 (dk_at dksX1_people_6 15 rfl rfl)
theorem dX1_people_159 : decode cX1_people 159 = .ok (.aaload, 1) := dk_50 (dk_at dksX1_people_6 17 rfl rfl)
theorem dX1_people_160 : decode cX1_people 160 = .ok (.iconst 0, 1) := dk_3 (dk_at dksX1_people_6 18 rfl rfl)
theorem dX1_people_161 : decode cX1_people 161 = .ok (.iaload, 1) := dk_46 (dk_at dksX1_people_6 19 rfl rfl)
theorem dX1_people_162 : decode cX1_people 162 = .ok (.iastore, 1) := dk_79 (dk_at dksX1_people_6 20 rfl rfl)
theorem dX1_people_163 : decode cX1_people 163 = .ok (.aload_n 0, 1) := dk_42 (dk_at dksX1_people_6 21 rfl rfl)
theorem dX1_people_164 : decode cX1_people 164 = .ok (.getfield 84, 3) := dk_180 0 84 (dk_at dksX1_people_7 0 rfl rfl)
theorem dX1_people_167 : decode cX1_people 167 = .ok (.getfield 219, 3) := dk_180 0 219 (dk_at dksX1_people_7 3 rfl rfl)
theorem dX1_people_170 : decode cX1_people 170 = .ok (.aload_n 0, 1) := dk_42 (dk_at dksX1_people_7 6 rfl rfl)
theorem dX1_people_171 : decode cX1_people 171 = .ok (.getfield 150, 3) := dk_180 0 150 (dk_at dksX1_people_7 7 rfl rfl)
theorem dX1_people_174 : decode cX1_people 174 = .ok (.aload_n 2, 1) := dk_44 (dk_at dksX1_people_7 10 rfl rfl)
theorem dX1_people_175 : decode cX1_people 175 = .ok (.iload 4, 2) := dk_21 4 (dk_at dksX1_people_7 11 rfl rfl)
theorem dX1_people_177 : decode cX1_people 177 = .ok (.aaload, 1) := dk_50 (dk_at dksX1_people_7 13 rfl rfl)
theorem dX1_people_178 : decode cX1_people 178 = .ok (.iconst 1, 1) := dk_4 (dk_at dksX1_people_7 14 rfl rfl)
theorem dX1_people_179 : decode cX1_people 179 = .ok (.iaload, 1) := dk_46 (dk_at dksX1_people_7 15 rfl rfl)
theorem dX1_people_180 : decode cX1_people 180 = .ok (.iastore, 1) := dk_79 (dk_at dksX1_people_7 16 rfl rfl)
theorem dX1_people_181 : decode cX1_people 181 = .ok (.aload_n 0, 1) := dk_42 (dk_at dksX1_people_7 17 rfl rfl)
theorem dX1_people_182 : decode cX1_people 182 = .ok (.getfield 84, 3) := dk_180 0 84 (dk_at dksX1_people_7 18 rfl rfl)
theorem dX1_people_185 : decode cX1_people 185 = .ok (.getfield 222, 3) := dk_180 0 222 (dk_at dksX1_people_7 21 rfl rfl)
theorem dX1_people_188 : decode cX1_people 188 = .ok (.aload_n 0, 1) := dk_42 (dk_at dksX1_people_8 0 rfl rfl)
theorem dX1_people_189 : decode cX1_people 189 = .ok (.getfield 150, 3) := dk_180 0 150 (dk_at dksX1_people_8 1 rfl rfl)
theorem dX1_people_192 : decode cX1_people 192 = .ok (.aload_n 2, 1) := dk_44 (dk_at dksX1_people_8 4 rfl rfl)
theorem dX1_people_193 : decode cX1_people 193 = .ok (.iload 4, 2) := dk_21 4 (dk_at dksX1_people_8 5 rfl rfl)
theorem dX1_people_195 : decode cX1_people 195 = .ok (.aaload, 1) := dk_50 (dk_at dksX1_people_8 7 rfl rfl)
theorem dX1_people_196 : decode cX1_people 196 = .ok (.iconst 2, 1) := dk_5 (dk_at dksX1_people_8 8 rfl rfl)
theorem dX1_people_197 : decode cX1_people 197 = .ok (.iaload, 1) := dk_46 (dk_at dksX1_people_8 9 rfl rfl)
theorem dX1_people_198 : decode cX1_people 198 = .ok (.iastore, 1) := dk_79 (dk_at dksX1_people_8 10 rfl rfl)
theorem dX1_people_199 : decode cX1_people 199 = .ok (.aload_n 0, 1) := dk_42 (dk_at dksX1_people_8 11 rfl rfl)
theorem dX1_people_200 : decode cX1_people 200 = .ok (.getfield 84, 3) := dk_180 0 84 (dk_at dksX1_people_8 12 rfl rfl)
theorem dX1_people_203 : decode cX1_people 203 = .ok (.getfield 225, 3) := dk_180 0 225 (dk_at dksX1_people_8 15 rfl rfl)
theorem dX1_people_206 : decode cX1_people 206 = .ok (.aload_n 0, 1) := dk_42 (dk_at dksX1_people_8 18 rfl rfl)
theorem dX1_people_207 : decode cX1_people 207 = .ok (.getfield 150, 3) := dk_180 0 150 (dk_at dksX1_people_8 19 rfl rfl)
theorem dX1_people_210 : decode cX1_people 210 = .ok (.iconst 0, 1) := dk_3 (dk_at dksX1_people_8 22 rfl rfl)
theorem dX1_people_211 : decode cX1_people 211 = .ok (.iastore, 1) := dk_79 (dk_at dksX1_people_8 23 rfl rfl)
theorem dX1_people_212 : decode cX1_people 212 = .ok (.iinc 4 1, 3) := dk_132 4 1 (dk_at dksX1_people_9 0 rfl rfl)
theorem dX1_people_215 : decode cX1_people 215 = .ok (.aload_n 0, 1) := dk_42 (dk_at dksX1_people_9 3 rfl rfl)
theorem dX1_people_216 : decode cX1_people 216 = .ok (.dup, 1) := dk_89 (dk_at dksX1_people_9 4 rfl rfl)
theorem dX1_people_217 : decode cX1_people 217 = .ok (.getfield 150, 3) := dk_180 0 150 (dk_at dksX1_people_9 5 rfl rfl)
theorem dX1_people_220 : decode cX1_people 220 = .ok (.iconst 1, 1) := dk_4 (dk_at dksX1_people_9 8 rfl rfl)
theorem dX1_people_221 : decode cX1_people 221 = .ok (.iadd, 1) := dk_96 (dk_at dksX1_people_9 9 rfl rfl)
theorem dX1_people_222 : decode cX1_people 222 = .ok (.putfield 150, 3) := dk_181 0 150 (dk_at dksX1_people_9 10 rfl rfl)
theorem dX1_people_225 : decode cX1_people 225 = .ok (.goto (-86), 3) := dk_167 255 170 (dk_at dksX1_people_9 13 rfl rfl)
theorem dX1_people_228 : decode cX1_people 228 = .ok (.aload_n 0, 1) := dk_42 (dk_at dksX1_people_9 16 rfl rfl)
theorem dX1_people_229 : decode cX1_people 229 = .ok (.invokevirtual 193, 3) := dk_182 0 193 (dk_at dksX1_people_9 17 rfl rfl)
theorem dX1_people_232 : decode cX1_people 232 = .ok (.iload_n 3, 1) := dk_29 (dk_at dksX1_people_9 20 rfl rfl)
theorem dX1_people_233 : decode cX1_people 233 = .ok (.ireturn, 1) := dk_172 (dk_at dksX1_people_9 21 rfl rfl)
abbrev cX1_field : ByteArray := prog_1_method_22_code
def yX1_field : MethodName := ⟨RX1, "field", "(LBonnetValley$Words;)I"⟩
def dkwX1_field_1 : List UInt8 := [182, 0, 170, 96, 172]
abbrev dktX1_field_1 : List UInt8 := dkwX1_field_1 ++ []
def dkwX1_field_0 : List UInt8 := [43, 16, 48, 42, 180, 0, 80, 182, 0, 170, 61, 42, 180, 0, 13, 28, 104, 43, 16, 48, 42, 180, 0, 13]
abbrev dktX1_field_0 : List UInt8 := dkwX1_field_0 ++ dktX1_field_1
theorem dksX1_field_0 : cX1_field.data.toList.drop 0 = dktX1_field_0 := by decide +kernel
theorem dksX1_field_1 : cX1_field.data.toList.drop 24 = dktX1_field_1 := dk_seg dksX1_field_0 24 rfl rfl
theorem dX1_field_0 : decode cX1_field 0 = .ok (.aload_n 1, 1) := dk_43 (dk_at dksX1_field_0 0 rfl rfl)
theorem dX1_field_1 : decode cX1_field 1 = .ok (.bipush 48, 2) := dk_16 48 (dk_at dksX1_field_0 1 rfl rfl)
theorem dX1_field_3 : decode cX1_field 3 = .ok (.aload_n 0, 1) := dk_42 (dk_at dksX1_field_0 3 rfl rfl)
theorem dX1_field_4 : decode cX1_field 4 = .ok (.getfield 80, 3) := dk_180 0 80 (dk_at dksX1_field_0 4 rfl rfl)
theorem dX1_field_7 : decode cX1_field 7 = .ok (.invokevirtual 170, 3) := dk_182 0 170 (dk_at dksX1_field_0 7 rfl rfl)
theorem dX1_field_10 : decode cX1_field 10 = .ok (.istore_n 2, 1) := dk_61 (dk_at dksX1_field_0 10 rfl rfl)
theorem dX1_field_11 : decode cX1_field 11 = .ok (.aload_n 0, 1) := dk_42 (dk_at dksX1_field_0 11 rfl rfl)
theorem dX1_field_12 : decode cX1_field 12 = .ok (.getfield 13, 3) := dk_180 0 13 (dk_at dksX1_field_0 12 rfl rfl)
theorem dX1_field_15 : decode cX1_field 15 = .ok (.iload_n 2, 1) := dk_28 (dk_at dksX1_field_0 15 rfl rfl)
theorem dX1_field_16 : decode cX1_field 16 = .ok (.imul, 1) := dk_104 (dk_at dksX1_field_0 16 rfl rfl)
theorem dX1_field_17 : decode cX1_field 17 = .ok (.aload_n 1, 1) := dk_43 (dk_at dksX1_field_0 17 rfl rfl)
theorem dX1_field_18 : decode cX1_field 18 = .ok (.bipush 48, 2) := dk_16 48 (dk_at dksX1_field_0 18 rfl rfl)
theorem dX1_field_20 : decode cX1_field 20 = .ok (.aload_n 0, 1) := dk_42 (dk_at dksX1_field_0 20 rfl rfl)
theorem dX1_field_21 : decode cX1_field 21 = .ok (.getfield 13, 3) := dk_180 0 13 (dk_at dksX1_field_0 21 rfl rfl)
theorem dX1_field_24 : decode cX1_field 24 = .ok (.invokevirtual 170, 3) := dk_182 0 170 (dk_at dksX1_field_1 0 rfl rfl)
theorem dX1_field_27 : decode cX1_field 27 = .ok (.iadd, 1) := dk_96 (dk_at dksX1_field_1 3 rfl rfl)
theorem dX1_field_28 : decode cX1_field 28 = .ok (.ireturn, 1) := dk_172 (dk_at dksX1_field_1 4 rfl rfl)
abbrev cX1_isRock : ByteArray := prog_1_method_16_code
def yX1_isRock : MethodName := ⟨RX1, "isRock", "(I)Z"⟩
def dkwX1_isRock_0 : List UInt8 := [42, 180, 0, 22, 27, 184, 0, 26, 172]
abbrev dktX1_isRock_0 : List UInt8 := dkwX1_isRock_0 ++ []
theorem dksX1_isRock_0 : cX1_isRock.data.toList.drop 0 = dktX1_isRock_0 := by decide +kernel
theorem dX1_isRock_0 : decode cX1_isRock 0 = .ok (.aload_n 0, 1) := dk_42 (dk_at dksX1_isRock_0 0 rfl rfl)
theorem dX1_isRock_1 : decode cX1_isRock 1 = .ok (.getfield 22, 3) := dk_180 0 22 (dk_at dksX1_isRock_0 1 rfl rfl)
theorem dX1_isRock_4 : decode cX1_isRock 4 = .ok (.iload_n 1, 1) := dk_27 (dk_at dksX1_isRock_0 4 rfl rfl)
theorem dX1_isRock_5 : decode cX1_isRock 5 = .ok (.invokestatic 26, 3) := dk_184 0 26 (dk_at dksX1_isRock_0 5 rfl rfl)
theorem dX1_isRock_8 : decode cX1_isRock 8 = .ok (.ireturn, 1) := dk_172 (dk_at dksX1_isRock_0 8 rfl rfl)
abbrev cX1_has : ByteArray := prog_1_method_2_code
def yX1_has : MethodName := ⟨RX1, "has", "(JI)Z"⟩
def dkwX1_has_0 : List UInt8 := [30, 28, 123, 10, 127, 10, 148, 154, 0, 7, 4, 167, 0, 4, 3, 172]
abbrev dktX1_has_0 : List UInt8 := dkwX1_has_0 ++ []
theorem dksX1_has_0 : cX1_has.data.toList.drop 0 = dktX1_has_0 := by decide +kernel
theorem dX1_has_0 : decode cX1_has 0 = .ok (.lload_n 0, 1) := dk_30 (dk_at dksX1_has_0 0 rfl rfl)
theorem dX1_has_1 : decode cX1_has 1 = .ok (.iload_n 2, 1) := dk_28 (dk_at dksX1_has_0 1 rfl rfl)
theorem dX1_has_2 : decode cX1_has 2 = .ok (.lshr, 1) := dk_123 (dk_at dksX1_has_0 2 rfl rfl)
theorem dX1_has_3 : decode cX1_has 3 = .ok (.lconst 1, 1) := dk_10 (dk_at dksX1_has_0 3 rfl rfl)
theorem dX1_has_4 : decode cX1_has 4 = .ok (.land, 1) := dk_127 (dk_at dksX1_has_0 4 rfl rfl)
theorem dX1_has_5 : decode cX1_has 5 = .ok (.lconst 1, 1) := dk_10 (dk_at dksX1_has_0 5 rfl rfl)
theorem dX1_has_6 : decode cX1_has 6 = .ok (.lcmp, 1) := dk_148 (dk_at dksX1_has_0 6 rfl rfl)
theorem dX1_has_7 : decode cX1_has 7 = .ok (.ifCond .ne 7, 3) := dk_154 0 7 (dk_at dksX1_has_0 7 rfl rfl)
theorem dX1_has_10 : decode cX1_has 10 = .ok (.iconst 1, 1) := dk_4 (dk_at dksX1_has_0 10 rfl rfl)
theorem dX1_has_11 : decode cX1_has 11 = .ok (.goto 4, 3) := dk_167 0 4 (dk_at dksX1_has_0 11 rfl rfl)
theorem dX1_has_14 : decode cX1_has 14 = .ok (.iconst 0, 1) := dk_3 (dk_at dksX1_has_0 14 rfl rfl)
theorem dX1_has_15 : decode cX1_has 15 = .ok (.ireturn, 1) := dk_172 (dk_at dksX1_has_0 15 rfl rfl)
abbrev cX1_things : ByteArray := prog_1_method_24_code
def yX1_things : MethodName := ⟨RX1, "things", "()I"⟩
def dkwX1_things_5 : List UInt8 := [181, 0, 153, 167, 255, 221, 42, 182, 0, 193, 29, 172]
abbrev dktX1_things_5 : List UInt8 := dkwX1_things_5 ++ []
def dkwX1_things_4 : List UInt8 := [180, 0, 228, 42, 180, 0, 153, 44, 21, 4, 46, 79, 132, 4, 1, 42, 89, 180, 0, 153, 4, 96]
abbrev dktX1_things_4 : List UInt8 := dkwX1_things_4 ++ dktX1_things_5
def dkwX1_things_3 : List UInt8 := [58, 4, 2, 25, 4, 180, 0, 187, 100, 172, 3, 54, 4, 21, 4, 29, 162, 0, 35, 42, 180, 0, 84]
abbrev dktX1_things_3 : List UInt8 := dkwX1_things_3 ++ dktX1_things_4
def dkwX1_things_2 : List UInt8 := [182, 0, 205, 79, 132, 3, 1, 43, 16, 59, 182, 0, 174, 154, 255, 219, 43, 182, 0, 182, 167, 0, 13]
abbrev dktX1_things_2 : List UInt8 := dkwX1_things_2 ++ dktX1_things_3
def dkwX1_things_1 : List UInt8 := [42, 180, 0, 153, 29, 96, 16, 8, 162, 0, 7, 4, 167, 0, 4, 3, 182, 0, 178, 44, 29, 42, 43]
abbrev dktX1_things_1 : List UInt8 := dkwX1_things_1 ++ dktX1_things_2
def dkwX1_things_0 : List UInt8 := [42, 16, 23, 182, 0, 166, 76, 43, 180, 0, 202, 154, 0, 5, 3, 172, 16, 8, 188, 10, 77, 3, 62, 43]
abbrev dktX1_things_0 : List UInt8 := dkwX1_things_0 ++ dktX1_things_1
theorem dksX1_things_0 : cX1_things.data.toList.drop 0 = dktX1_things_0 := by decide +kernel
theorem dksX1_things_1 : cX1_things.data.toList.drop 24 = dktX1_things_1 := dk_seg dksX1_things_0 24 rfl rfl
theorem dksX1_things_2 : cX1_things.data.toList.drop 47 = dktX1_things_2 := dk_seg dksX1_things_1 23 rfl rfl
theorem dksX1_things_3 : cX1_things.data.toList.drop 70 = dktX1_things_3 := dk_seg dksX1_things_2 23 rfl rfl
theorem dksX1_things_4 : cX1_things.data.toList.drop 93 = dktX1_things_4 := dk_seg dksX1_things_3 23 rfl rfl
theorem dksX1_things_5 : cX1_things.data.toList.drop 115 = dktX1_things_5 := dk_seg dksX1_things_4 22 rfl rfl
theorem dX1_things_0 : decode cX1_things 0 = .ok (.aload_n 0, 1) := dk_42 (dk_at dksX1_things_0 0 rfl rfl)
theorem dX1_things_1 : decode cX1_things 1 = .ok (.bipush 23, 2) := dk_16 23 (dk_at dksX1_things_0 1 rfl rfl)
theorem dX1_things_3 : decode cX1_things 3 = .ok (.invokevirtual 166, 3) := dk_182 0 166 (dk_at dksX1_things_0 3 rfl rfl)
theorem dX1_things_6 : decode cX1_things 6 = .ok (.astore_n 1, 1) := dk_76 (dk_at dksX1_things_0 6 rfl rfl)
theorem dX1_things_7 : decode cX1_things 7 = .ok (.aload_n 1, 1) := dk_43 (dk_at dksX1_things_0 7 rfl rfl)
theorem dX1_things_8 : decode cX1_things 8 = .ok (.getfield 202, 3) := dk_180 0 202 (dk_at dksX1_things_0 8 rfl rfl)
theorem dX1_things_11 : decode cX1_things 11 = .ok (.ifCond .ne 5, 3) := dk_154 0 5 (dk_at dksX1_things_0 11 rfl rfl)
theorem dX1_things_14 : decode cX1_things 14 = .ok (.iconst 0, 1) := dk_3 (dk_at dksX1_things_0 14 rfl rfl)
theorem dX1_things_15 : decode cX1_things 15 = .ok (.ireturn, 1) := dk_172 (dk_at dksX1_things_0 15 rfl rfl)
theorem dX1_things_16 : decode cX1_things 16 = .ok (.bipush 8, 2) := dk_16 8 (dk_at dksX1_things_0 16 rfl rfl)
theorem dX1_things_18 : decode cX1_things 18 = .ok (.newarray .int, 2) := dk_188_10 (dk_at dksX1_things_0 18 rfl rfl)
theorem dX1_things_20 : decode cX1_things 20 = .ok (.astore_n 2, 1) := dk_77 (dk_at dksX1_things_0 20 rfl rfl)
theorem dX1_things_21 : decode cX1_things 21 = .ok (.iconst 0, 1) := dk_3 (dk_at dksX1_things_0 21 rfl rfl)
theorem dX1_things_22 : decode cX1_things 22 = .ok (.istore_n 3, 1) := dk_62 (dk_at dksX1_things_0 22 rfl rfl)
theorem dX1_things_23 : decode cX1_things 23 = .ok (.aload_n 1, 1) := dk_43 (dk_at dksX1_things_0 23 rfl rfl)
theorem dX1_things_24 : decode cX1_things 24 = .ok (.aload_n 0, 1) := dk_42 (dk_at dksX1_things_1 0 rfl rfl)
theorem dX1_things_25 : decode cX1_things 25 = .ok (.getfield 153, 3) := dk_180 0 153 (dk_at dksX1_things_1 1 rfl rfl)
theorem dX1_things_28 : decode cX1_things 28 = .ok (.iload_n 3, 1) := dk_29 (dk_at dksX1_things_1 4 rfl rfl)
theorem dX1_things_29 : decode cX1_things 29 = .ok (.iadd, 1) := dk_96 (dk_at dksX1_things_1 5 rfl rfl)
theorem dX1_things_30 : decode cX1_things 30 = .ok (.bipush 8, 2) := dk_16 8 (dk_at dksX1_things_1 6 rfl rfl)
theorem dX1_things_32 : decode cX1_things 32 = .ok (.if_icmp .ge 7, 3) := dk_162 0 7 (dk_at dksX1_things_1 8 rfl rfl)
theorem dX1_things_35 : decode cX1_things 35 = .ok (.iconst 1, 1) := dk_4 (dk_at dksX1_things_1 11 rfl rfl)
theorem dX1_things_36 : decode cX1_things 36 = .ok (.goto 4, 3) := dk_167 0 4 (dk_at dksX1_things_1 12 rfl rfl)
theorem dX1_things_39 : decode cX1_things 39 = .ok (.iconst 0, 1) := dk_3 (dk_at dksX1_things_1 15 rfl rfl)
theorem dX1_things_40 : decode cX1_things 40 = .ok (.invokevirtual 178, 3) := dk_182 0 178 (dk_at dksX1_things_1 16 rfl rfl)
theorem dX1_things_43 : decode cX1_things 43 = .ok (.aload_n 2, 1) := dk_44 (dk_at dksX1_things_1 19 rfl rfl)
theorem dX1_things_44 : decode cX1_things 44 = .ok (.iload_n 3, 1) := dk_29 (dk_at dksX1_things_1 20 rfl rfl)
theorem dX1_things_45 : decode cX1_things 45 = .ok (.aload_n 0, 1) := dk_42 (dk_at dksX1_things_1 21 rfl rfl)
theorem dX1_things_46 : decode cX1_things 46 = .ok (.aload_n 1, 1) := dk_43 (dk_at dksX1_things_1 22 rfl rfl)
theorem dX1_things_47 : decode cX1_things 47 = .ok (.invokevirtual 205, 3) := dk_182 0 205 (dk_at dksX1_things_2 0 rfl rfl)
theorem dX1_things_50 : decode cX1_things 50 = .ok (.iastore, 1) := dk_79 (dk_at dksX1_things_2 3 rfl rfl)
theorem dX1_things_51 : decode cX1_things 51 = .ok (.iinc 3 1, 3) := dk_132 3 1 (dk_at dksX1_things_2 4 rfl rfl)
theorem dX1_things_54 : decode cX1_things 54 = .ok (.aload_n 1, 1) := dk_43 (dk_at dksX1_things_2 7 rfl rfl)
theorem dX1_things_55 : decode cX1_things 55 = .ok (.bipush 59, 2) := dk_16 59 (dk_at dksX1_things_2 8 rfl rfl)
theorem dX1_things_57 : decode cX1_things 57 = .ok (.invokevirtual 174, 3) := dk_182 0 174 (dk_at dksX1_things_2 10 rfl rfl)
theorem dX1_things_60 : decode cX1_things 60 = .ok (.ifCond .ne (-37), 3) := dk_154 255 219 (dk_at dksX1_things_2 13 rfl rfl)
theorem dX1_things_63 : decode cX1_things 63 = .ok (.aload_n 1, 1) := dk_43 (dk_at dksX1_things_2 16 rfl rfl)
theorem dX1_things_64 : decode cX1_things 64 = .ok (.invokevirtual 182, 3) := dk_182 0 182 (dk_at dksX1_things_2 17 rfl rfl)
theorem dX1_things_67 : decode cX1_things 67 = .ok (.goto 13, 3) := dk_167 0 13 (dk_at dksX1_things_2 20 rfl rfl)
theorem dX1_things_70 : decode cX1_things 70 = .ok (.astore 4, 2) := dk_58 4 (dk_at dksX1_things_3 0 rfl rfl)
theorem dX1_things_72 : decode cX1_things 72 = .ok (.iconst (-1), 1) := dk_2 (dk_at dksX1_things_3 2 rfl rfl)
theorem dX1_things_73 : decode cX1_things 73 = .ok (.aload 4, 2) := dk_25 4 (dk_at dksX1_things_3 3 rfl rfl)
theorem dX1_things_75 : decode cX1_things 75 = .ok (.getfield 187, 3) := dk_180 0 187 (dk_at dksX1_things_3 5 rfl rfl)
theorem dX1_things_78 : decode cX1_things 78 = .ok (.isub, 1) := dk_100 (dk_at dksX1_things_3 8 rfl rfl)
theorem dX1_things_79 : decode cX1_things 79 = .ok (.ireturn, 1) := dk_172 (dk_at dksX1_things_3 9 rfl rfl)
theorem dX1_things_80 : decode cX1_things 80 = .ok (.iconst 0, 1) := dk_3 (dk_at dksX1_things_3 10 rfl rfl)
theorem dX1_things_81 : decode cX1_things 81 = .ok (.istore 4, 2) := dk_54 4 (dk_at dksX1_things_3 11 rfl rfl)
theorem dX1_things_83 : decode cX1_things 83 = .ok (.iload 4, 2) := dk_21 4 (dk_at dksX1_things_3 13 rfl rfl)
theorem dX1_things_85 : decode cX1_things 85 = .ok (.iload_n 3, 1) := dk_29 (dk_at dksX1_things_3 15 rfl rfl)
theorem dX1_things_86 : decode cX1_things 86 = .ok (.if_icmp .ge 35, 3) := dk_162 0 35 (dk_at dksX1_things_3 16 rfl rfl)
theorem dX1_things_89 : decode cX1_things 89 = .ok (.aload_n 0, 1) := dk_42 (dk_at dksX1_things_3 19 rfl rfl)
theorem dX1_things_90 : decode cX1_things 90 = .ok (.getfield 84, 3) := dk_180 0 84 (dk_at dksX1_things_3 20 rfl rfl)
theorem dX1_things_93 : decode cX1_things 93 = .ok (.getfield 228, 3) := dk_180 0 228 (dk_at dksX1_things_4 0 rfl rfl)
theorem dX1_things_96 : decode cX1_things 96 = .ok (.aload_n 0, 1) := dk_42 (dk_at dksX1_things_4 3 rfl rfl)
theorem dX1_things_97 : decode cX1_things 97 = .ok (.getfield 153, 3) := dk_180 0 153 (dk_at dksX1_things_4 4 rfl rfl)
theorem dX1_things_100 : decode cX1_things 100 = .ok (.aload_n 2, 1) := dk_44 (dk_at dksX1_things_4 7 rfl rfl)
theorem dX1_things_101 : decode cX1_things 101 = .ok (.iload 4, 2) := dk_21 4 (dk_at dksX1_things_4 8 rfl rfl)
theorem dX1_things_103 : decode cX1_things 103 = .ok (.iaload, 1) := dk_46 (dk_at dksX1_things_4 10 rfl rfl)
theorem dX1_things_104 : decode cX1_things 104 = .ok (.iastore, 1) := dk_79 (dk_at dksX1_things_4 11 rfl rfl)
theorem dX1_things_105 : decode cX1_things 105 = .ok (.iinc 4 1, 3) := dk_132 4 1 (dk_at dksX1_things_4 12 rfl rfl)
theorem dX1_things_108 : decode cX1_things 108 = .ok (.aload_n 0, 1) := dk_42 (dk_at dksX1_things_4 15 rfl rfl)
theorem dX1_things_109 : decode cX1_things 109 = .ok (.dup, 1) := dk_89 (dk_at dksX1_things_4 16 rfl rfl)
theorem dX1_things_110 : decode cX1_things 110 = .ok (.getfield 153, 3) := dk_180 0 153 (dk_at dksX1_things_4 17 rfl rfl)
theorem dX1_things_113 : decode cX1_things 113 = .ok (.iconst 1, 1) := dk_4 (dk_at dksX1_things_4 20 rfl rfl)
theorem dX1_things_114 : decode cX1_things 114 = .ok (.iadd, 1) := dk_96 (dk_at dksX1_things_4 21 rfl rfl)
theorem dX1_things_115 : decode cX1_things 115 = .ok (.putfield 153, 3) := dk_181 0 153 (dk_at dksX1_things_5 0 rfl rfl)
theorem dX1_things_118 : decode cX1_things 118 = .ok (.goto (-35), 3) := dk_167 255 221 (dk_at dksX1_things_5 3 rfl rfl)
theorem dX1_things_121 : decode cX1_things 121 = .ok (.aload_n 0, 1) := dk_42 (dk_at dksX1_things_5 6 rfl rfl)
theorem dX1_things_122 : decode cX1_things 122 = .ok (.invokevirtual 193, 3) := dk_182 0 193 (dk_at dksX1_things_5 7 rfl rfl)
theorem dX1_things_125 : decode cX1_things 125 = .ok (.iload_n 3, 1) := dk_29 (dk_at dksX1_things_5 10 rfl rfl)
theorem dX1_things_126 : decode cX1_things 126 = .ok (.ireturn, 1) := dk_172 (dk_at dksX1_things_5 11 rfl rfl)
abbrev cX1_light : ByteArray := prog_1_method_25_code
def yX1_light : MethodName := ⟨RX1, "light", "()I"⟩
def dkwX1_light_3 : List UInt8 := [172]
abbrev dktX1_light_3 : List UInt8 := dkwX1_light_3 ++ []
def dkwX1_light_2 : List UInt8 := [182, 0, 182, 167, 0, 11, 78, 2, 45, 180, 0, 187, 100, 172, 42, 44, 181, 0, 98, 42, 180, 0, 98, 190]
abbrev dktX1_light_2 : List UInt8 := dkwX1_light_2 ++ dktX1_light_3
def dkwX1_light_1 : List UInt8 := [43, 180, 0, 213, 43, 16, 48, 16, 10, 182, 0, 170, 145, 84, 43, 182, 0, 231, 2, 160, 255, 236, 43]
abbrev dktX1_light_1 : List UInt8 := dkwX1_light_1 ++ dktX1_light_2
def dkwX1_light_0 : List UInt8 := [42, 16, 20, 182, 0, 166, 76, 4, 16, 20, 43, 180, 0, 202, 184, 0, 9, 184, 0, 48, 188, 8, 77, 44]
abbrev dktX1_light_0 : List UInt8 := dkwX1_light_0 ++ dktX1_light_1
theorem dksX1_light_0 : cX1_light.data.toList.drop 0 = dktX1_light_0 := by decide +kernel
theorem dksX1_light_1 : cX1_light.data.toList.drop 24 = dktX1_light_1 := dk_seg dksX1_light_0 24 rfl rfl
theorem dksX1_light_2 : cX1_light.data.toList.drop 47 = dktX1_light_2 := dk_seg dksX1_light_1 23 rfl rfl
theorem dksX1_light_3 : cX1_light.data.toList.drop 71 = dktX1_light_3 := dk_seg dksX1_light_2 24 rfl rfl
theorem dX1_light_0 : decode cX1_light 0 = .ok (.aload_n 0, 1) := dk_42 (dk_at dksX1_light_0 0 rfl rfl)
theorem dX1_light_1 : decode cX1_light 1 = .ok (.bipush 20, 2) := dk_16 20 (dk_at dksX1_light_0 1 rfl rfl)
theorem dX1_light_3 : decode cX1_light 3 = .ok (.invokevirtual 166, 3) := dk_182 0 166 (dk_at dksX1_light_0 3 rfl rfl)
theorem dX1_light_6 : decode cX1_light 6 = .ok (.astore_n 1, 1) := dk_76 (dk_at dksX1_light_0 6 rfl rfl)
theorem dX1_light_7 : decode cX1_light 7 = .ok (.iconst 1, 1) := dk_4 (dk_at dksX1_light_0 7 rfl rfl)
theorem dX1_light_8 : decode cX1_light 8 = .ok (.bipush 20, 2) := dk_16 20 (dk_at dksX1_light_0 8 rfl rfl)
theorem dX1_light_10 : decode cX1_light 10 = .ok (.aload_n 1, 1) := dk_43 (dk_at dksX1_light_0 10 rfl rfl)
theorem dX1_light_11 : decode cX1_light 11 = .ok (.getfield 202, 3) := dk_180 0 202 (dk_at dksX1_light_0 11 rfl rfl)
theorem dX1_light_14 : decode cX1_light 14 = .ok (.invokestatic 9, 3) := dk_184 0 9 (dk_at dksX1_light_0 14 rfl rfl)
theorem dX1_light_17 : decode cX1_light 17 = .ok (.invokestatic 48, 3) := dk_184 0 48 (dk_at dksX1_light_0 17 rfl rfl)
theorem dX1_light_20 : decode cX1_light 20 = .ok (.newarray .byte, 2) := dk_188_8 (dk_at dksX1_light_0 20 rfl rfl)
theorem dX1_light_22 : decode cX1_light 22 = .ok (.astore_n 2, 1) := dk_77 (dk_at dksX1_light_0 22 rfl rfl)
theorem dX1_light_23 : decode cX1_light 23 = .ok (.aload_n 2, 1) := dk_44 (dk_at dksX1_light_0 23 rfl rfl)
theorem dX1_light_24 : decode cX1_light 24 = .ok (.aload_n 1, 1) := dk_43 (dk_at dksX1_light_1 0 rfl rfl)
theorem dX1_light_25 : decode cX1_light 25 = .ok (.getfield 213, 3) := dk_180 0 213 (dk_at dksX1_light_1 1 rfl rfl)
theorem dX1_light_28 : decode cX1_light 28 = .ok (.aload_n 1, 1) := dk_43 (dk_at dksX1_light_1 4 rfl rfl)
theorem dX1_light_29 : decode cX1_light 29 = .ok (.bipush 48, 2) := dk_16 48 (dk_at dksX1_light_1 5 rfl rfl)
theorem dX1_light_31 : decode cX1_light 31 = .ok (.bipush 10, 2) := dk_16 10 (dk_at dksX1_light_1 7 rfl rfl)
theorem dX1_light_33 : decode cX1_light 33 = .ok (.invokevirtual 170, 3) := dk_182 0 170 (dk_at dksX1_light_1 9 rfl rfl)
theorem dX1_light_36 : decode cX1_light 36 = .ok (.i2b, 1) := dk_145 (dk_at dksX1_light_1 12 rfl rfl)
theorem dX1_light_37 : decode cX1_light 37 = .ok (.bastore, 1) := dk_84 (dk_at dksX1_light_1 13 rfl rfl)
theorem dX1_light_38 : decode cX1_light 38 = .ok (.aload_n 1, 1) := dk_43 (dk_at dksX1_light_1 14 rfl rfl)
theorem dX1_light_39 : decode cX1_light 39 = .ok (.invokevirtual 231, 3) := dk_182 0 231 (dk_at dksX1_light_1 15 rfl rfl)
theorem dX1_light_42 : decode cX1_light 42 = .ok (.iconst (-1), 1) := dk_2 (dk_at dksX1_light_1 18 rfl rfl)
theorem dX1_light_43 : decode cX1_light 43 = .ok (.if_icmp .ne (-20), 3) := dk_160 255 236 (dk_at dksX1_light_1 19 rfl rfl)
theorem dX1_light_46 : decode cX1_light 46 = .ok (.aload_n 1, 1) := dk_43 (dk_at dksX1_light_1 22 rfl rfl)
theorem dX1_light_47 : decode cX1_light 47 = .ok (.invokevirtual 182, 3) := dk_182 0 182 (dk_at dksX1_light_2 0 rfl rfl)
theorem dX1_light_50 : decode cX1_light 50 = .ok (.goto 11, 3) := dk_167 0 11 (dk_at dksX1_light_2 3 rfl rfl)
theorem dX1_light_53 : decode cX1_light 53 = .ok (.astore_n 3, 1) := dk_78 (dk_at dksX1_light_2 6 rfl rfl)
theorem dX1_light_54 : decode cX1_light 54 = .ok (.iconst (-1), 1) := dk_2 (dk_at dksX1_light_2 7 rfl rfl)
theorem dX1_light_55 : decode cX1_light 55 = .ok (.aload_n 3, 1) := dk_45 (dk_at dksX1_light_2 8 rfl rfl)
theorem dX1_light_56 : decode cX1_light 56 = .ok (.getfield 187, 3) := dk_180 0 187 (dk_at dksX1_light_2 9 rfl rfl)
theorem dX1_light_59 : decode cX1_light 59 = .ok (.isub, 1) := dk_100 (dk_at dksX1_light_2 12 rfl rfl)
theorem dX1_light_60 : decode cX1_light 60 = .ok (.ireturn, 1) := dk_172 (dk_at dksX1_light_2 13 rfl rfl)
theorem dX1_light_61 : decode cX1_light 61 = .ok (.aload_n 0, 1) := dk_42 (dk_at dksX1_light_2 14 rfl rfl)
theorem dX1_light_62 : decode cX1_light 62 = .ok (.aload_n 2, 1) := dk_44 (dk_at dksX1_light_2 15 rfl rfl)
theorem dX1_light_63 : decode cX1_light 63 = .ok (.putfield 98, 3) := dk_181 0 98 (dk_at dksX1_light_2 16 rfl rfl)
theorem dX1_light_66 : decode cX1_light 66 = .ok (.aload_n 0, 1) := dk_42 (dk_at dksX1_light_2 19 rfl rfl)
theorem dX1_light_67 : decode cX1_light 67 = .ok (.getfield 98, 3) := dk_180 0 98 (dk_at dksX1_light_2 20 rfl rfl)
theorem dX1_light_70 : decode cX1_light 70 = .ok (.arraylength, 1) := dk_190 (dk_at dksX1_light_2 23 rfl rfl)
theorem dX1_light_71 : decode cX1_light 71 = .ok (.ireturn, 1) := dk_172 (dk_at dksX1_light_3 0 rfl rfl)
abbrev cX1_rule : ByteArray := prog_1_method_27_code
def yX1_rule : MethodName := ⟨RX1, "rule", "()I"⟩
def dkwX1_rule_2 : List UInt8 := [181, 0, 30, 3, 172, 78, 2, 45, 180, 0, 187, 100, 172]
abbrev dktX1_rule_2 : List UInt8 := dkwX1_rule_2 ++ []
def dkwX1_rule_1 : List UInt8 := [154, 0, 10, 42, 1, 181, 0, 30, 3, 172, 42, 187, 0, 43, 89, 42, 43, 28, 183, 0, 239, 182, 0, 242]
abbrev dktX1_rule_1 : List UInt8 := dkwX1_rule_1 ++ dktX1_rule_2
def dkwX1_rule_0 : List UInt8 := [42, 180, 0, 102, 182, 0, 234, 192, 0, 235, 76, 42, 180, 0, 160, 61, 42, 3, 181, 0, 160, 28]
abbrev dktX1_rule_0 : List UInt8 := dkwX1_rule_0 ++ dktX1_rule_1
theorem dksX1_rule_0 : cX1_rule.data.toList.drop 0 = dktX1_rule_0 := by decide +kernel
theorem dksX1_rule_1 : cX1_rule.data.toList.drop 22 = dktX1_rule_1 := dk_seg dksX1_rule_0 22 rfl rfl
theorem dksX1_rule_2 : cX1_rule.data.toList.drop 46 = dktX1_rule_2 := dk_seg dksX1_rule_1 24 rfl rfl
theorem dX1_rule_0 : decode cX1_rule 0 = .ok (.aload_n 0, 1) := dk_42 (dk_at dksX1_rule_0 0 rfl rfl)
theorem dX1_rule_1 : decode cX1_rule 1 = .ok (.getfield 102, 3) := dk_180 0 102 (dk_at dksX1_rule_0 1 rfl rfl)
theorem dX1_rule_4 : decode cX1_rule 4 = .ok (.invokevirtual 234, 3) := dk_182 0 234 (dk_at dksX1_rule_0 4 rfl rfl)
theorem dX1_rule_7 : decode cX1_rule 7 = .ok (.checkcast 235, 3) := dk_192 0 235 (dk_at dksX1_rule_0 7 rfl rfl)
theorem dX1_rule_10 : decode cX1_rule 10 = .ok (.astore_n 1, 1) := dk_76 (dk_at dksX1_rule_0 10 rfl rfl)
theorem dX1_rule_11 : decode cX1_rule 11 = .ok (.aload_n 0, 1) := dk_42 (dk_at dksX1_rule_0 11 rfl rfl)
theorem dX1_rule_12 : decode cX1_rule 12 = .ok (.getfield 160, 3) := dk_180 0 160 (dk_at dksX1_rule_0 12 rfl rfl)
theorem dX1_rule_15 : decode cX1_rule 15 = .ok (.istore_n 2, 1) := dk_61 (dk_at dksX1_rule_0 15 rfl rfl)
theorem dX1_rule_16 : decode cX1_rule 16 = .ok (.aload_n 0, 1) := dk_42 (dk_at dksX1_rule_0 16 rfl rfl)
theorem dX1_rule_17 : decode cX1_rule 17 = .ok (.iconst 0, 1) := dk_3 (dk_at dksX1_rule_0 17 rfl rfl)
theorem dX1_rule_18 : decode cX1_rule 18 = .ok (.putfield 160, 3) := dk_181 0 160 (dk_at dksX1_rule_0 18 rfl rfl)
theorem dX1_rule_21 : decode cX1_rule 21 = .ok (.iload_n 2, 1) := dk_28 (dk_at dksX1_rule_0 21 rfl rfl)
theorem dX1_rule_22 : decode cX1_rule 22 = .ok (.ifCond .ne 10, 3) := dk_154 0 10 (dk_at dksX1_rule_1 0 rfl rfl)
theorem dX1_rule_25 : decode cX1_rule 25 = .ok (.aload_n 0, 1) := dk_42 (dk_at dksX1_rule_1 3 rfl rfl)
theorem dX1_rule_26 : decode cX1_rule 26 = .ok (.aconst_null, 1) := dk_1 (dk_at dksX1_rule_1 4 rfl rfl)
theorem dX1_rule_27 : decode cX1_rule 27 = .ok (.putfield 30, 3) := dk_181 0 30 (dk_at dksX1_rule_1 5 rfl rfl)
theorem dX1_rule_30 : decode cX1_rule 30 = .ok (.iconst 0, 1) := dk_3 (dk_at dksX1_rule_1 8 rfl rfl)
theorem dX1_rule_31 : decode cX1_rule 31 = .ok (.ireturn, 1) := dk_172 (dk_at dksX1_rule_1 9 rfl rfl)
theorem dX1_rule_32 : decode cX1_rule 32 = .ok (.aload_n 0, 1) := dk_42 (dk_at dksX1_rule_1 10 rfl rfl)
theorem dX1_rule_33 : decode cX1_rule 33 = .ok (.new 43, 3) := dk_187 0 43 (dk_at dksX1_rule_1 11 rfl rfl)
theorem dX1_rule_36 : decode cX1_rule 36 = .ok (.dup, 1) := dk_89 (dk_at dksX1_rule_1 14 rfl rfl)
theorem dX1_rule_37 : decode cX1_rule 37 = .ok (.aload_n 0, 1) := dk_42 (dk_at dksX1_rule_1 15 rfl rfl)
theorem dX1_rule_38 : decode cX1_rule 38 = .ok (.aload_n 1, 1) := dk_43 (dk_at dksX1_rule_1 16 rfl rfl)
theorem dX1_rule_39 : decode cX1_rule 39 = .ok (.iload_n 2, 1) := dk_28 (dk_at dksX1_rule_1 17 rfl rfl)
theorem dX1_rule_40 : decode cX1_rule 40 = .ok (.invokespecial 239, 3) := dk_183 0 239 (dk_at dksX1_rule_1 18 rfl rfl)
theorem dX1_rule_43 : decode cX1_rule 43 = .ok (.invokevirtual 242, 3) := dk_182 0 242 (dk_at dksX1_rule_1 21 rfl rfl)
theorem dX1_rule_46 : decode cX1_rule 46 = .ok (.putfield 30, 3) := dk_181 0 30 (dk_at dksX1_rule_2 0 rfl rfl)
theorem dX1_rule_49 : decode cX1_rule 49 = .ok (.iconst 0, 1) := dk_3 (dk_at dksX1_rule_2 3 rfl rfl)
theorem dX1_rule_50 : decode cX1_rule 50 = .ok (.ireturn, 1) := dk_172 (dk_at dksX1_rule_2 4 rfl rfl)
theorem dX1_rule_51 : decode cX1_rule 51 = .ok (.astore_n 3, 1) := dk_78 (dk_at dksX1_rule_2 5 rfl rfl)
theorem dX1_rule_52 : decode cX1_rule 52 = .ok (.iconst (-1), 1) := dk_2 (dk_at dksX1_rule_2 6 rfl rfl)
theorem dX1_rule_53 : decode cX1_rule 53 = .ok (.aload_n 3, 1) := dk_45 (dk_at dksX1_rule_2 7 rfl rfl)
theorem dX1_rule_54 : decode cX1_rule 54 = .ok (.getfield 187, 3) := dk_180 0 187 (dk_at dksX1_rule_2 8 rfl rfl)
theorem dX1_rule_57 : decode cX1_rule 57 = .ok (.isub, 1) := dk_100 (dk_at dksX1_rule_2 11 rfl rfl)
theorem dX1_rule_58 : decode cX1_rule 58 = .ok (.ireturn, 1) := dk_172 (dk_at dksX1_rule_2 12 rfl rfl)
abbrev cX1_lightOf : ByteArray := prog_1_method_26_code
def yX1_lightOf : MethodName := ⟨RX1, "lightOf", "(I)I"⟩
def dkwX1_lightOf_0 : List UInt8 := [42, 180, 0, 98, 27, 42, 180, 0, 98, 190, 112, 51, 172]
abbrev dktX1_lightOf_0 : List UInt8 := dkwX1_lightOf_0 ++ []
theorem dksX1_lightOf_0 : cX1_lightOf.data.toList.drop 0 = dktX1_lightOf_0 := by decide +kernel
theorem dX1_lightOf_0 : decode cX1_lightOf 0 = .ok (.aload_n 0, 1) := dk_42 (dk_at dksX1_lightOf_0 0 rfl rfl)
theorem dX1_lightOf_1 : decode cX1_lightOf 1 = .ok (.getfield 98, 3) := dk_180 0 98 (dk_at dksX1_lightOf_0 1 rfl rfl)
theorem dX1_lightOf_4 : decode cX1_lightOf 4 = .ok (.iload_n 1, 1) := dk_27 (dk_at dksX1_lightOf_0 4 rfl rfl)
theorem dX1_lightOf_5 : decode cX1_lightOf 5 = .ok (.aload_n 0, 1) := dk_42 (dk_at dksX1_lightOf_0 5 rfl rfl)
theorem dX1_lightOf_6 : decode cX1_lightOf 6 = .ok (.getfield 98, 3) := dk_180 0 98 (dk_at dksX1_lightOf_0 6 rfl rfl)
theorem dX1_lightOf_9 : decode cX1_lightOf 9 = .ok (.arraylength, 1) := dk_190 (dk_at dksX1_lightOf_0 9 rfl rfl)
theorem dX1_lightOf_10 : decode cX1_lightOf 10 = .ok (.irem, 1) := dk_112 (dk_at dksX1_lightOf_0 10 rfl rfl)
theorem dX1_lightOf_11 : decode cX1_lightOf 11 = .ok (.baload, 1) := dk_51 (dk_at dksX1_lightOf_0 11 rfl rfl)
theorem dX1_lightOf_12 : decode cX1_lightOf 12 = .ok (.ireturn, 1) := dk_172 (dk_at dksX1_lightOf_0 12 rfl rfl)
abbrev cX1_peopleOn : ByteArray := prog_1_method_28_code
def yX1_peopleOn : MethodName := ⟨RX1, "peopleOn", "(LBonnetValley$Upland;J)I"⟩
def dkwX1_peopleOn_2 : List UInt8 := [21, 4, 172]
abbrev dktX1_peopleOn_2 : List UInt8 := dkwX1_peopleOn_2 ++ []
def dkwX1_peopleOn_1 : List UInt8 := [46, 184, 0, 26, 153, 0, 10, 4, 21, 5, 120, 167, 0, 4, 3, 128, 54, 4, 132, 5, 1, 167, 255, 217]
abbrev dktX1_peopleOn_1 : List UInt8 := dkwX1_peopleOn_1 ++ dktX1_peopleOn_2
def dkwX1_peopleOn_0 : List UInt8 := [3, 54, 4, 3, 54, 5, 21, 5, 42, 180, 0, 150, 162, 0, 36, 21, 4, 32, 43, 180, 0, 217, 21, 5]
abbrev dktX1_peopleOn_0 : List UInt8 := dkwX1_peopleOn_0 ++ dktX1_peopleOn_1
theorem dksX1_peopleOn_0 : cX1_peopleOn.data.toList.drop 0 = dktX1_peopleOn_0 := by decide +kernel
theorem dksX1_peopleOn_1 : cX1_peopleOn.data.toList.drop 24 = dktX1_peopleOn_1 := dk_seg dksX1_peopleOn_0 24 rfl rfl
theorem dksX1_peopleOn_2 : cX1_peopleOn.data.toList.drop 48 = dktX1_peopleOn_2 := dk_seg dksX1_peopleOn_1 24 rfl rfl
theorem dX1_peopleOn_0 : decode cX1_peopleOn 0 = .ok (.iconst 0, 1) := dk_3 (dk_at dksX1_peopleOn_0 0 rfl rfl)
theorem dX1_peopleOn_1 : decode cX1_peopleOn 1 = .ok (.istore 4, 2) := dk_54 4 (dk_at dksX1_peopleOn_0 1 rfl rfl)
theorem dX1_peopleOn_3 : decode cX1_peopleOn 3 = .ok (.iconst 0, 1) := dk_3 (dk_at dksX1_peopleOn_0 3 rfl rfl)
theorem dX1_peopleOn_4 : decode cX1_peopleOn 4 = .ok (.istore 5, 2) := dk_54 5 (dk_at dksX1_peopleOn_0 4 rfl rfl)
theorem dX1_peopleOn_6 : decode cX1_peopleOn 6 = .ok (.iload 5, 2) := dk_21 5 (dk_at dksX1_peopleOn_0 6 rfl rfl)
theorem dX1_peopleOn_8 : decode cX1_peopleOn 8 = .ok (.aload_n 0, 1) := dk_42 (dk_at dksX1_peopleOn_0 8 rfl rfl)
theorem dX1_peopleOn_9 : decode cX1_peopleOn 9 = .ok (.getfield 150, 3) := dk_180 0 150 (dk_at dksX1_peopleOn_0 9 rfl rfl)
theorem dX1_peopleOn_12 : decode cX1_peopleOn 12 = .ok (.if_icmp .ge 36, 3) := dk_162 0 36 (dk_at dksX1_peopleOn_0 12 rfl rfl)
theorem dX1_peopleOn_15 : decode cX1_peopleOn 15 = .ok (.iload 4, 2) := dk_21 4 (dk_at dksX1_peopleOn_0 15 rfl rfl)
theorem dX1_peopleOn_17 : decode cX1_peopleOn 17 = .ok (.lload_n 2, 1) := dk_32 (dk_at dksX1_peopleOn_0 17 rfl rfl)
theorem dX1_peopleOn_18 : decode cX1_peopleOn 18 = .ok (.aload_n 1, 1) := dk_43 (dk_at dksX1_peopleOn_0 18 rfl rfl)
theorem dX1_peopleOn_19 : decode cX1_peopleOn 19 = .ok (.getfield 217, 3) := dk_180 0 217 (dk_at dksX1_peopleOn_0 19 rfl rfl)
theorem dX1_peopleOn_22 : decode cX1_peopleOn 22 = .ok (.iload 5, 2) := dk_21 5 (dk_at dksX1_peopleOn_0 22 rfl rfl)
theorem dX1_peopleOn_24 : decode cX1_peopleOn 24 = .ok (.iaload, 1) := dk_46 (dk_at dksX1_peopleOn_1 0 rfl rfl)
theorem dX1_peopleOn_25 : decode cX1_peopleOn 25 = .ok (.invokestatic 26, 3) := dk_184 0 26 (dk_at dksX1_peopleOn_1 1 rfl rfl)
theorem dX1_peopleOn_28 : decode cX1_peopleOn 28 = .ok (.ifCond .eq 10, 3) := dk_153 0 10 (dk_at dksX1_peopleOn_1 4 rfl rfl)
theorem dX1_peopleOn_31 : decode cX1_peopleOn 31 = .ok (.iconst 1, 1) := dk_4 (dk_at dksX1_peopleOn_1 7 rfl rfl)
theorem dX1_peopleOn_32 : decode cX1_peopleOn 32 = .ok (.iload 5, 2) := dk_21 5 (dk_at dksX1_peopleOn_1 8 rfl rfl)
theorem dX1_peopleOn_34 : decode cX1_peopleOn 34 = .ok (.ishl, 1) := dk_120 (dk_at dksX1_peopleOn_1 10 rfl rfl)
theorem dX1_peopleOn_35 : decode cX1_peopleOn 35 = .ok (.goto 4, 3) := dk_167 0 4 (dk_at dksX1_peopleOn_1 11 rfl rfl)
theorem dX1_peopleOn_38 : decode cX1_peopleOn 38 = .ok (.iconst 0, 1) := dk_3 (dk_at dksX1_peopleOn_1 14 rfl rfl)
theorem dX1_peopleOn_39 : decode cX1_peopleOn 39 = .ok (.ior, 1) := dk_128 (dk_at dksX1_peopleOn_1 15 rfl rfl)
theorem dX1_peopleOn_40 : decode cX1_peopleOn 40 = .ok (.istore 4, 2) := dk_54 4 (dk_at dksX1_peopleOn_1 16 rfl rfl)
theorem dX1_peopleOn_42 : decode cX1_peopleOn 42 = .ok (.iinc 5 1, 3) := dk_132 5 1 (dk_at dksX1_peopleOn_1 18 rfl rfl)
theorem dX1_peopleOn_45 : decode cX1_peopleOn 45 = .ok (.goto (-39), 3) := dk_167 255 217 (dk_at dksX1_peopleOn_1 21 rfl rfl)
theorem dX1_peopleOn_48 : decode cX1_peopleOn 48 = .ok (.iload 4, 2) := dk_21 4 (dk_at dksX1_peopleOn_2 0 rfl rfl)
theorem dX1_peopleOn_50 : decode cX1_peopleOn 50 = .ok (.ireturn, 1) := dk_172 (dk_at dksX1_peopleOn_2 2 rfl rfl)
abbrev cX1_sheet : ByteArray := prog_1_method_37_code
def yX1_sheet : MethodName := ⟨RX1, "sheet", "(IIII)I"⟩
def dkwX1_sheet_5 : List UInt8 := [42, 180, 0, 84, 182, 1, 32, 172]
abbrev dktX1_sheet_5 : List UInt8 := dkwX1_sheet_5 ++ []
def dkwX1_sheet_4 : List UInt8 := [184, 0, 9, 184, 0, 48, 79, 132, 6, 1, 167, 255, 204, 25, 5, 199, 0, 8, 16, 253, 167, 0, 11, 42]
abbrev dktX1_sheet_4 : List UInt8 := dkwX1_sheet_4 ++ dktX1_sheet_5
def dkwX1_sheet_3 : List UInt8 := [198, 0, 9, 21, 6, 28, 161, 0, 7, 3, 167, 0, 18, 3, 7, 25, 5, 21, 6, 184, 1, 28]
abbrev dktX1_sheet_3 : List UInt8 := dkwX1_sheet_3 ++ dktX1_sheet_4
def dkwX1_sheet_2 : List UInt8 := [54, 6, 21, 6, 42, 180, 0, 150, 162, 0, 49, 42, 180, 0, 84, 180, 0, 222, 21, 6, 25, 5]
abbrev dktX1_sheet_2 : List UInt8 := dkwX1_sheet_2 ++ dktX1_sheet_3
def dkwX1_sheet_1 : List UInt8 := [6, 162, 0, 21, 27, 28, 29, 21, 4, 184, 1, 22, 58, 5, 167, 0, 8, 58, 6, 16, 254, 172, 3]
abbrev dktX1_sheet_1 : List UInt8 := dkwX1_sheet_1 ++ dktX1_sheet_2
def dkwX1_sheet_0 : List UInt8 := [27, 133, 9, 20, 1, 20, 184, 0, 146, 153, 0, 9, 28, 16, 8, 164, 0, 5, 2, 172, 1, 58, 5, 27]
abbrev dktX1_sheet_0 : List UInt8 := dkwX1_sheet_0 ++ dktX1_sheet_1
theorem dksX1_sheet_0 : cX1_sheet.data.toList.drop 0 = dktX1_sheet_0 := by decide +kernel
theorem dksX1_sheet_1 : cX1_sheet.data.toList.drop 24 = dktX1_sheet_1 := dk_seg dksX1_sheet_0 24 rfl rfl
theorem dksX1_sheet_2 : cX1_sheet.data.toList.drop 47 = dktX1_sheet_2 := dk_seg dksX1_sheet_1 23 rfl rfl
theorem dksX1_sheet_3 : cX1_sheet.data.toList.drop 69 = dktX1_sheet_3 := dk_seg dksX1_sheet_2 22 rfl rfl
theorem dksX1_sheet_4 : cX1_sheet.data.toList.drop 91 = dktX1_sheet_4 := dk_seg dksX1_sheet_3 22 rfl rfl
theorem dksX1_sheet_5 : cX1_sheet.data.toList.drop 115 = dktX1_sheet_5 := dk_seg dksX1_sheet_4 24 rfl rfl
theorem dX1_sheet_0 : decode cX1_sheet 0 = .ok (.iload_n 1, 1) := dk_27 (dk_at dksX1_sheet_0 0 rfl rfl)
theorem dX1_sheet_1 : decode cX1_sheet 1 = .ok (.i2l, 1) := dk_133 (dk_at dksX1_sheet_0 1 rfl rfl)
theorem dX1_sheet_2 : decode cX1_sheet 2 = .ok (.lconst 0, 1) := dk_9 (dk_at dksX1_sheet_0 2 rfl rfl)
theorem dX1_sheet_3 : decode cX1_sheet 3 = .ok (.ldc2_w 276, 3) := dk_20 1 20 (dk_at dksX1_sheet_0 3 rfl rfl)
theorem dX1_sheet_6 : decode cX1_sheet 6 = .ok (.invokestatic 146, 3) := dk_184 0 146 (dk_at dksX1_sheet_0 6 rfl rfl)
theorem dX1_sheet_9 : decode cX1_sheet 9 = .ok (.ifCond .eq 9, 3) := dk_153 0 9 (dk_at dksX1_sheet_0 9 rfl rfl)
theorem dX1_sheet_12 : decode cX1_sheet 12 = .ok (.iload_n 2, 1) := dk_28 (dk_at dksX1_sheet_0 12 rfl rfl)
theorem dX1_sheet_13 : decode cX1_sheet 13 = .ok (.bipush 8, 2) := dk_16 8 (dk_at dksX1_sheet_0 13 rfl rfl)
theorem dX1_sheet_15 : decode cX1_sheet 15 = .ok (.if_icmp .le 5, 3) := dk_164 0 5 (dk_at dksX1_sheet_0 15 rfl rfl)
theorem dX1_sheet_18 : decode cX1_sheet 18 = .ok (.iconst (-1), 1) := dk_2 (dk_at dksX1_sheet_0 18 rfl rfl)
theorem dX1_sheet_19 : decode cX1_sheet 19 = .ok (.ireturn, 1) := dk_172 (dk_at dksX1_sheet_0 19 rfl rfl)
theorem dX1_sheet_20 : decode cX1_sheet 20 = .ok (.aconst_null, 1) := dk_1 (dk_at dksX1_sheet_0 20 rfl rfl)
theorem dX1_sheet_21 : decode cX1_sheet 21 = .ok (.astore 5, 2) := dk_58 5 (dk_at dksX1_sheet_0 21 rfl rfl)
theorem dX1_sheet_23 : decode cX1_sheet 23 = .ok (.iload_n 1, 1) := dk_27 (dk_at dksX1_sheet_0 23 rfl rfl)
theorem dX1_sheet_24 : decode cX1_sheet 24 = .ok (.iconst 3, 1) := dk_6 (dk_at dksX1_sheet_1 0 rfl rfl)
theorem dX1_sheet_25 : decode cX1_sheet 25 = .ok (.if_icmp .ge 21, 3) := dk_162 0 21 (dk_at dksX1_sheet_1 1 rfl rfl)
theorem dX1_sheet_28 : decode cX1_sheet 28 = .ok (.iload_n 1, 1) := dk_27 (dk_at dksX1_sheet_1 4 rfl rfl)
theorem dX1_sheet_29 : decode cX1_sheet 29 = .ok (.iload_n 2, 1) := dk_28 (dk_at dksX1_sheet_1 5 rfl rfl)
theorem dX1_sheet_30 : decode cX1_sheet 30 = .ok (.iload_n 3, 1) := dk_29 (dk_at dksX1_sheet_1 6 rfl rfl)
theorem dX1_sheet_31 : decode cX1_sheet 31 = .ok (.iload 4, 2) := dk_21 4 (dk_at dksX1_sheet_1 7 rfl rfl)
theorem dX1_sheet_33 : decode cX1_sheet 33 = .ok (.invokestatic 278, 3) := dk_184 1 22 (dk_at dksX1_sheet_1 9 rfl rfl)
theorem dX1_sheet_36 : decode cX1_sheet 36 = .ok (.astore 5, 2) := dk_58 5 (dk_at dksX1_sheet_1 12 rfl rfl)
theorem dX1_sheet_38 : decode cX1_sheet 38 = .ok (.goto 8, 3) := dk_167 0 8 (dk_at dksX1_sheet_1 14 rfl rfl)
theorem dX1_sheet_41 : decode cX1_sheet 41 = .ok (.astore 6, 2) := dk_58 6 (dk_at dksX1_sheet_1 17 rfl rfl)
theorem dX1_sheet_43 : decode cX1_sheet 43 = .ok (.bipush (-2), 2) := dk_16 254 (dk_at dksX1_sheet_1 19 rfl rfl)
theorem dX1_sheet_45 : decode cX1_sheet 45 = .ok (.ireturn, 1) := dk_172 (dk_at dksX1_sheet_1 21 rfl rfl)
theorem dX1_sheet_46 : decode cX1_sheet 46 = .ok (.iconst 0, 1) := dk_3 (dk_at dksX1_sheet_1 22 rfl rfl)
theorem dX1_sheet_47 : decode cX1_sheet 47 = .ok (.istore 6, 2) := dk_54 6 (dk_at dksX1_sheet_2 0 rfl rfl)
theorem dX1_sheet_49 : decode cX1_sheet 49 = .ok (.iload 6, 2) := dk_21 6 (dk_at dksX1_sheet_2 2 rfl rfl)
theorem dX1_sheet_51 : decode cX1_sheet 51 = .ok (.aload_n 0, 1) := dk_42 (dk_at dksX1_sheet_2 4 rfl rfl)
theorem dX1_sheet_52 : decode cX1_sheet 52 = .ok (.getfield 150, 3) := dk_180 0 150 (dk_at dksX1_sheet_2 5 rfl rfl)
theorem dX1_sheet_55 : decode cX1_sheet 55 = .ok (.if_icmp .ge 49, 3) := dk_162 0 49 (dk_at dksX1_sheet_2 8 rfl rfl)
theorem dX1_sheet_58 : decode cX1_sheet 58 = .ok (.aload_n 0, 1) := dk_42 (dk_at dksX1_sheet_2 11 rfl rfl)
theorem dX1_sheet_59 : decode cX1_sheet 59 = .ok (.getfield 84, 3) := dk_180 0 84 (dk_at dksX1_sheet_2 12 rfl rfl)
theorem dX1_sheet_62 : decode cX1_sheet 62 = .ok (.getfield 222, 3) := dk_180 0 222 (dk_at dksX1_sheet_2 15 rfl rfl)
theorem dX1_sheet_65 : decode cX1_sheet 65 = .ok (.iload 6, 2) := dk_21 6 (dk_at dksX1_sheet_2 18 rfl rfl)
theorem dX1_sheet_67 : decode cX1_sheet 67 = .ok (.aload 5, 2) := dk_25 5 (dk_at dksX1_sheet_2 20 rfl rfl)
theorem dX1_sheet_69 : decode cX1_sheet 69 = .ok (.ifnull 9, 3) := dk_198 0 9 (dk_at dksX1_sheet_3 0 rfl rfl)
theorem dX1_sheet_72 : decode cX1_sheet 72 = .ok (.iload 6, 2) := dk_21 6 (dk_at dksX1_sheet_3 3 rfl rfl)
theorem dX1_sheet_74 : decode cX1_sheet 74 = .ok (.iload_n 2, 1) := dk_28 (dk_at dksX1_sheet_3 5 rfl rfl)
theorem dX1_sheet_75 : decode cX1_sheet 75 = .ok (.if_icmp .lt 7, 3) := dk_161 0 7 (dk_at dksX1_sheet_3 6 rfl rfl)
theorem dX1_sheet_78 : decode cX1_sheet 78 = .ok (.iconst 0, 1) := dk_3 (dk_at dksX1_sheet_3 9 rfl rfl)
theorem dX1_sheet_79 : decode cX1_sheet 79 = .ok (.goto 18, 3) := dk_167 0 18 (dk_at dksX1_sheet_3 10 rfl rfl)
theorem dX1_sheet_82 : decode cX1_sheet 82 = .ok (.iconst 0, 1) := dk_3 (dk_at dksX1_sheet_3 13 rfl rfl)
theorem dX1_sheet_83 : decode cX1_sheet 83 = .ok (.iconst 4, 1) := dk_7 (dk_at dksX1_sheet_3 14 rfl rfl)
theorem dX1_sheet_84 : decode cX1_sheet 84 = .ok (.aload 5, 2) := dk_25 5 (dk_at dksX1_sheet_3 15 rfl rfl)
theorem dX1_sheet_86 : decode cX1_sheet 86 = .ok (.iload 6, 2) := dk_21 6 (dk_at dksX1_sheet_3 17 rfl rfl)
theorem dX1_sheet_88 : decode cX1_sheet 88 = .ok (.invokestatic 284, 3) := dk_184 1 28 (dk_at dksX1_sheet_3 19 rfl rfl)
theorem dX1_sheet_91 : decode cX1_sheet 91 = .ok (.invokestatic 9, 3) := dk_184 0 9 (dk_at dksX1_sheet_4 0 rfl rfl)
theorem dX1_sheet_94 : decode cX1_sheet 94 = .ok (.invokestatic 48, 3) := dk_184 0 48 (dk_at dksX1_sheet_4 3 rfl rfl)
theorem dX1_sheet_97 : decode cX1_sheet 97 = .ok (.iastore, 1) := dk_79 (dk_at dksX1_sheet_4 6 rfl rfl)
theorem dX1_sheet_98 : decode cX1_sheet 98 = .ok (.iinc 6 1, 3) := dk_132 6 1 (dk_at dksX1_sheet_4 7 rfl rfl)
theorem dX1_sheet_101 : decode cX1_sheet 101 = .ok (.goto (-52), 3) := dk_167 255 204 (dk_at dksX1_sheet_4 10 rfl rfl)
theorem dX1_sheet_104 : decode cX1_sheet 104 = .ok (.aload 5, 2) := dk_25 5 (dk_at dksX1_sheet_4 13 rfl rfl)
theorem dX1_sheet_106 : decode cX1_sheet 106 = .ok (.ifnonnull 8, 3) := dk_199 0 8 (dk_at dksX1_sheet_4 15 rfl rfl)
theorem dX1_sheet_109 : decode cX1_sheet 109 = .ok (.bipush (-3), 2) := dk_16 253 (dk_at dksX1_sheet_4 18 rfl rfl)
theorem dX1_sheet_111 : decode cX1_sheet 111 = .ok (.goto 11, 3) := dk_167 0 11 (dk_at dksX1_sheet_4 20 rfl rfl)
theorem dX1_sheet_114 : decode cX1_sheet 114 = .ok (.aload_n 0, 1) := dk_42 (dk_at dksX1_sheet_4 23 rfl rfl)
theorem dX1_sheet_115 : decode cX1_sheet 115 = .ok (.aload_n 0, 1) := dk_42 (dk_at dksX1_sheet_5 0 rfl rfl)
theorem dX1_sheet_116 : decode cX1_sheet 116 = .ok (.getfield 84, 3) := dk_180 0 84 (dk_at dksX1_sheet_5 1 rfl rfl)
theorem dX1_sheet_119 : decode cX1_sheet 119 = .ok (.invokevirtual 288, 3) := dk_182 1 32 (dk_at dksX1_sheet_5 4 rfl rfl)
theorem dX1_sheet_122 : decode cX1_sheet 122 = .ok (.ireturn, 1) := dk_172 (dk_at dksX1_sheet_5 7 rfl rfl)
abbrev cX1_rowOf : ByteArray := prog_1_method_35_code
def yX1_rowOf : MethodName := ⟨RX1, "rowOf", "(IIII)Ljava/lang/Object;"⟩
def dkwX1_rowOf_5 : List UInt8 := [167, 255, 234, 25, 5, 176]
abbrev dktX1_rowOf_5 : List UInt8 := dkwX1_rowOf_5 ++ []
def dkwX1_rowOf_4 : List UInt8 := [21, 6, 27, 162, 0, 22, 25, 5, 21, 6, 21, 4, 79, 132, 6, 1, 21, 4, 29, 96, 54, 4]
abbrev dktX1_rowOf_4 : List UInt8 := dkwX1_rowOf_4 ++ dktX1_rowOf_5
def dkwX1_rowOf_3 : List UInt8 := [86, 132, 6, 1, 21, 4, 29, 96, 54, 4, 167, 255, 233, 25, 5, 176, 27, 188, 10, 58, 5, 3, 54, 6]
abbrev dktX1_rowOf_3 : List UInt8 := dkwX1_rowOf_3 ++ dktX1_rowOf_4
def dkwX1_rowOf_2 : List UInt8 := [160, 0, 40, 27, 188, 9, 58, 5, 3, 54, 6, 21, 6, 27, 162, 0, 23, 25, 5, 21, 6, 21, 4, 147]
abbrev dktX1_rowOf_2 : List UInt8 := dkwX1_rowOf_2 ++ dktX1_rowOf_3
def dkwX1_rowOf_1 : List UInt8 := [21, 6, 21, 4, 145, 84, 132, 6, 1, 21, 4, 29, 96, 54, 4, 167, 255, 233, 25, 5, 176, 26, 4]
abbrev dktX1_rowOf_1 : List UInt8 := dkwX1_rowOf_1 ++ dktX1_rowOf_2
def dkwX1_rowOf_0 : List UInt8 := [28, 54, 4, 26, 154, 0, 40, 27, 188, 8, 58, 5, 3, 54, 6, 21, 6, 27, 162, 0, 23, 25, 5]
abbrev dktX1_rowOf_0 : List UInt8 := dkwX1_rowOf_0 ++ dktX1_rowOf_1
theorem dksX1_rowOf_0 : cX1_rowOf.data.toList.drop 0 = dktX1_rowOf_0 := by decide +kernel
theorem dksX1_rowOf_1 : cX1_rowOf.data.toList.drop 23 = dktX1_rowOf_1 := dk_seg dksX1_rowOf_0 23 rfl rfl
theorem dksX1_rowOf_2 : cX1_rowOf.data.toList.drop 46 = dktX1_rowOf_2 := dk_seg dksX1_rowOf_1 23 rfl rfl
theorem dksX1_rowOf_3 : cX1_rowOf.data.toList.drop 70 = dktX1_rowOf_3 := dk_seg dksX1_rowOf_2 24 rfl rfl
theorem dksX1_rowOf_4 : cX1_rowOf.data.toList.drop 94 = dktX1_rowOf_4 := dk_seg dksX1_rowOf_3 24 rfl rfl
theorem dksX1_rowOf_5 : cX1_rowOf.data.toList.drop 116 = dktX1_rowOf_5 := dk_seg dksX1_rowOf_4 22 rfl rfl
theorem dX1_rowOf_0 : decode cX1_rowOf 0 = .ok (.iload_n 2, 1) := dk_28 (dk_at dksX1_rowOf_0 0 rfl rfl)
theorem dX1_rowOf_1 : decode cX1_rowOf 1 = .ok (.istore 4, 2) := dk_54 4 (dk_at dksX1_rowOf_0 1 rfl rfl)
theorem dX1_rowOf_3 : decode cX1_rowOf 3 = .ok (.iload_n 0, 1) := dk_26 (dk_at dksX1_rowOf_0 3 rfl rfl)
theorem dX1_rowOf_4 : decode cX1_rowOf 4 = .ok (.ifCond .ne 40, 3) := dk_154 0 40 (dk_at dksX1_rowOf_0 4 rfl rfl)
theorem dX1_rowOf_7 : decode cX1_rowOf 7 = .ok (.iload_n 1, 1) := dk_27 (dk_at dksX1_rowOf_0 7 rfl rfl)
theorem dX1_rowOf_8 : decode cX1_rowOf 8 = .ok (.newarray .byte, 2) := dk_188_8 (dk_at dksX1_rowOf_0 8 rfl rfl)
theorem dX1_rowOf_10 : decode cX1_rowOf 10 = .ok (.astore 5, 2) := dk_58 5 (dk_at dksX1_rowOf_0 10 rfl rfl)
theorem dX1_rowOf_12 : decode cX1_rowOf 12 = .ok (.iconst 0, 1) := dk_3 (dk_at dksX1_rowOf_0 12 rfl rfl)
theorem dX1_rowOf_13 : decode cX1_rowOf 13 = .ok (.istore 6, 2) := dk_54 6 (dk_at dksX1_rowOf_0 13 rfl rfl)
theorem dX1_rowOf_15 : decode cX1_rowOf 15 = .ok (.iload 6, 2) := dk_21 6 (dk_at dksX1_rowOf_0 15 rfl rfl)
theorem dX1_rowOf_17 : decode cX1_rowOf 17 = .ok (.iload_n 1, 1) := dk_27 (dk_at dksX1_rowOf_0 17 rfl rfl)
theorem dX1_rowOf_18 : decode cX1_rowOf 18 = .ok (.if_icmp .ge 23, 3) := dk_162 0 23 (dk_at dksX1_rowOf_0 18 rfl rfl)
theorem dX1_rowOf_21 : decode cX1_rowOf 21 = .ok (.aload 5, 2) := dk_25 5 (dk_at dksX1_rowOf_0 21 rfl rfl)
theorem dX1_rowOf_23 : decode cX1_rowOf 23 = .ok (.iload 6, 2) := dk_21 6 (dk_at dksX1_rowOf_1 0 rfl rfl)
theorem dX1_rowOf_25 : decode cX1_rowOf 25 = .ok (.iload 4, 2) := dk_21 4 (dk_at dksX1_rowOf_1 2 rfl rfl)
theorem dX1_rowOf_27 : decode cX1_rowOf 27 = .ok (.i2b, 1) := dk_145 (dk_at dksX1_rowOf_1 4 rfl rfl)
theorem dX1_rowOf_28 : decode cX1_rowOf 28 = .ok (.bastore, 1) := dk_84 (dk_at dksX1_rowOf_1 5 rfl rfl)
theorem dX1_rowOf_29 : decode cX1_rowOf 29 = .ok (.iinc 6 1, 3) := dk_132 6 1 (dk_at dksX1_rowOf_1 6 rfl rfl)
theorem dX1_rowOf_32 : decode cX1_rowOf 32 = .ok (.iload 4, 2) := dk_21 4 (dk_at dksX1_rowOf_1 9 rfl rfl)
theorem dX1_rowOf_34 : decode cX1_rowOf 34 = .ok (.iload_n 3, 1) := dk_29 (dk_at dksX1_rowOf_1 11 rfl rfl)
theorem dX1_rowOf_35 : decode cX1_rowOf 35 = .ok (.iadd, 1) := dk_96 (dk_at dksX1_rowOf_1 12 rfl rfl)
theorem dX1_rowOf_36 : decode cX1_rowOf 36 = .ok (.istore 4, 2) := dk_54 4 (dk_at dksX1_rowOf_1 13 rfl rfl)
theorem dX1_rowOf_38 : decode cX1_rowOf 38 = .ok (.goto (-23), 3) := dk_167 255 233 (dk_at dksX1_rowOf_1 15 rfl rfl)
theorem dX1_rowOf_41 : decode cX1_rowOf 41 = .ok (.aload 5, 2) := dk_25 5 (dk_at dksX1_rowOf_1 18 rfl rfl)
theorem dX1_rowOf_43 : decode cX1_rowOf 43 = .ok (.areturn, 1) := dk_176 (dk_at dksX1_rowOf_1 20 rfl rfl)
theorem dX1_rowOf_44 : decode cX1_rowOf 44 = .ok (.iload_n 0, 1) := dk_26 (dk_at dksX1_rowOf_1 21 rfl rfl)
theorem dX1_rowOf_45 : decode cX1_rowOf 45 = .ok (.iconst 1, 1) := dk_4 (dk_at dksX1_rowOf_1 22 rfl rfl)
theorem dX1_rowOf_46 : decode cX1_rowOf 46 = .ok (.if_icmp .ne 40, 3) := dk_160 0 40 (dk_at dksX1_rowOf_2 0 rfl rfl)
theorem dX1_rowOf_49 : decode cX1_rowOf 49 = .ok (.iload_n 1, 1) := dk_27 (dk_at dksX1_rowOf_2 3 rfl rfl)
theorem dX1_rowOf_50 : decode cX1_rowOf 50 = .ok (.newarray .short, 2) := dk_188_9 (dk_at dksX1_rowOf_2 4 rfl rfl)
theorem dX1_rowOf_52 : decode cX1_rowOf 52 = .ok (.astore 5, 2) := dk_58 5 (dk_at dksX1_rowOf_2 6 rfl rfl)
theorem dX1_rowOf_54 : decode cX1_rowOf 54 = .ok (.iconst 0, 1) := dk_3 (dk_at dksX1_rowOf_2 8 rfl rfl)
theorem dX1_rowOf_55 : decode cX1_rowOf 55 = .ok (.istore 6, 2) := dk_54 6 (dk_at dksX1_rowOf_2 9 rfl rfl)
theorem dX1_rowOf_57 : decode cX1_rowOf 57 = .ok (.iload 6, 2) := dk_21 6 (dk_at dksX1_rowOf_2 11 rfl rfl)
theorem dX1_rowOf_59 : decode cX1_rowOf 59 = .ok (.iload_n 1, 1) := dk_27 (dk_at dksX1_rowOf_2 13 rfl rfl)
theorem dX1_rowOf_60 : decode cX1_rowOf 60 = .ok (.if_icmp .ge 23, 3) := dk_162 0 23 (dk_at dksX1_rowOf_2 14 rfl rfl)
theorem dX1_rowOf_63 : decode cX1_rowOf 63 = .ok (.aload 5, 2) := dk_25 5 (dk_at dksX1_rowOf_2 17 rfl rfl)
theorem dX1_rowOf_65 : decode cX1_rowOf 65 = .ok (.iload 6, 2) := dk_21 6 (dk_at dksX1_rowOf_2 19 rfl rfl)
theorem dX1_rowOf_67 : decode cX1_rowOf 67 = .ok (.iload 4, 2) := dk_21 4 (dk_at dksX1_rowOf_2 21 rfl rfl)
theorem dX1_rowOf_69 : decode cX1_rowOf 69 = .ok (.i2s, 1) := dk_147 (dk_at dksX1_rowOf_2 23 rfl rfl)
theorem dX1_rowOf_70 : decode cX1_rowOf 70 = .ok (.sastore, 1) := dk_86 (dk_at dksX1_rowOf_3 0 rfl rfl)
theorem dX1_rowOf_71 : decode cX1_rowOf 71 = .ok (.iinc 6 1, 3) := dk_132 6 1 (dk_at dksX1_rowOf_3 1 rfl rfl)
theorem dX1_rowOf_74 : decode cX1_rowOf 74 = .ok (.iload 4, 2) := dk_21 4 (dk_at dksX1_rowOf_3 4 rfl rfl)
theorem dX1_rowOf_76 : decode cX1_rowOf 76 = .ok (.iload_n 3, 1) := dk_29 (dk_at dksX1_rowOf_3 6 rfl rfl)
theorem dX1_rowOf_77 : decode cX1_rowOf 77 = .ok (.iadd, 1) := dk_96 (dk_at dksX1_rowOf_3 7 rfl rfl)
theorem dX1_rowOf_78 : decode cX1_rowOf 78 = .ok (.istore 4, 2) := dk_54 4 (dk_at dksX1_rowOf_3 8 rfl rfl)
theorem dX1_rowOf_80 : decode cX1_rowOf 80 = .ok (.goto (-23), 3) := dk_167 255 233 (dk_at dksX1_rowOf_3 10 rfl rfl)
theorem dX1_rowOf_83 : decode cX1_rowOf 83 = .ok (.aload 5, 2) := dk_25 5 (dk_at dksX1_rowOf_3 13 rfl rfl)
theorem dX1_rowOf_85 : decode cX1_rowOf 85 = .ok (.areturn, 1) := dk_176 (dk_at dksX1_rowOf_3 15 rfl rfl)
theorem dX1_rowOf_86 : decode cX1_rowOf 86 = .ok (.iload_n 1, 1) := dk_27 (dk_at dksX1_rowOf_3 16 rfl rfl)
theorem dX1_rowOf_87 : decode cX1_rowOf 87 = .ok (.newarray .int, 2) := dk_188_10 (dk_at dksX1_rowOf_3 17 rfl rfl)
theorem dX1_rowOf_89 : decode cX1_rowOf 89 = .ok (.astore 5, 2) := dk_58 5 (dk_at dksX1_rowOf_3 19 rfl rfl)
theorem dX1_rowOf_91 : decode cX1_rowOf 91 = .ok (.iconst 0, 1) := dk_3 (dk_at dksX1_rowOf_3 21 rfl rfl)
theorem dX1_rowOf_92 : decode cX1_rowOf 92 = .ok (.istore 6, 2) := dk_54 6 (dk_at dksX1_rowOf_3 22 rfl rfl)
theorem dX1_rowOf_94 : decode cX1_rowOf 94 = .ok (.iload 6, 2) := dk_21 6 (dk_at dksX1_rowOf_4 0 rfl rfl)
theorem dX1_rowOf_96 : decode cX1_rowOf 96 = .ok (.iload_n 1, 1) := dk_27 (dk_at dksX1_rowOf_4 2 rfl rfl)
theorem dX1_rowOf_97 : decode cX1_rowOf 97 = .ok (.if_icmp .ge 22, 3) := dk_162 0 22 (dk_at dksX1_rowOf_4 3 rfl rfl)
theorem dX1_rowOf_100 : decode cX1_rowOf 100 = .ok (.aload 5, 2) := dk_25 5 (dk_at dksX1_rowOf_4 6 rfl rfl)
theorem dX1_rowOf_102 : decode cX1_rowOf 102 = .ok (.iload 6, 2) := dk_21 6 (dk_at dksX1_rowOf_4 8 rfl rfl)
theorem dX1_rowOf_104 : decode cX1_rowOf 104 = .ok (.iload 4, 2) := dk_21 4 (dk_at dksX1_rowOf_4 10 rfl rfl)
theorem dX1_rowOf_106 : decode cX1_rowOf 106 = .ok (.iastore, 1) := dk_79 (dk_at dksX1_rowOf_4 12 rfl rfl)
theorem dX1_rowOf_107 : decode cX1_rowOf 107 = .ok (.iinc 6 1, 3) := dk_132 6 1 (dk_at dksX1_rowOf_4 13 rfl rfl)
theorem dX1_rowOf_110 : decode cX1_rowOf 110 = .ok (.iload 4, 2) := dk_21 4 (dk_at dksX1_rowOf_4 16 rfl rfl)
theorem dX1_rowOf_112 : decode cX1_rowOf 112 = .ok (.iload_n 3, 1) := dk_29 (dk_at dksX1_rowOf_4 18 rfl rfl)
theorem dX1_rowOf_113 : decode cX1_rowOf 113 = .ok (.iadd, 1) := dk_96 (dk_at dksX1_rowOf_4 19 rfl rfl)
theorem dX1_rowOf_114 : decode cX1_rowOf 114 = .ok (.istore 4, 2) := dk_54 4 (dk_at dksX1_rowOf_4 20 rfl rfl)
theorem dX1_rowOf_116 : decode cX1_rowOf 116 = .ok (.goto (-22), 3) := dk_167 255 234 (dk_at dksX1_rowOf_5 0 rfl rfl)
theorem dX1_rowOf_119 : decode cX1_rowOf 119 = .ok (.aload 5, 2) := dk_25 5 (dk_at dksX1_rowOf_5 3 rfl rfl)
theorem dX1_rowOf_121 : decode cX1_rowOf 121 = .ok (.areturn, 1) := dk_176 (dk_at dksX1_rowOf_5 5 rfl rfl)
abbrev cX1_entry : ByteArray := prog_1_method_36_code
def yX1_entry : MethodName := ⟨RX1, "entry", "(Ljava/lang/Object;I)I"⟩
def dkwX1_entry_1 : List UInt8 := [192, 1, 17, 27, 53, 167, 0, 9, 42, 192, 1, 19, 27, 46, 172]
abbrev dktX1_entry_1 : List UInt8 := dkwX1_entry_1 ++ []
def dkwX1_entry_0 : List UInt8 := [42, 193, 0, 235, 153, 0, 10, 42, 192, 0, 235, 27, 51, 172, 42, 193, 1, 17, 153, 0, 12, 42]
abbrev dktX1_entry_0 : List UInt8 := dkwX1_entry_0 ++ dktX1_entry_1
theorem dksX1_entry_0 : cX1_entry.data.toList.drop 0 = dktX1_entry_0 := by decide +kernel
theorem dksX1_entry_1 : cX1_entry.data.toList.drop 22 = dktX1_entry_1 := dk_seg dksX1_entry_0 22 rfl rfl
theorem dX1_entry_0 : decode cX1_entry 0 = .ok (.aload_n 0, 1) := dk_42 (dk_at dksX1_entry_0 0 rfl rfl)
theorem dX1_entry_1 : decode cX1_entry 1 = .ok (.instanceof 235, 3) := dk_193 0 235 (dk_at dksX1_entry_0 1 rfl rfl)
theorem dX1_entry_4 : decode cX1_entry 4 = .ok (.ifCond .eq 10, 3) := dk_153 0 10 (dk_at dksX1_entry_0 4 rfl rfl)
theorem dX1_entry_7 : decode cX1_entry 7 = .ok (.aload_n 0, 1) := dk_42 (dk_at dksX1_entry_0 7 rfl rfl)
theorem dX1_entry_8 : decode cX1_entry 8 = .ok (.checkcast 235, 3) := dk_192 0 235 (dk_at dksX1_entry_0 8 rfl rfl)
theorem dX1_entry_11 : decode cX1_entry 11 = .ok (.iload_n 1, 1) := dk_27 (dk_at dksX1_entry_0 11 rfl rfl)
theorem dX1_entry_12 : decode cX1_entry 12 = .ok (.baload, 1) := dk_51 (dk_at dksX1_entry_0 12 rfl rfl)
theorem dX1_entry_13 : decode cX1_entry 13 = .ok (.ireturn, 1) := dk_172 (dk_at dksX1_entry_0 13 rfl rfl)
theorem dX1_entry_14 : decode cX1_entry 14 = .ok (.aload_n 0, 1) := dk_42 (dk_at dksX1_entry_0 14 rfl rfl)
theorem dX1_entry_15 : decode cX1_entry 15 = .ok (.instanceof 273, 3) := dk_193 1 17 (dk_at dksX1_entry_0 15 rfl rfl)
theorem dX1_entry_18 : decode cX1_entry 18 = .ok (.ifCond .eq 12, 3) := dk_153 0 12 (dk_at dksX1_entry_0 18 rfl rfl)
theorem dX1_entry_21 : decode cX1_entry 21 = .ok (.aload_n 0, 1) := dk_42 (dk_at dksX1_entry_0 21 rfl rfl)
theorem dX1_entry_22 : decode cX1_entry 22 = .ok (.checkcast 273, 3) := dk_192 1 17 (dk_at dksX1_entry_1 0 rfl rfl)
theorem dX1_entry_25 : decode cX1_entry 25 = .ok (.iload_n 1, 1) := dk_27 (dk_at dksX1_entry_1 3 rfl rfl)
theorem dX1_entry_26 : decode cX1_entry 26 = .ok (.saload, 1) := dk_53 (dk_at dksX1_entry_1 4 rfl rfl)
theorem dX1_entry_27 : decode cX1_entry 27 = .ok (.goto 9, 3) := dk_167 0 9 (dk_at dksX1_entry_1 5 rfl rfl)
theorem dX1_entry_30 : decode cX1_entry 30 = .ok (.aload_n 0, 1) := dk_42 (dk_at dksX1_entry_1 8 rfl rfl)
theorem dX1_entry_31 : decode cX1_entry 31 = .ok (.checkcast 275, 3) := dk_192 1 19 (dk_at dksX1_entry_1 9 rfl rfl)
theorem dX1_entry_34 : decode cX1_entry 34 = .ok (.iload_n 1, 1) := dk_27 (dk_at dksX1_entry_1 12 rfl rfl)
theorem dX1_entry_35 : decode cX1_entry 35 = .ok (.iaload, 1) := dk_46 (dk_at dksX1_entry_1 13 rfl rfl)
theorem dX1_entry_36 : decode cX1_entry 36 = .ok (.ireturn, 1) := dk_172 (dk_at dksX1_entry_1 14 rfl rfl)
abbrev cX1_brims : ByteArray := prog_1_method_34_code
def yX1_brims : MethodName := ⟨RX1, "brims", "(LBonnetValley$Upland;)I"⟩
def dkwX1_brims_1 : List UInt8 := [167, 255, 236, 28, 172]
abbrev dktX1_brims_1 : List UInt8 := dkwX1_brims_1 ++ []
def dkwX1_brims_0 : List UInt8 := [3, 61, 3, 62, 29, 42, 180, 0, 150, 162, 0, 18, 28, 43, 180, 0, 222, 29, 46, 96, 61, 132, 3, 1]
abbrev dktX1_brims_0 : List UInt8 := dkwX1_brims_0 ++ dktX1_brims_1
theorem dksX1_brims_0 : cX1_brims.data.toList.drop 0 = dktX1_brims_0 := by decide +kernel
theorem dksX1_brims_1 : cX1_brims.data.toList.drop 24 = dktX1_brims_1 := dk_seg dksX1_brims_0 24 rfl rfl
theorem dX1_brims_0 : decode cX1_brims 0 = .ok (.iconst 0, 1) := dk_3 (dk_at dksX1_brims_0 0 rfl rfl)
theorem dX1_brims_1 : decode cX1_brims 1 = .ok (.istore_n 2, 1) := dk_61 (dk_at dksX1_brims_0 1 rfl rfl)
theorem dX1_brims_2 : decode cX1_brims 2 = .ok (.iconst 0, 1) := dk_3 (dk_at dksX1_brims_0 2 rfl rfl)
theorem dX1_brims_3 : decode cX1_brims 3 = .ok (.istore_n 3, 1) := dk_62 (dk_at dksX1_brims_0 3 rfl rfl)
theorem dX1_brims_4 : decode cX1_brims 4 = .ok (.iload_n 3, 1) := dk_29 (dk_at dksX1_brims_0 4 rfl rfl)
theorem dX1_brims_5 : decode cX1_brims 5 = .ok (.aload_n 0, 1) := dk_42 (dk_at dksX1_brims_0 5 rfl rfl)
theorem dX1_brims_6 : decode cX1_brims 6 = .ok (.getfield 150, 3) := dk_180 0 150 (dk_at dksX1_brims_0 6 rfl rfl)
theorem dX1_brims_9 : decode cX1_brims 9 = .ok (.if_icmp .ge 18, 3) := dk_162 0 18 (dk_at dksX1_brims_0 9 rfl rfl)
theorem dX1_brims_12 : decode cX1_brims 12 = .ok (.iload_n 2, 1) := dk_28 (dk_at dksX1_brims_0 12 rfl rfl)
theorem dX1_brims_13 : decode cX1_brims 13 = .ok (.aload_n 1, 1) := dk_43 (dk_at dksX1_brims_0 13 rfl rfl)
theorem dX1_brims_14 : decode cX1_brims 14 = .ok (.getfield 222, 3) := dk_180 0 222 (dk_at dksX1_brims_0 14 rfl rfl)
theorem dX1_brims_17 : decode cX1_brims 17 = .ok (.iload_n 3, 1) := dk_29 (dk_at dksX1_brims_0 17 rfl rfl)
theorem dX1_brims_18 : decode cX1_brims 18 = .ok (.iaload, 1) := dk_46 (dk_at dksX1_brims_0 18 rfl rfl)
theorem dX1_brims_19 : decode cX1_brims 19 = .ok (.iadd, 1) := dk_96 (dk_at dksX1_brims_0 19 rfl rfl)
theorem dX1_brims_20 : decode cX1_brims 20 = .ok (.istore_n 2, 1) := dk_61 (dk_at dksX1_brims_0 20 rfl rfl)
theorem dX1_brims_21 : decode cX1_brims 21 = .ok (.iinc 3 1, 3) := dk_132 3 1 (dk_at dksX1_brims_0 21 rfl rfl)
theorem dX1_brims_24 : decode cX1_brims 24 = .ok (.goto (-20), 3) := dk_167 255 236 (dk_at dksX1_brims_1 0 rfl rfl)
theorem dX1_brims_27 : decode cX1_brims 27 = .ok (.iload_n 2, 1) := dk_28 (dk_at dksX1_brims_1 3 rfl rfl)
theorem dX1_brims_28 : decode cX1_brims 28 = .ok (.ireturn, 1) := dk_172 (dk_at dksX1_brims_1 4 rfl rfl)
abbrev cX1_hours : ByteArray := prog_1_method_45_code
def yX1_hours : MethodName := ⟨RX1, "hours", "(I)I"⟩
def dkwX1_hours_4 : List UInt8 := [29, 133, 182, 1, 74, 42, 42, 180, 0, 84, 182, 1, 67, 172]
abbrev dktX1_hours_4 : List UInt8 := dkwX1_hours_4 ++ []
def dkwX1_hours_3 : List UInt8 := [167, 255, 231, 42, 3, 181, 0, 139, 42, 42, 42, 180, 0, 84, 182, 1, 67, 28, 100, 133, 182, 1, 74, 42]
abbrev dktX1_hours_3 : List UInt8 := dkwX1_hours_3 ++ dktX1_hours_4
def dkwX1_hours_2 : List UInt8 := [180, 0, 150, 162, 0, 22, 29, 42, 180, 0, 84, 180, 0, 225, 21, 4, 46, 128, 62, 132, 4, 1]
abbrev dktX1_hours_2 : List UInt8 := dkwX1_hours_2 ++ dktX1_hours_3
def dkwX1_hours_1 : List UInt8 := [180, 0, 84, 182, 1, 67, 61, 42, 42, 180, 0, 84, 27, 182, 1, 70, 3, 62, 3, 54, 4, 21, 4, 42]
abbrev dktX1_hours_1 : List UInt8 := dkwX1_hours_1 ++ dktX1_hours_2
def dkwX1_hours_0 : List UInt8 := [27, 133, 9, 20, 1, 62, 184, 0, 146, 154, 0, 5, 2, 172, 42, 42, 180, 0, 84, 182, 1, 64, 42, 42]
abbrev dktX1_hours_0 : List UInt8 := dkwX1_hours_0 ++ dktX1_hours_1
theorem dksX1_hours_0 : cX1_hours.data.toList.drop 0 = dktX1_hours_0 := by decide +kernel
theorem dksX1_hours_1 : cX1_hours.data.toList.drop 24 = dktX1_hours_1 := dk_seg dksX1_hours_0 24 rfl rfl
theorem dksX1_hours_2 : cX1_hours.data.toList.drop 48 = dktX1_hours_2 := dk_seg dksX1_hours_1 24 rfl rfl
theorem dksX1_hours_3 : cX1_hours.data.toList.drop 70 = dktX1_hours_3 := dk_seg dksX1_hours_2 22 rfl rfl
theorem dksX1_hours_4 : cX1_hours.data.toList.drop 94 = dktX1_hours_4 := dk_seg dksX1_hours_3 24 rfl rfl
theorem dX1_hours_0 : decode cX1_hours 0 = .ok (.iload_n 1, 1) := dk_27 (dk_at dksX1_hours_0 0 rfl rfl)
theorem dX1_hours_1 : decode cX1_hours 1 = .ok (.i2l, 1) := dk_133 (dk_at dksX1_hours_0 1 rfl rfl)
theorem dX1_hours_2 : decode cX1_hours 2 = .ok (.lconst 0, 1) := dk_9 (dk_at dksX1_hours_0 2 rfl rfl)
theorem dX1_hours_3 : decode cX1_hours 3 = .ok (.ldc2_w 318, 3) := dk_20 1 62 (dk_at dksX1_hours_0 3 rfl rfl)
theorem dX1_hours_6 : decode cX1_hours 6 = .ok (.invokestatic 146, 3) := dk_184 0 146 (dk_at dksX1_hours_0 6 rfl rfl)
theorem dX1_hours_9 : decode cX1_hours 9 = .ok (.ifCond .ne 5, 3) := dk_154 0 5 (dk_at dksX1_hours_0 9 rfl rfl)
theorem dX1_hours_12 : decode cX1_hours 12 = .ok (.iconst (-1), 1) := dk_2 (dk_at dksX1_hours_0 12 rfl rfl)
theorem dX1_hours_13 : decode cX1_hours 13 = .ok (.ireturn, 1) := dk_172 (dk_at dksX1_hours_0 13 rfl rfl)
theorem dX1_hours_14 : decode cX1_hours 14 = .ok (.aload_n 0, 1) := dk_42 (dk_at dksX1_hours_0 14 rfl rfl)
theorem dX1_hours_15 : decode cX1_hours 15 = .ok (.aload_n 0, 1) := dk_42 (dk_at dksX1_hours_0 15 rfl rfl)
theorem dX1_hours_16 : decode cX1_hours 16 = .ok (.getfield 84, 3) := dk_180 0 84 (dk_at dksX1_hours_0 16 rfl rfl)
theorem dX1_hours_19 : decode cX1_hours 19 = .ok (.invokevirtual 320, 3) := dk_182 1 64 (dk_at dksX1_hours_0 19 rfl rfl)
theorem dX1_hours_22 : decode cX1_hours 22 = .ok (.aload_n 0, 1) := dk_42 (dk_at dksX1_hours_0 22 rfl rfl)
theorem dX1_hours_23 : decode cX1_hours 23 = .ok (.aload_n 0, 1) := dk_42 (dk_at dksX1_hours_0 23 rfl rfl)
theorem dX1_hours_24 : decode cX1_hours 24 = .ok (.getfield 84, 3) := dk_180 0 84 (dk_at dksX1_hours_1 0 rfl rfl)
theorem dX1_hours_27 : decode cX1_hours 27 = .ok (.invokevirtual 323, 3) := dk_182 1 67 (dk_at dksX1_hours_1 3 rfl rfl)
theorem dX1_hours_30 : decode cX1_hours 30 = .ok (.istore_n 2, 1) := dk_61 (dk_at dksX1_hours_1 6 rfl rfl)
theorem dX1_hours_31 : decode cX1_hours 31 = .ok (.aload_n 0, 1) := dk_42 (dk_at dksX1_hours_1 7 rfl rfl)
theorem dX1_hours_32 : decode cX1_hours 32 = .ok (.aload_n 0, 1) := dk_42 (dk_at dksX1_hours_1 8 rfl rfl)
theorem dX1_hours_33 : decode cX1_hours 33 = .ok (.getfield 84, 3) := dk_180 0 84 (dk_at dksX1_hours_1 9 rfl rfl)
theorem dX1_hours_36 : decode cX1_hours 36 = .ok (.iload_n 1, 1) := dk_27 (dk_at dksX1_hours_1 12 rfl rfl)
theorem dX1_hours_37 : decode cX1_hours 37 = .ok (.invokevirtual 326, 3) := dk_182 1 70 (dk_at dksX1_hours_1 13 rfl rfl)
theorem dX1_hours_40 : decode cX1_hours 40 = .ok (.iconst 0, 1) := dk_3 (dk_at dksX1_hours_1 16 rfl rfl)
theorem dX1_hours_41 : decode cX1_hours 41 = .ok (.istore_n 3, 1) := dk_62 (dk_at dksX1_hours_1 17 rfl rfl)
theorem dX1_hours_42 : decode cX1_hours 42 = .ok (.iconst 0, 1) := dk_3 (dk_at dksX1_hours_1 18 rfl rfl)
theorem dX1_hours_43 : decode cX1_hours 43 = .ok (.istore 4, 2) := dk_54 4 (dk_at dksX1_hours_1 19 rfl rfl)
theorem dX1_hours_45 : decode cX1_hours 45 = .ok (.iload 4, 2) := dk_21 4 (dk_at dksX1_hours_1 21 rfl rfl)
theorem dX1_hours_47 : decode cX1_hours 47 = .ok (.aload_n 0, 1) := dk_42 (dk_at dksX1_hours_1 23 rfl rfl)
theorem dX1_hours_48 : decode cX1_hours 48 = .ok (.getfield 150, 3) := dk_180 0 150 (dk_at dksX1_hours_2 0 rfl rfl)
theorem dX1_hours_51 : decode cX1_hours 51 = .ok (.if_icmp .ge 22, 3) := dk_162 0 22 (dk_at dksX1_hours_2 3 rfl rfl)
theorem dX1_hours_54 : decode cX1_hours 54 = .ok (.iload_n 3, 1) := dk_29 (dk_at dksX1_hours_2 6 rfl rfl)
theorem dX1_hours_55 : decode cX1_hours 55 = .ok (.aload_n 0, 1) := dk_42 (dk_at dksX1_hours_2 7 rfl rfl)
theorem dX1_hours_56 : decode cX1_hours 56 = .ok (.getfield 84, 3) := dk_180 0 84 (dk_at dksX1_hours_2 8 rfl rfl)
theorem dX1_hours_59 : decode cX1_hours 59 = .ok (.getfield 225, 3) := dk_180 0 225 (dk_at dksX1_hours_2 11 rfl rfl)
theorem dX1_hours_62 : decode cX1_hours 62 = .ok (.iload 4, 2) := dk_21 4 (dk_at dksX1_hours_2 14 rfl rfl)
theorem dX1_hours_64 : decode cX1_hours 64 = .ok (.iaload, 1) := dk_46 (dk_at dksX1_hours_2 16 rfl rfl)
theorem dX1_hours_65 : decode cX1_hours 65 = .ok (.ior, 1) := dk_128 (dk_at dksX1_hours_2 17 rfl rfl)
theorem dX1_hours_66 : decode cX1_hours 66 = .ok (.istore_n 3, 1) := dk_62 (dk_at dksX1_hours_2 18 rfl rfl)
theorem dX1_hours_67 : decode cX1_hours 67 = .ok (.iinc 4 1, 3) := dk_132 4 1 (dk_at dksX1_hours_2 19 rfl rfl)
theorem dX1_hours_70 : decode cX1_hours 70 = .ok (.goto (-25), 3) := dk_167 255 231 (dk_at dksX1_hours_3 0 rfl rfl)
theorem dX1_hours_73 : decode cX1_hours 73 = .ok (.aload_n 0, 1) := dk_42 (dk_at dksX1_hours_3 3 rfl rfl)
theorem dX1_hours_74 : decode cX1_hours 74 = .ok (.iconst 0, 1) := dk_3 (dk_at dksX1_hours_3 4 rfl rfl)
theorem dX1_hours_75 : decode cX1_hours 75 = .ok (.putfield 139, 3) := dk_181 0 139 (dk_at dksX1_hours_3 5 rfl rfl)
theorem dX1_hours_78 : decode cX1_hours 78 = .ok (.aload_n 0, 1) := dk_42 (dk_at dksX1_hours_3 8 rfl rfl)
theorem dX1_hours_79 : decode cX1_hours 79 = .ok (.aload_n 0, 1) := dk_42 (dk_at dksX1_hours_3 9 rfl rfl)
theorem dX1_hours_80 : decode cX1_hours 80 = .ok (.aload_n 0, 1) := dk_42 (dk_at dksX1_hours_3 10 rfl rfl)
theorem dX1_hours_81 : decode cX1_hours 81 = .ok (.getfield 84, 3) := dk_180 0 84 (dk_at dksX1_hours_3 11 rfl rfl)
theorem dX1_hours_84 : decode cX1_hours 84 = .ok (.invokevirtual 323, 3) := dk_182 1 67 (dk_at dksX1_hours_3 14 rfl rfl)
theorem dX1_hours_87 : decode cX1_hours 87 = .ok (.iload_n 2, 1) := dk_28 (dk_at dksX1_hours_3 17 rfl rfl)
theorem dX1_hours_88 : decode cX1_hours 88 = .ok (.isub, 1) := dk_100 (dk_at dksX1_hours_3 18 rfl rfl)
theorem dX1_hours_89 : decode cX1_hours 89 = .ok (.i2l, 1) := dk_133 (dk_at dksX1_hours_3 19 rfl rfl)
theorem dX1_hours_90 : decode cX1_hours 90 = .ok (.invokevirtual 330, 3) := dk_182 1 74 (dk_at dksX1_hours_3 20 rfl rfl)
theorem dX1_hours_93 : decode cX1_hours 93 = .ok (.aload_n 0, 1) := dk_42 (dk_at dksX1_hours_3 23 rfl rfl)
theorem dX1_hours_94 : decode cX1_hours 94 = .ok (.iload_n 3, 1) := dk_29 (dk_at dksX1_hours_4 0 rfl rfl)
theorem dX1_hours_95 : decode cX1_hours 95 = .ok (.i2l, 1) := dk_133 (dk_at dksX1_hours_4 1 rfl rfl)
theorem dX1_hours_96 : decode cX1_hours 96 = .ok (.invokevirtual 330, 3) := dk_182 1 74 (dk_at dksX1_hours_4 2 rfl rfl)
theorem dX1_hours_99 : decode cX1_hours 99 = .ok (.aload_n 0, 1) := dk_42 (dk_at dksX1_hours_4 5 rfl rfl)
theorem dX1_hours_100 : decode cX1_hours 100 = .ok (.aload_n 0, 1) := dk_42 (dk_at dksX1_hours_4 6 rfl rfl)
theorem dX1_hours_101 : decode cX1_hours 101 = .ok (.getfield 84, 3) := dk_180 0 84 (dk_at dksX1_hours_4 7 rfl rfl)
theorem dX1_hours_104 : decode cX1_hours 104 = .ok (.invokevirtual 323, 3) := dk_182 1 67 (dk_at dksX1_hours_4 10 rfl rfl)
theorem dX1_hours_107 : decode cX1_hours 107 = .ok (.ireturn, 1) := dk_172 (dk_at dksX1_hours_4 13 rfl rfl)
abbrev cX1_remember : ByteArray := prog_1_method_38_code
def yX1_remember : MethodName := ⟨RX1, "remember", "(LBonnetValley$Upland;)V"⟩
def dkwX1_remember_3 : List UInt8 := [181, 0, 196, 177]
abbrev dktX1_remember_3 : List UInt8 := dkwX1_remember_3 ++ []
def dkwX1_remember_2 : List UInt8 := [181, 0, 196, 42, 180, 0, 94, 42, 180, 0, 196, 50, 43, 182, 1, 42, 42, 89, 180, 0, 196, 4, 96]
abbrev dktX1_remember_2 : List UInt8 := dkwX1_remember_2 ++ dktX1_remember_3
def dkwX1_remember_1 : List UInt8 := [180, 0, 94, 3, 16, 14, 184, 1, 36, 42, 180, 0, 94, 16, 14, 44, 83, 42, 89, 180, 0, 196, 4, 100]
abbrev dktX1_remember_1 : List UInt8 := dkwX1_remember_1 ++ dktX1_remember_2
def dkwX1_remember_0 : List UInt8 := [42, 180, 0, 196, 16, 15, 160, 0, 43, 42, 180, 0, 94, 3, 50, 77, 42, 180, 0, 94, 4, 42]
abbrev dktX1_remember_0 : List UInt8 := dkwX1_remember_0 ++ dktX1_remember_1
theorem dksX1_remember_0 : cX1_remember.data.toList.drop 0 = dktX1_remember_0 := by decide +kernel
theorem dksX1_remember_1 : cX1_remember.data.toList.drop 22 = dktX1_remember_1 := dk_seg dksX1_remember_0 22 rfl rfl
theorem dksX1_remember_2 : cX1_remember.data.toList.drop 46 = dktX1_remember_2 := dk_seg dksX1_remember_1 24 rfl rfl
theorem dksX1_remember_3 : cX1_remember.data.toList.drop 69 = dktX1_remember_3 := dk_seg dksX1_remember_2 23 rfl rfl
theorem dX1_remember_0 : decode cX1_remember 0 = .ok (.aload_n 0, 1) := dk_42 (dk_at dksX1_remember_0 0 rfl rfl)
theorem dX1_remember_1 : decode cX1_remember 1 = .ok (.getfield 196, 3) := dk_180 0 196 (dk_at dksX1_remember_0 1 rfl rfl)
theorem dX1_remember_4 : decode cX1_remember 4 = .ok (.bipush 15, 2) := dk_16 15 (dk_at dksX1_remember_0 4 rfl rfl)
theorem dX1_remember_6 : decode cX1_remember 6 = .ok (.if_icmp .ne 43, 3) := dk_160 0 43 (dk_at dksX1_remember_0 6 rfl rfl)
theorem dX1_remember_9 : decode cX1_remember 9 = .ok (.aload_n 0, 1) := dk_42 (dk_at dksX1_remember_0 9 rfl rfl)
theorem dX1_remember_10 : decode cX1_remember 10 = .ok (.getfield 94, 3) := dk_180 0 94 (dk_at dksX1_remember_0 10 rfl rfl)
theorem dX1_remember_13 : decode cX1_remember 13 = .ok (.iconst 0, 1) := dk_3 (dk_at dksX1_remember_0 13 rfl rfl)
theorem dX1_remember_14 : decode cX1_remember 14 = .ok (.aaload, 1) := dk_50 (dk_at dksX1_remember_0 14 rfl rfl)
theorem dX1_remember_15 : decode cX1_remember 15 = .ok (.astore_n 2, 1) := dk_77 (dk_at dksX1_remember_0 15 rfl rfl)
theorem dX1_remember_16 : decode cX1_remember 16 = .ok (.aload_n 0, 1) := dk_42 (dk_at dksX1_remember_0 16 rfl rfl)
theorem dX1_remember_17 : decode cX1_remember 17 = .ok (.getfield 94, 3) := dk_180 0 94 (dk_at dksX1_remember_0 17 rfl rfl)
theorem dX1_remember_20 : decode cX1_remember 20 = .ok (.iconst 1, 1) := dk_4 (dk_at dksX1_remember_0 20 rfl rfl)
theorem dX1_remember_21 : decode cX1_remember 21 = .ok (.aload_n 0, 1) := dk_42 (dk_at dksX1_remember_0 21 rfl rfl)
theorem dX1_remember_22 : decode cX1_remember 22 = .ok (.getfield 94, 3) := dk_180 0 94 (dk_at dksX1_remember_1 0 rfl rfl)
theorem dX1_remember_25 : decode cX1_remember 25 = .ok (.iconst 0, 1) := dk_3 (dk_at dksX1_remember_1 3 rfl rfl)
theorem dX1_remember_26 : decode cX1_remember 26 = .ok (.bipush 14, 2) := dk_16 14 (dk_at dksX1_remember_1 4 rfl rfl)
theorem dX1_remember_28 : decode cX1_remember 28 = .ok (.invokestatic 292, 3) := dk_184 1 36 (dk_at dksX1_remember_1 6 rfl rfl)
theorem dX1_remember_31 : decode cX1_remember 31 = .ok (.aload_n 0, 1) := dk_42 (dk_at dksX1_remember_1 9 rfl rfl)
theorem dX1_remember_32 : decode cX1_remember 32 = .ok (.getfield 94, 3) := dk_180 0 94 (dk_at dksX1_remember_1 10 rfl rfl)
theorem dX1_remember_35 : decode cX1_remember 35 = .ok (.bipush 14, 2) := dk_16 14 (dk_at dksX1_remember_1 13 rfl rfl)
theorem dX1_remember_37 : decode cX1_remember 37 = .ok (.aload_n 2, 1) := dk_44 (dk_at dksX1_remember_1 15 rfl rfl)
theorem dX1_remember_38 : decode cX1_remember 38 = .ok (.aastore, 1) := dk_83 (dk_at dksX1_remember_1 16 rfl rfl)
theorem dX1_remember_39 : decode cX1_remember 39 = .ok (.aload_n 0, 1) := dk_42 (dk_at dksX1_remember_1 17 rfl rfl)
theorem dX1_remember_40 : decode cX1_remember 40 = .ok (.dup, 1) := dk_89 (dk_at dksX1_remember_1 18 rfl rfl)
theorem dX1_remember_41 : decode cX1_remember 41 = .ok (.getfield 196, 3) := dk_180 0 196 (dk_at dksX1_remember_1 19 rfl rfl)
theorem dX1_remember_44 : decode cX1_remember 44 = .ok (.iconst 1, 1) := dk_4 (dk_at dksX1_remember_1 22 rfl rfl)
theorem dX1_remember_45 : decode cX1_remember 45 = .ok (.isub, 1) := dk_100 (dk_at dksX1_remember_1 23 rfl rfl)
theorem dX1_remember_46 : decode cX1_remember 46 = .ok (.putfield 196, 3) := dk_181 0 196 (dk_at dksX1_remember_2 0 rfl rfl)
theorem dX1_remember_49 : decode cX1_remember 49 = .ok (.aload_n 0, 1) := dk_42 (dk_at dksX1_remember_2 3 rfl rfl)
theorem dX1_remember_50 : decode cX1_remember 50 = .ok (.getfield 94, 3) := dk_180 0 94 (dk_at dksX1_remember_2 4 rfl rfl)
theorem dX1_remember_53 : decode cX1_remember 53 = .ok (.aload_n 0, 1) := dk_42 (dk_at dksX1_remember_2 7 rfl rfl)
theorem dX1_remember_54 : decode cX1_remember 54 = .ok (.getfield 196, 3) := dk_180 0 196 (dk_at dksX1_remember_2 8 rfl rfl)
theorem dX1_remember_57 : decode cX1_remember 57 = .ok (.aaload, 1) := dk_50 (dk_at dksX1_remember_2 11 rfl rfl)
theorem dX1_remember_58 : decode cX1_remember 58 = .ok (.aload_n 1, 1) := dk_43 (dk_at dksX1_remember_2 12 rfl rfl)
theorem dX1_remember_59 : decode cX1_remember 59 = .ok (.invokevirtual 298, 3) := dk_182 1 42 (dk_at dksX1_remember_2 13 rfl rfl)
theorem dX1_remember_62 : decode cX1_remember 62 = .ok (.aload_n 0, 1) := dk_42 (dk_at dksX1_remember_2 16 rfl rfl)
theorem dX1_remember_63 : decode cX1_remember 63 = .ok (.dup, 1) := dk_89 (dk_at dksX1_remember_2 17 rfl rfl)
theorem dX1_remember_64 : decode cX1_remember 64 = .ok (.getfield 196, 3) := dk_180 0 196 (dk_at dksX1_remember_2 18 rfl rfl)
theorem dX1_remember_67 : decode cX1_remember 67 = .ok (.iconst 1, 1) := dk_4 (dk_at dksX1_remember_2 21 rfl rfl)
theorem dX1_remember_68 : decode cX1_remember 68 = .ok (.iadd, 1) := dk_96 (dk_at dksX1_remember_2 22 rfl rfl)
theorem dX1_remember_69 : decode cX1_remember 69 = .ok (.putfield 196, 3) := dk_181 0 196 (dk_at dksX1_remember_3 0 rfl rfl)
theorem dX1_remember_72 : decode cX1_remember 72 = .ok (.return_, 1) := dk_177 (dk_at dksX1_remember_3 3 rfl rfl)
abbrev cX1_known : ByteArray := prog_1_method_44_code
def yX1_known : MethodName := ⟨RX1, "known", "(LBonnetValley$Upland;)I"⟩
def dkwX1_known_1 : List UInt8 := [132, 3, 1, 167, 255, 233, 28, 172]
abbrev dktX1_known_1 : List UInt8 := dkwX1_known_1 ++ []
def dkwX1_known_0 : List UInt8 := [3, 61, 3, 62, 29, 42, 180, 0, 150, 162, 0, 21, 28, 43, 180, 0, 225, 29, 46, 184, 1, 59, 96, 61]
abbrev dktX1_known_0 : List UInt8 := dkwX1_known_0 ++ dktX1_known_1
theorem dksX1_known_0 : cX1_known.data.toList.drop 0 = dktX1_known_0 := by decide +kernel
theorem dksX1_known_1 : cX1_known.data.toList.drop 24 = dktX1_known_1 := dk_seg dksX1_known_0 24 rfl rfl
theorem dX1_known_0 : decode cX1_known 0 = .ok (.iconst 0, 1) := dk_3 (dk_at dksX1_known_0 0 rfl rfl)
theorem dX1_known_1 : decode cX1_known 1 = .ok (.istore_n 2, 1) := dk_61 (dk_at dksX1_known_0 1 rfl rfl)
theorem dX1_known_2 : decode cX1_known 2 = .ok (.iconst 0, 1) := dk_3 (dk_at dksX1_known_0 2 rfl rfl)
theorem dX1_known_3 : decode cX1_known 3 = .ok (.istore_n 3, 1) := dk_62 (dk_at dksX1_known_0 3 rfl rfl)
theorem dX1_known_4 : decode cX1_known 4 = .ok (.iload_n 3, 1) := dk_29 (dk_at dksX1_known_0 4 rfl rfl)
theorem dX1_known_5 : decode cX1_known 5 = .ok (.aload_n 0, 1) := dk_42 (dk_at dksX1_known_0 5 rfl rfl)
theorem dX1_known_6 : decode cX1_known 6 = .ok (.getfield 150, 3) := dk_180 0 150 (dk_at dksX1_known_0 6 rfl rfl)
theorem dX1_known_9 : decode cX1_known 9 = .ok (.if_icmp .ge 21, 3) := dk_162 0 21 (dk_at dksX1_known_0 9 rfl rfl)
theorem dX1_known_12 : decode cX1_known 12 = .ok (.iload_n 2, 1) := dk_28 (dk_at dksX1_known_0 12 rfl rfl)
theorem dX1_known_13 : decode cX1_known 13 = .ok (.aload_n 1, 1) := dk_43 (dk_at dksX1_known_0 13 rfl rfl)
theorem dX1_known_14 : decode cX1_known 14 = .ok (.getfield 225, 3) := dk_180 0 225 (dk_at dksX1_known_0 14 rfl rfl)
theorem dX1_known_17 : decode cX1_known 17 = .ok (.iload_n 3, 1) := dk_29 (dk_at dksX1_known_0 17 rfl rfl)
theorem dX1_known_18 : decode cX1_known 18 = .ok (.iaload, 1) := dk_46 (dk_at dksX1_known_0 18 rfl rfl)
theorem dX1_known_19 : decode cX1_known 19 = .ok (.invokestatic 315, 3) := dk_184 1 59 (dk_at dksX1_known_0 19 rfl rfl)
theorem dX1_known_22 : decode cX1_known 22 = .ok (.iadd, 1) := dk_96 (dk_at dksX1_known_0 22 rfl rfl)
theorem dX1_known_23 : decode cX1_known 23 = .ok (.istore_n 2, 1) := dk_61 (dk_at dksX1_known_0 23 rfl rfl)
theorem dX1_known_24 : decode cX1_known 24 = .ok (.iinc 3 1, 3) := dk_132 3 1 (dk_at dksX1_known_1 0 rfl rfl)
theorem dX1_known_27 : decode cX1_known 27 = .ok (.goto (-23), 3) := dk_167 255 233 (dk_at dksX1_known_1 3 rfl rfl)
theorem dX1_known_30 : decode cX1_known 30 = .ok (.iload_n 2, 1) := dk_28 (dk_at dksX1_known_1 6 rfl rfl)
theorem dX1_known_31 : decode cX1_known 31 = .ok (.ireturn, 1) := dk_172 (dk_at dksX1_known_1 7 rfl rfl)
abbrev cX1_goHours : ByteArray := prog_1_method_43_code
def yX1_goHours : MethodName := ⟨RX1, "goHours", "(LBonnetValley$Upland;I)V"⟩
def dkwX1_goHours_0 : List UInt8 := [3, 62, 29, 28, 162, 0, 14, 42, 43, 182, 1, 56, 132, 3, 1, 167, 255, 243, 177]
abbrev dktX1_goHours_0 : List UInt8 := dkwX1_goHours_0 ++ []
theorem dksX1_goHours_0 : cX1_goHours.data.toList.drop 0 = dktX1_goHours_0 := by decide +kernel
theorem dX1_goHours_0 : decode cX1_goHours 0 = .ok (.iconst 0, 1) := dk_3 (dk_at dksX1_goHours_0 0 rfl rfl)
theorem dX1_goHours_1 : decode cX1_goHours 1 = .ok (.istore_n 3, 1) := dk_62 (dk_at dksX1_goHours_0 1 rfl rfl)
theorem dX1_goHours_2 : decode cX1_goHours 2 = .ok (.iload_n 3, 1) := dk_29 (dk_at dksX1_goHours_0 2 rfl rfl)
theorem dX1_goHours_3 : decode cX1_goHours 3 = .ok (.iload_n 2, 1) := dk_28 (dk_at dksX1_goHours_0 3 rfl rfl)
theorem dX1_goHours_4 : decode cX1_goHours 4 = .ok (.if_icmp .ge 14, 3) := dk_162 0 14 (dk_at dksX1_goHours_0 4 rfl rfl)
theorem dX1_goHours_7 : decode cX1_goHours 7 = .ok (.aload_n 0, 1) := dk_42 (dk_at dksX1_goHours_0 7 rfl rfl)
theorem dX1_goHours_8 : decode cX1_goHours 8 = .ok (.aload_n 1, 1) := dk_43 (dk_at dksX1_goHours_0 8 rfl rfl)
theorem dX1_goHours_9 : decode cX1_goHours 9 = .ok (.invokevirtual 312, 3) := dk_182 1 56 (dk_at dksX1_goHours_0 9 rfl rfl)
theorem dX1_goHours_12 : decode cX1_goHours 12 = .ok (.iinc 3 1, 3) := dk_132 3 1 (dk_at dksX1_goHours_0 12 rfl rfl)
theorem dX1_goHours_15 : decode cX1_goHours 15 = .ok (.goto (-13), 3) := dk_167 255 243 (dk_at dksX1_goHours_0 15 rfl rfl)
theorem dX1_goHours_18 : decode cX1_goHours 18 = .ok (.return_, 1) := dk_177 (dk_at dksX1_goHours_0 18 rfl rfl)
abbrev cX1_goHour : ByteArray := prog_1_method_42_code
def yX1_goHour : MethodName := ⟨RX1, "goHour", "(LBonnetValley$Upland;)V"⟩
def dkwX1_goHour_4 : List UInt8 := [184, 1, 36, 43, 89, 180, 0, 34, 4, 96, 181, 0, 34, 177]
abbrev dktX1_goHour_4 : List UInt8 := dkwX1_goHour_4 ++ []
def dkwX1_goHour_3 : List UInt8 := [167, 255, 220, 132, 2, 1, 167, 255, 182, 42, 180, 0, 109, 3, 43, 180, 0, 225, 3, 42, 180, 0, 150]
abbrev dktX1_goHour_3 : List UInt8 := dkwX1_goHour_3 ++ dktX1_goHour_4
def dkwX1_goHour_2 : List UInt8 := [182, 1, 53, 153, 0, 18, 42, 180, 0, 109, 28, 92, 46, 43, 180, 0, 225, 29, 46, 128, 79, 132, 3, 1]
abbrev dktX1_goHour_2 : List UInt8 := dkwX1_goHour_2 ++ dktX1_goHour_3
def dkwX1_goHour_1 : List UInt8 := [180, 0, 62, 43, 28, 182, 1, 4, 128, 79, 3, 62, 29, 42, 180, 0, 150, 162, 0, 34, 42, 43, 28, 29]
abbrev dktX1_goHour_1 : List UInt8 := dkwX1_goHour_1 ++ dktX1_goHour_2
def dkwX1_goHour_0 : List UInt8 := [3, 61, 28, 42, 180, 0, 150, 162, 0, 72, 42, 180, 0, 109, 28, 43, 180, 0, 225, 28, 46, 42]
abbrev dktX1_goHour_0 : List UInt8 := dkwX1_goHour_0 ++ dktX1_goHour_1
theorem dksX1_goHour_0 : cX1_goHour.data.toList.drop 0 = dktX1_goHour_0 := by decide +kernel
theorem dksX1_goHour_1 : cX1_goHour.data.toList.drop 22 = dktX1_goHour_1 := dk_seg dksX1_goHour_0 22 rfl rfl
theorem dksX1_goHour_2 : cX1_goHour.data.toList.drop 46 = dktX1_goHour_2 := dk_seg dksX1_goHour_1 24 rfl rfl
theorem dksX1_goHour_3 : cX1_goHour.data.toList.drop 70 = dktX1_goHour_3 := dk_seg dksX1_goHour_2 24 rfl rfl
theorem dksX1_goHour_4 : cX1_goHour.data.toList.drop 93 = dktX1_goHour_4 := dk_seg dksX1_goHour_3 23 rfl rfl
theorem dX1_goHour_0 : decode cX1_goHour 0 = .ok (.iconst 0, 1) := dk_3 (dk_at dksX1_goHour_0 0 rfl rfl)
theorem dX1_goHour_1 : decode cX1_goHour 1 = .ok (.istore_n 2, 1) := dk_61 (dk_at dksX1_goHour_0 1 rfl rfl)
theorem dX1_goHour_2 : decode cX1_goHour 2 = .ok (.iload_n 2, 1) := dk_28 (dk_at dksX1_goHour_0 2 rfl rfl)
theorem dX1_goHour_3 : decode cX1_goHour 3 = .ok (.aload_n 0, 1) := dk_42 (dk_at dksX1_goHour_0 3 rfl rfl)
theorem dX1_goHour_4 : decode cX1_goHour 4 = .ok (.getfield 150, 3) := dk_180 0 150 (dk_at dksX1_goHour_0 4 rfl rfl)
theorem dX1_goHour_7 : decode cX1_goHour 7 = .ok (.if_icmp .ge 72, 3) := dk_162 0 72 (dk_at dksX1_goHour_0 7 rfl rfl)
theorem dX1_goHour_10 : decode cX1_goHour 10 = .ok (.aload_n 0, 1) := dk_42 (dk_at dksX1_goHour_0 10 rfl rfl)
theorem dX1_goHour_11 : decode cX1_goHour 11 = .ok (.getfield 109, 3) := dk_180 0 109 (dk_at dksX1_goHour_0 11 rfl rfl)
theorem dX1_goHour_14 : decode cX1_goHour 14 = .ok (.iload_n 2, 1) := dk_28 (dk_at dksX1_goHour_0 14 rfl rfl)
theorem dX1_goHour_15 : decode cX1_goHour 15 = .ok (.aload_n 1, 1) := dk_43 (dk_at dksX1_goHour_0 15 rfl rfl)
theorem dX1_goHour_16 : decode cX1_goHour 16 = .ok (.getfield 225, 3) := dk_180 0 225 (dk_at dksX1_goHour_0 16 rfl rfl)
theorem dX1_goHour_19 : decode cX1_goHour 19 = .ok (.iload_n 2, 1) := dk_28 (dk_at dksX1_goHour_0 19 rfl rfl)
theorem dX1_goHour_20 : decode cX1_goHour 20 = .ok (.iaload, 1) := dk_46 (dk_at dksX1_goHour_0 20 rfl rfl)
theorem dX1_goHour_21 : decode cX1_goHour 21 = .ok (.aload_n 0, 1) := dk_42 (dk_at dksX1_goHour_0 21 rfl rfl)
theorem dX1_goHour_22 : decode cX1_goHour 22 = .ok (.getfield 62, 3) := dk_180 0 62 (dk_at dksX1_goHour_1 0 rfl rfl)
theorem dX1_goHour_25 : decode cX1_goHour 25 = .ok (.aload_n 1, 1) := dk_43 (dk_at dksX1_goHour_1 3 rfl rfl)
theorem dX1_goHour_26 : decode cX1_goHour 26 = .ok (.iload_n 2, 1) := dk_28 (dk_at dksX1_goHour_1 4 rfl rfl)
theorem dX1_goHour_27 : decode cX1_goHour 27 = .ok (.invokevirtual 260, 3) := dk_182 1 4 (dk_at dksX1_goHour_1 5 rfl rfl)
theorem dX1_goHour_30 : decode cX1_goHour 30 = .ok (.ior, 1) := dk_128 (dk_at dksX1_goHour_1 8 rfl rfl)
theorem dX1_goHour_31 : decode cX1_goHour 31 = .ok (.iastore, 1) := dk_79 (dk_at dksX1_goHour_1 9 rfl rfl)
theorem dX1_goHour_32 : decode cX1_goHour 32 = .ok (.iconst 0, 1) := dk_3 (dk_at dksX1_goHour_1 10 rfl rfl)
theorem dX1_goHour_33 : decode cX1_goHour 33 = .ok (.istore_n 3, 1) := dk_62 (dk_at dksX1_goHour_1 11 rfl rfl)
theorem dX1_goHour_34 : decode cX1_goHour 34 = .ok (.iload_n 3, 1) := dk_29 (dk_at dksX1_goHour_1 12 rfl rfl)
theorem dX1_goHour_35 : decode cX1_goHour 35 = .ok (.aload_n 0, 1) := dk_42 (dk_at dksX1_goHour_1 13 rfl rfl)
theorem dX1_goHour_36 : decode cX1_goHour 36 = .ok (.getfield 150, 3) := dk_180 0 150 (dk_at dksX1_goHour_1 14 rfl rfl)
theorem dX1_goHour_39 : decode cX1_goHour 39 = .ok (.if_icmp .ge 34, 3) := dk_162 0 34 (dk_at dksX1_goHour_1 17 rfl rfl)
theorem dX1_goHour_42 : decode cX1_goHour 42 = .ok (.aload_n 0, 1) := dk_42 (dk_at dksX1_goHour_1 20 rfl rfl)
theorem dX1_goHour_43 : decode cX1_goHour 43 = .ok (.aload_n 1, 1) := dk_43 (dk_at dksX1_goHour_1 21 rfl rfl)
theorem dX1_goHour_44 : decode cX1_goHour 44 = .ok (.iload_n 2, 1) := dk_28 (dk_at dksX1_goHour_1 22 rfl rfl)
theorem dX1_goHour_45 : decode cX1_goHour 45 = .ok (.iload_n 3, 1) := dk_29 (dk_at dksX1_goHour_1 23 rfl rfl)
theorem dX1_goHour_46 : decode cX1_goHour 46 = .ok (.invokevirtual 309, 3) := dk_182 1 53 (dk_at dksX1_goHour_2 0 rfl rfl)
theorem dX1_goHour_49 : decode cX1_goHour 49 = .ok (.ifCond .eq 18, 3) := dk_153 0 18 (dk_at dksX1_goHour_2 3 rfl rfl)
theorem dX1_goHour_52 : decode cX1_goHour 52 = .ok (.aload_n 0, 1) := dk_42 (dk_at dksX1_goHour_2 6 rfl rfl)
theorem dX1_goHour_53 : decode cX1_goHour 53 = .ok (.getfield 109, 3) := dk_180 0 109 (dk_at dksX1_goHour_2 7 rfl rfl)
theorem dX1_goHour_56 : decode cX1_goHour 56 = .ok (.iload_n 2, 1) := dk_28 (dk_at dksX1_goHour_2 10 rfl rfl)
theorem dX1_goHour_57 : decode cX1_goHour 57 = .ok (.dup2, 1) := dk_92 (dk_at dksX1_goHour_2 11 rfl rfl)
theorem dX1_goHour_58 : decode cX1_goHour 58 = .ok (.iaload, 1) := dk_46 (dk_at dksX1_goHour_2 12 rfl rfl)
theorem dX1_goHour_59 : decode cX1_goHour 59 = .ok (.aload_n 1, 1) := dk_43 (dk_at dksX1_goHour_2 13 rfl rfl)
theorem dX1_goHour_60 : decode cX1_goHour 60 = .ok (.getfield 225, 3) := dk_180 0 225 (dk_at dksX1_goHour_2 14 rfl rfl)
theorem dX1_goHour_63 : decode cX1_goHour 63 = .ok (.iload_n 3, 1) := dk_29 (dk_at dksX1_goHour_2 17 rfl rfl)
theorem dX1_goHour_64 : decode cX1_goHour 64 = .ok (.iaload, 1) := dk_46 (dk_at dksX1_goHour_2 18 rfl rfl)
theorem dX1_goHour_65 : decode cX1_goHour 65 = .ok (.ior, 1) := dk_128 (dk_at dksX1_goHour_2 19 rfl rfl)
theorem dX1_goHour_66 : decode cX1_goHour 66 = .ok (.iastore, 1) := dk_79 (dk_at dksX1_goHour_2 20 rfl rfl)
theorem dX1_goHour_67 : decode cX1_goHour 67 = .ok (.iinc 3 1, 3) := dk_132 3 1 (dk_at dksX1_goHour_2 21 rfl rfl)
theorem dX1_goHour_70 : decode cX1_goHour 70 = .ok (.goto (-36), 3) := dk_167 255 220 (dk_at dksX1_goHour_3 0 rfl rfl)
theorem dX1_goHour_73 : decode cX1_goHour 73 = .ok (.iinc 2 1, 3) := dk_132 2 1 (dk_at dksX1_goHour_3 3 rfl rfl)
theorem dX1_goHour_76 : decode cX1_goHour 76 = .ok (.goto (-74), 3) := dk_167 255 182 (dk_at dksX1_goHour_3 6 rfl rfl)
theorem dX1_goHour_79 : decode cX1_goHour 79 = .ok (.aload_n 0, 1) := dk_42 (dk_at dksX1_goHour_3 9 rfl rfl)
theorem dX1_goHour_80 : decode cX1_goHour 80 = .ok (.getfield 109, 3) := dk_180 0 109 (dk_at dksX1_goHour_3 10 rfl rfl)
theorem dX1_goHour_83 : decode cX1_goHour 83 = .ok (.iconst 0, 1) := dk_3 (dk_at dksX1_goHour_3 13 rfl rfl)
theorem dX1_goHour_84 : decode cX1_goHour 84 = .ok (.aload_n 1, 1) := dk_43 (dk_at dksX1_goHour_3 14 rfl rfl)
theorem dX1_goHour_85 : decode cX1_goHour 85 = .ok (.getfield 225, 3) := dk_180 0 225 (dk_at dksX1_goHour_3 15 rfl rfl)
theorem dX1_goHour_88 : decode cX1_goHour 88 = .ok (.iconst 0, 1) := dk_3 (dk_at dksX1_goHour_3 18 rfl rfl)
theorem dX1_goHour_89 : decode cX1_goHour 89 = .ok (.aload_n 0, 1) := dk_42 (dk_at dksX1_goHour_3 19 rfl rfl)
theorem dX1_goHour_90 : decode cX1_goHour 90 = .ok (.getfield 150, 3) := dk_180 0 150 (dk_at dksX1_goHour_3 20 rfl rfl)
theorem dX1_goHour_93 : decode cX1_goHour 93 = .ok (.invokestatic 292, 3) := dk_184 1 36 (dk_at dksX1_goHour_4 0 rfl rfl)
theorem dX1_goHour_96 : decode cX1_goHour 96 = .ok (.aload_n 1, 1) := dk_43 (dk_at dksX1_goHour_4 3 rfl rfl)
theorem dX1_goHour_97 : decode cX1_goHour 97 = .ok (.dup, 1) := dk_89 (dk_at dksX1_goHour_4 4 rfl rfl)
theorem dX1_goHour_98 : decode cX1_goHour 98 = .ok (.getfield 34, 3) := dk_180 0 34 (dk_at dksX1_goHour_4 5 rfl rfl)
theorem dX1_goHour_101 : decode cX1_goHour 101 = .ok (.iconst 1, 1) := dk_4 (dk_at dksX1_goHour_4 8 rfl rfl)
theorem dX1_goHour_102 : decode cX1_goHour 102 = .ok (.iadd, 1) := dk_96 (dk_at dksX1_goHour_4 9 rfl rfl)
theorem dX1_goHour_103 : decode cX1_goHour 103 = .ok (.putfield 34, 3) := dk_181 0 34 (dk_at dksX1_goHour_4 10 rfl rfl)
theorem dX1_goHour_106 : decode cX1_goHour 106 = .ok (.return_, 1) := dk_177 (dk_at dksX1_goHour_4 13 rfl rfl)
abbrev cX1_reachBy : ByteArray := prog_1_method_6_code
def yX1_reachBy : MethodName := ⟨RX1, "reachBy", "(LBonnetValley$Upland;II)I"⟩
def dkwX1_reachBy_1 : List UInt8 := [43, 28, 29, 182, 0, 42, 54, 4, 3, 16, 9, 21, 4, 184, 0, 9, 184, 0, 48, 172]
abbrev dktX1_reachBy_1 : List UInt8 := dkwX1_reachBy_1 ++ []
def dkwX1_reachBy_0 : List UInt8 := [42, 180, 0, 30, 199, 0, 16, 42, 43, 180, 0, 34, 182, 0, 39, 29, 100, 167, 0, 13, 42, 180, 0, 30]
abbrev dktX1_reachBy_0 : List UInt8 := dkwX1_reachBy_0 ++ dktX1_reachBy_1
theorem dksX1_reachBy_0 : cX1_reachBy.data.toList.drop 0 = dktX1_reachBy_0 := by decide +kernel
theorem dksX1_reachBy_1 : cX1_reachBy.data.toList.drop 24 = dktX1_reachBy_1 := dk_seg dksX1_reachBy_0 24 rfl rfl
theorem dX1_reachBy_0 : decode cX1_reachBy 0 = .ok (.aload_n 0, 1) := dk_42 (dk_at dksX1_reachBy_0 0 rfl rfl)
theorem dX1_reachBy_1 : decode cX1_reachBy 1 = .ok (.getfield 30, 3) := dk_180 0 30 (dk_at dksX1_reachBy_0 1 rfl rfl)
theorem dX1_reachBy_4 : decode cX1_reachBy 4 = .ok (.ifnonnull 16, 3) := dk_199 0 16 (dk_at dksX1_reachBy_0 4 rfl rfl)
theorem dX1_reachBy_7 : decode cX1_reachBy 7 = .ok (.aload_n 0, 1) := dk_42 (dk_at dksX1_reachBy_0 7 rfl rfl)
theorem dX1_reachBy_8 : decode cX1_reachBy 8 = .ok (.aload_n 1, 1) := dk_43 (dk_at dksX1_reachBy_0 8 rfl rfl)
theorem dX1_reachBy_9 : decode cX1_reachBy 9 = .ok (.getfield 34, 3) := dk_180 0 34 (dk_at dksX1_reachBy_0 9 rfl rfl)
theorem dX1_reachBy_12 : decode cX1_reachBy 12 = .ok (.invokevirtual 39, 3) := dk_182 0 39 (dk_at dksX1_reachBy_0 12 rfl rfl)
theorem dX1_reachBy_15 : decode cX1_reachBy 15 = .ok (.iload_n 3, 1) := dk_29 (dk_at dksX1_reachBy_0 15 rfl rfl)
theorem dX1_reachBy_16 : decode cX1_reachBy 16 = .ok (.isub, 1) := dk_100 (dk_at dksX1_reachBy_0 16 rfl rfl)
theorem dX1_reachBy_17 : decode cX1_reachBy 17 = .ok (.goto 13, 3) := dk_167 0 13 (dk_at dksX1_reachBy_0 17 rfl rfl)
theorem dX1_reachBy_20 : decode cX1_reachBy 20 = .ok (.aload_n 0, 1) := dk_42 (dk_at dksX1_reachBy_0 20 rfl rfl)
theorem dX1_reachBy_21 : decode cX1_reachBy 21 = .ok (.getfield 30, 3) := dk_180 0 30 (dk_at dksX1_reachBy_0 21 rfl rfl)
theorem dX1_reachBy_24 : decode cX1_reachBy 24 = .ok (.aload_n 1, 1) := dk_43 (dk_at dksX1_reachBy_1 0 rfl rfl)
theorem dX1_reachBy_25 : decode cX1_reachBy 25 = .ok (.iload_n 2, 1) := dk_28 (dk_at dksX1_reachBy_1 1 rfl rfl)
theorem dX1_reachBy_26 : decode cX1_reachBy 26 = .ok (.iload_n 3, 1) := dk_29 (dk_at dksX1_reachBy_1 2 rfl rfl)
theorem dX1_reachBy_27 : decode cX1_reachBy 27 = .ok (.invokevirtual 42, 3) := dk_182 0 42 (dk_at dksX1_reachBy_1 3 rfl rfl)
theorem dX1_reachBy_30 : decode cX1_reachBy 30 = .ok (.istore 4, 2) := dk_54 4 (dk_at dksX1_reachBy_1 6 rfl rfl)
theorem dX1_reachBy_32 : decode cX1_reachBy 32 = .ok (.iconst 0, 1) := dk_3 (dk_at dksX1_reachBy_1 8 rfl rfl)
theorem dX1_reachBy_33 : decode cX1_reachBy 33 = .ok (.bipush 9, 2) := dk_16 9 (dk_at dksX1_reachBy_1 9 rfl rfl)
theorem dX1_reachBy_35 : decode cX1_reachBy 35 = .ok (.iload 4, 2) := dk_21 4 (dk_at dksX1_reachBy_1 11 rfl rfl)
theorem dX1_reachBy_37 : decode cX1_reachBy 37 = .ok (.invokestatic 9, 3) := dk_184 0 9 (dk_at dksX1_reachBy_1 13 rfl rfl)
theorem dX1_reachBy_40 : decode cX1_reachBy 40 = .ok (.invokestatic 48, 3) := dk_184 0 48 (dk_at dksX1_reachBy_1 16 rfl rfl)
theorem dX1_reachBy_43 : decode cX1_reachBy 43 = .ok (.ireturn, 1) := dk_172 (dk_at dksX1_reachBy_1 19 rfl rfl)
abbrev cX1_wayOf : ByteArray := prog_1_method_4_code
def yX1_wayOf : MethodName := ⟨RX1, "wayOf", "(II)I"⟩
def dkwX1_wayOf_2 : List UInt8 := [156, 0, 14, 27, 158, 0, 7, 4, 167, 0, 5, 16, 7, 172, 27, 158, 0, 7, 6, 167, 0, 4, 8, 172]
abbrev dktX1_wayOf_2 : List UInt8 := dkwX1_wayOf_2 ++ []
def dkwX1_wayOf_1 : List UInt8 := [167, 0, 4, 7, 172, 29, 5, 28, 104, 164, 0, 14, 27, 158, 0, 7, 5, 167, 0, 5, 16, 6, 172, 26]
abbrev dktX1_wayOf_1 : List UInt8 := dkwX1_wayOf_1 ++ dktX1_wayOf_2
def dkwX1_wayOf_0 : List UInt8 := [26, 184, 0, 3, 61, 27, 184, 0, 3, 62, 28, 5, 29, 104, 164, 0, 13, 26, 156, 0, 7, 3]
abbrev dktX1_wayOf_0 : List UInt8 := dkwX1_wayOf_0 ++ dktX1_wayOf_1
theorem dksX1_wayOf_0 : cX1_wayOf.data.toList.drop 0 = dktX1_wayOf_0 := by decide +kernel
theorem dksX1_wayOf_1 : cX1_wayOf.data.toList.drop 22 = dktX1_wayOf_1 := dk_seg dksX1_wayOf_0 22 rfl rfl
theorem dksX1_wayOf_2 : cX1_wayOf.data.toList.drop 46 = dktX1_wayOf_2 := dk_seg dksX1_wayOf_1 24 rfl rfl
theorem dX1_wayOf_0 : decode cX1_wayOf 0 = .ok (.iload_n 0, 1) := dk_26 (dk_at dksX1_wayOf_0 0 rfl rfl)
theorem dX1_wayOf_1 : decode cX1_wayOf 1 = .ok (.invokestatic 3, 3) := dk_184 0 3 (dk_at dksX1_wayOf_0 1 rfl rfl)
theorem dX1_wayOf_4 : decode cX1_wayOf 4 = .ok (.istore_n 2, 1) := dk_61 (dk_at dksX1_wayOf_0 4 rfl rfl)
theorem dX1_wayOf_5 : decode cX1_wayOf 5 = .ok (.iload_n 1, 1) := dk_27 (dk_at dksX1_wayOf_0 5 rfl rfl)
theorem dX1_wayOf_6 : decode cX1_wayOf 6 = .ok (.invokestatic 3, 3) := dk_184 0 3 (dk_at dksX1_wayOf_0 6 rfl rfl)
theorem dX1_wayOf_9 : decode cX1_wayOf 9 = .ok (.istore_n 3, 1) := dk_62 (dk_at dksX1_wayOf_0 9 rfl rfl)
theorem dX1_wayOf_10 : decode cX1_wayOf 10 = .ok (.iload_n 2, 1) := dk_28 (dk_at dksX1_wayOf_0 10 rfl rfl)
theorem dX1_wayOf_11 : decode cX1_wayOf 11 = .ok (.iconst 2, 1) := dk_5 (dk_at dksX1_wayOf_0 11 rfl rfl)
theorem dX1_wayOf_12 : decode cX1_wayOf 12 = .ok (.iload_n 3, 1) := dk_29 (dk_at dksX1_wayOf_0 12 rfl rfl)
theorem dX1_wayOf_13 : decode cX1_wayOf 13 = .ok (.imul, 1) := dk_104 (dk_at dksX1_wayOf_0 13 rfl rfl)
theorem dX1_wayOf_14 : decode cX1_wayOf 14 = .ok (.if_icmp .le 13, 3) := dk_164 0 13 (dk_at dksX1_wayOf_0 14 rfl rfl)
theorem dX1_wayOf_17 : decode cX1_wayOf 17 = .ok (.iload_n 0, 1) := dk_26 (dk_at dksX1_wayOf_0 17 rfl rfl)
theorem dX1_wayOf_18 : decode cX1_wayOf 18 = .ok (.ifCond .ge 7, 3) := dk_156 0 7 (dk_at dksX1_wayOf_0 18 rfl rfl)
theorem dX1_wayOf_21 : decode cX1_wayOf 21 = .ok (.iconst 0, 1) := dk_3 (dk_at dksX1_wayOf_0 21 rfl rfl)
theorem dX1_wayOf_22 : decode cX1_wayOf 22 = .ok (.goto 4, 3) := dk_167 0 4 (dk_at dksX1_wayOf_1 0 rfl rfl)
theorem dX1_wayOf_25 : decode cX1_wayOf 25 = .ok (.iconst 4, 1) := dk_7 (dk_at dksX1_wayOf_1 3 rfl rfl)
theorem dX1_wayOf_26 : decode cX1_wayOf 26 = .ok (.ireturn, 1) := dk_172 (dk_at dksX1_wayOf_1 4 rfl rfl)
theorem dX1_wayOf_27 : decode cX1_wayOf 27 = .ok (.iload_n 3, 1) := dk_29 (dk_at dksX1_wayOf_1 5 rfl rfl)
theorem dX1_wayOf_28 : decode cX1_wayOf 28 = .ok (.iconst 2, 1) := dk_5 (dk_at dksX1_wayOf_1 6 rfl rfl)
theorem dX1_wayOf_29 : decode cX1_wayOf 29 = .ok (.iload_n 2, 1) := dk_28 (dk_at dksX1_wayOf_1 7 rfl rfl)
theorem dX1_wayOf_30 : decode cX1_wayOf 30 = .ok (.imul, 1) := dk_104 (dk_at dksX1_wayOf_1 8 rfl rfl)
theorem dX1_wayOf_31 : decode cX1_wayOf 31 = .ok (.if_icmp .le 14, 3) := dk_164 0 14 (dk_at dksX1_wayOf_1 9 rfl rfl)
theorem dX1_wayOf_34 : decode cX1_wayOf 34 = .ok (.iload_n 1, 1) := dk_27 (dk_at dksX1_wayOf_1 12 rfl rfl)
theorem dX1_wayOf_35 : decode cX1_wayOf 35 = .ok (.ifCond .le 7, 3) := dk_158 0 7 (dk_at dksX1_wayOf_1 13 rfl rfl)
theorem dX1_wayOf_38 : decode cX1_wayOf 38 = .ok (.iconst 2, 1) := dk_5 (dk_at dksX1_wayOf_1 16 rfl rfl)
theorem dX1_wayOf_39 : decode cX1_wayOf 39 = .ok (.goto 5, 3) := dk_167 0 5 (dk_at dksX1_wayOf_1 17 rfl rfl)
theorem dX1_wayOf_42 : decode cX1_wayOf 42 = .ok (.bipush 6, 2) := dk_16 6 (dk_at dksX1_wayOf_1 20 rfl rfl)
theorem dX1_wayOf_44 : decode cX1_wayOf 44 = .ok (.ireturn, 1) := dk_172 (dk_at dksX1_wayOf_1 22 rfl rfl)
theorem dX1_wayOf_45 : decode cX1_wayOf 45 = .ok (.iload_n 0, 1) := dk_26 (dk_at dksX1_wayOf_1 23 rfl rfl)
theorem dX1_wayOf_46 : decode cX1_wayOf 46 = .ok (.ifCond .ge 14, 3) := dk_156 0 14 (dk_at dksX1_wayOf_2 0 rfl rfl)
theorem dX1_wayOf_49 : decode cX1_wayOf 49 = .ok (.iload_n 1, 1) := dk_27 (dk_at dksX1_wayOf_2 3 rfl rfl)
theorem dX1_wayOf_50 : decode cX1_wayOf 50 = .ok (.ifCond .le 7, 3) := dk_158 0 7 (dk_at dksX1_wayOf_2 4 rfl rfl)
theorem dX1_wayOf_53 : decode cX1_wayOf 53 = .ok (.iconst 1, 1) := dk_4 (dk_at dksX1_wayOf_2 7 rfl rfl)
theorem dX1_wayOf_54 : decode cX1_wayOf 54 = .ok (.goto 5, 3) := dk_167 0 5 (dk_at dksX1_wayOf_2 8 rfl rfl)
theorem dX1_wayOf_57 : decode cX1_wayOf 57 = .ok (.bipush 7, 2) := dk_16 7 (dk_at dksX1_wayOf_2 11 rfl rfl)
theorem dX1_wayOf_59 : decode cX1_wayOf 59 = .ok (.ireturn, 1) := dk_172 (dk_at dksX1_wayOf_2 13 rfl rfl)
theorem dX1_wayOf_60 : decode cX1_wayOf 60 = .ok (.iload_n 1, 1) := dk_27 (dk_at dksX1_wayOf_2 14 rfl rfl)
theorem dX1_wayOf_61 : decode cX1_wayOf 61 = .ok (.ifCond .le 7, 3) := dk_158 0 7 (dk_at dksX1_wayOf_2 15 rfl rfl)
theorem dX1_wayOf_64 : decode cX1_wayOf 64 = .ok (.iconst 3, 1) := dk_6 (dk_at dksX1_wayOf_2 18 rfl rfl)
theorem dX1_wayOf_65 : decode cX1_wayOf 65 = .ok (.goto 4, 3) := dk_167 0 4 (dk_at dksX1_wayOf_2 19 rfl rfl)
theorem dX1_wayOf_68 : decode cX1_wayOf 68 = .ok (.iconst 5, 1) := dk_8 (dk_at dksX1_wayOf_2 22 rfl rfl)
theorem dX1_wayOf_69 : decode cX1_wayOf 69 = .ok (.ireturn, 1) := dk_172 (dk_at dksX1_wayOf_2 23 rfl rfl)
abbrev cX1_offBy : ByteArray := prog_1_method_3_code
def yX1_offBy : MethodName := ⟨RX1, "offBy", "(II)I"⟩
def dkwX1_offBy_0 : List UInt8 := [26, 27, 100, 184, 0, 3, 61, 28, 16, 8, 28, 100, 184, 0, 9, 172]
abbrev dktX1_offBy_0 : List UInt8 := dkwX1_offBy_0 ++ []
theorem dksX1_offBy_0 : cX1_offBy.data.toList.drop 0 = dktX1_offBy_0 := by decide +kernel
theorem dX1_offBy_0 : decode cX1_offBy 0 = .ok (.iload_n 0, 1) := dk_26 (dk_at dksX1_offBy_0 0 rfl rfl)
theorem dX1_offBy_1 : decode cX1_offBy 1 = .ok (.iload_n 1, 1) := dk_27 (dk_at dksX1_offBy_0 1 rfl rfl)
theorem dX1_offBy_2 : decode cX1_offBy 2 = .ok (.isub, 1) := dk_100 (dk_at dksX1_offBy_0 2 rfl rfl)
theorem dX1_offBy_3 : decode cX1_offBy 3 = .ok (.invokestatic 3, 3) := dk_184 0 3 (dk_at dksX1_offBy_0 3 rfl rfl)
theorem dX1_offBy_6 : decode cX1_offBy 6 = .ok (.istore_n 2, 1) := dk_61 (dk_at dksX1_offBy_0 6 rfl rfl)
theorem dX1_offBy_7 : decode cX1_offBy 7 = .ok (.iload_n 2, 1) := dk_28 (dk_at dksX1_offBy_0 7 rfl rfl)
theorem dX1_offBy_8 : decode cX1_offBy 8 = .ok (.bipush 8, 2) := dk_16 8 (dk_at dksX1_offBy_0 8 rfl rfl)
theorem dX1_offBy_10 : decode cX1_offBy 10 = .ok (.iload_n 2, 1) := dk_28 (dk_at dksX1_offBy_0 10 rfl rfl)
theorem dX1_offBy_11 : decode cX1_offBy 11 = .ok (.isub, 1) := dk_100 (dk_at dksX1_offBy_0 11 rfl rfl)
theorem dX1_offBy_12 : decode cX1_offBy 12 = .ok (.invokestatic 9, 3) := dk_184 0 9 (dk_at dksX1_offBy_0 12 rfl rfl)
theorem dX1_offBy_15 : decode cX1_offBy 15 = .ok (.ireturn, 1) := dk_172 (dk_at dksX1_offBy_0 15 rfl rfl)
abbrev cX1_isClear : ByteArray := prog_1_method_5_code
def yX1_isClear : MethodName := ⟨RX1, "isClear", "(II)Z"⟩
def dkwX1_isClear_3 : List UInt8 := [184, 0, 26, 153, 0, 5, 3, 172, 167, 255, 192]
abbrev dktX1_isClear_3 : List UInt8 := dkwX1_isClear_3 ++ []
def dkwX1_isClear_2 : List UInt8 := [180, 0, 13, 29, 104, 21, 4, 96, 54, 5, 21, 5, 28, 160, 0, 5, 4, 172, 42, 180, 0, 22, 21, 5]
abbrev dktX1_isClear_2 : List UInt8 := dkwX1_isClear_2 ++ dktX1_isClear_3
def dkwX1_isClear_1 : List UInt8 := [184, 0, 17, 96, 62, 21, 4, 28, 42, 180, 0, 13, 112, 21, 4, 100, 184, 0, 17, 96, 54, 4, 42]
abbrev dktX1_isClear_1 : List UInt8 := dkwX1_isClear_1 ++ dktX1_isClear_2
def dkwX1_isClear_0 : List UInt8 := [27, 42, 180, 0, 13, 108, 62, 27, 42, 180, 0, 13, 112, 54, 4, 29, 28, 42, 180, 0, 13, 108, 29, 100]
abbrev dktX1_isClear_0 : List UInt8 := dkwX1_isClear_0 ++ dktX1_isClear_1
theorem dksX1_isClear_0 : cX1_isClear.data.toList.drop 0 = dktX1_isClear_0 := by decide +kernel
theorem dksX1_isClear_1 : cX1_isClear.data.toList.drop 24 = dktX1_isClear_1 := dk_seg dksX1_isClear_0 24 rfl rfl
theorem dksX1_isClear_2 : cX1_isClear.data.toList.drop 47 = dktX1_isClear_2 := dk_seg dksX1_isClear_1 23 rfl rfl
theorem dksX1_isClear_3 : cX1_isClear.data.toList.drop 71 = dktX1_isClear_3 := dk_seg dksX1_isClear_2 24 rfl rfl
theorem dX1_isClear_0 : decode cX1_isClear 0 = .ok (.iload_n 1, 1) := dk_27 (dk_at dksX1_isClear_0 0 rfl rfl)
theorem dX1_isClear_1 : decode cX1_isClear 1 = .ok (.aload_n 0, 1) := dk_42 (dk_at dksX1_isClear_0 1 rfl rfl)
theorem dX1_isClear_2 : decode cX1_isClear 2 = .ok (.getfield 13, 3) := dk_180 0 13 (dk_at dksX1_isClear_0 2 rfl rfl)
theorem dX1_isClear_5 : decode cX1_isClear 5 = .ok (.idiv, 1) := dk_108 (dk_at dksX1_isClear_0 5 rfl rfl)
theorem dX1_isClear_6 : decode cX1_isClear 6 = .ok (.istore_n 3, 1) := dk_62 (dk_at dksX1_isClear_0 6 rfl rfl)
theorem dX1_isClear_7 : decode cX1_isClear 7 = .ok (.iload_n 1, 1) := dk_27 (dk_at dksX1_isClear_0 7 rfl rfl)
theorem dX1_isClear_8 : decode cX1_isClear 8 = .ok (.aload_n 0, 1) := dk_42 (dk_at dksX1_isClear_0 8 rfl rfl)
theorem dX1_isClear_9 : decode cX1_isClear 9 = .ok (.getfield 13, 3) := dk_180 0 13 (dk_at dksX1_isClear_0 9 rfl rfl)
theorem dX1_isClear_12 : decode cX1_isClear 12 = .ok (.irem, 1) := dk_112 (dk_at dksX1_isClear_0 12 rfl rfl)
theorem dX1_isClear_13 : decode cX1_isClear 13 = .ok (.istore 4, 2) := dk_54 4 (dk_at dksX1_isClear_0 13 rfl rfl)
theorem dX1_isClear_15 : decode cX1_isClear 15 = .ok (.iload_n 3, 1) := dk_29 (dk_at dksX1_isClear_0 15 rfl rfl)
theorem dX1_isClear_16 : decode cX1_isClear 16 = .ok (.iload_n 2, 1) := dk_28 (dk_at dksX1_isClear_0 16 rfl rfl)
theorem dX1_isClear_17 : decode cX1_isClear 17 = .ok (.aload_n 0, 1) := dk_42 (dk_at dksX1_isClear_0 17 rfl rfl)
theorem dX1_isClear_18 : decode cX1_isClear 18 = .ok (.getfield 13, 3) := dk_180 0 13 (dk_at dksX1_isClear_0 18 rfl rfl)
theorem dX1_isClear_21 : decode cX1_isClear 21 = .ok (.idiv, 1) := dk_108 (dk_at dksX1_isClear_0 21 rfl rfl)
theorem dX1_isClear_22 : decode cX1_isClear 22 = .ok (.iload_n 3, 1) := dk_29 (dk_at dksX1_isClear_0 22 rfl rfl)
theorem dX1_isClear_23 : decode cX1_isClear 23 = .ok (.isub, 1) := dk_100 (dk_at dksX1_isClear_0 23 rfl rfl)
theorem dX1_isClear_24 : decode cX1_isClear 24 = .ok (.invokestatic 17, 3) := dk_184 0 17 (dk_at dksX1_isClear_1 0 rfl rfl)
theorem dX1_isClear_27 : decode cX1_isClear 27 = .ok (.iadd, 1) := dk_96 (dk_at dksX1_isClear_1 3 rfl rfl)
theorem dX1_isClear_28 : decode cX1_isClear 28 = .ok (.istore_n 3, 1) := dk_62 (dk_at dksX1_isClear_1 4 rfl rfl)
theorem dX1_isClear_29 : decode cX1_isClear 29 = .ok (.iload 4, 2) := dk_21 4 (dk_at dksX1_isClear_1 5 rfl rfl)
theorem dX1_isClear_31 : decode cX1_isClear 31 = .ok (.iload_n 2, 1) := dk_28 (dk_at dksX1_isClear_1 7 rfl rfl)
theorem dX1_isClear_32 : decode cX1_isClear 32 = .ok (.aload_n 0, 1) := dk_42 (dk_at dksX1_isClear_1 8 rfl rfl)
theorem dX1_isClear_33 : decode cX1_isClear 33 = .ok (.getfield 13, 3) := dk_180 0 13 (dk_at dksX1_isClear_1 9 rfl rfl)
theorem dX1_isClear_36 : decode cX1_isClear 36 = .ok (.irem, 1) := dk_112 (dk_at dksX1_isClear_1 12 rfl rfl)
theorem dX1_isClear_37 : decode cX1_isClear 37 = .ok (.iload 4, 2) := dk_21 4 (dk_at dksX1_isClear_1 13 rfl rfl)
theorem dX1_isClear_39 : decode cX1_isClear 39 = .ok (.isub, 1) := dk_100 (dk_at dksX1_isClear_1 15 rfl rfl)
theorem dX1_isClear_40 : decode cX1_isClear 40 = .ok (.invokestatic 17, 3) := dk_184 0 17 (dk_at dksX1_isClear_1 16 rfl rfl)
theorem dX1_isClear_43 : decode cX1_isClear 43 = .ok (.iadd, 1) := dk_96 (dk_at dksX1_isClear_1 19 rfl rfl)
theorem dX1_isClear_44 : decode cX1_isClear 44 = .ok (.istore 4, 2) := dk_54 4 (dk_at dksX1_isClear_1 20 rfl rfl)
theorem dX1_isClear_46 : decode cX1_isClear 46 = .ok (.aload_n 0, 1) := dk_42 (dk_at dksX1_isClear_1 22 rfl rfl)
theorem dX1_isClear_47 : decode cX1_isClear 47 = .ok (.getfield 13, 3) := dk_180 0 13 (dk_at dksX1_isClear_2 0 rfl rfl)
theorem dX1_isClear_50 : decode cX1_isClear 50 = .ok (.iload_n 3, 1) := dk_29 (dk_at dksX1_isClear_2 3 rfl rfl)
theorem dX1_isClear_51 : decode cX1_isClear 51 = .ok (.imul, 1) := dk_104 (dk_at dksX1_isClear_2 4 rfl rfl)
theorem dX1_isClear_52 : decode cX1_isClear 52 = .ok (.iload 4, 2) := dk_21 4 (dk_at dksX1_isClear_2 5 rfl rfl)
theorem dX1_isClear_54 : decode cX1_isClear 54 = .ok (.iadd, 1) := dk_96 (dk_at dksX1_isClear_2 7 rfl rfl)
theorem dX1_isClear_55 : decode cX1_isClear 55 = .ok (.istore 5, 2) := dk_54 5 (dk_at dksX1_isClear_2 8 rfl rfl)
theorem dX1_isClear_57 : decode cX1_isClear 57 = .ok (.iload 5, 2) := dk_21 5 (dk_at dksX1_isClear_2 10 rfl rfl)
theorem dX1_isClear_59 : decode cX1_isClear 59 = .ok (.iload_n 2, 1) := dk_28 (dk_at dksX1_isClear_2 12 rfl rfl)
theorem dX1_isClear_60 : decode cX1_isClear 60 = .ok (.if_icmp .ne 5, 3) := dk_160 0 5 (dk_at dksX1_isClear_2 13 rfl rfl)
theorem dX1_isClear_63 : decode cX1_isClear 63 = .ok (.iconst 1, 1) := dk_4 (dk_at dksX1_isClear_2 16 rfl rfl)
theorem dX1_isClear_64 : decode cX1_isClear 64 = .ok (.ireturn, 1) := dk_172 (dk_at dksX1_isClear_2 17 rfl rfl)
theorem dX1_isClear_65 : decode cX1_isClear 65 = .ok (.aload_n 0, 1) := dk_42 (dk_at dksX1_isClear_2 18 rfl rfl)
theorem dX1_isClear_66 : decode cX1_isClear 66 = .ok (.getfield 22, 3) := dk_180 0 22 (dk_at dksX1_isClear_2 19 rfl rfl)
theorem dX1_isClear_69 : decode cX1_isClear 69 = .ok (.iload 5, 2) := dk_21 5 (dk_at dksX1_isClear_2 22 rfl rfl)
theorem dX1_isClear_71 : decode cX1_isClear 71 = .ok (.invokestatic 26, 3) := dk_184 0 26 (dk_at dksX1_isClear_3 0 rfl rfl)
theorem dX1_isClear_74 : decode cX1_isClear 74 = .ok (.ifCond .eq 5, 3) := dk_153 0 5 (dk_at dksX1_isClear_3 3 rfl rfl)
theorem dX1_isClear_77 : decode cX1_isClear 77 = .ok (.iconst 0, 1) := dk_3 (dk_at dksX1_isClear_3 6 rfl rfl)
theorem dX1_isClear_78 : decode cX1_isClear 78 = .ok (.ireturn, 1) := dk_172 (dk_at dksX1_isClear_3 7 rfl rfl)
theorem dX1_isClear_79 : decode cX1_isClear 79 = .ok (.goto (-64), 3) := dk_167 255 192 (dk_at dksX1_isClear_3 8 rfl rfl)
abbrev cX1_tell : ByteArray := prog_1_method_41_code
def yX1_tell : MethodName := ⟨RX1, "tell", "(LBonnetValley$Upland;II)Z"⟩
def dkwX1_tell_1 : List UInt8 := [42, 43, 28, 29, 182, 1, 50, 153, 0, 7, 4, 167, 0, 4, 3, 172]
abbrev dktX1_tell_1 : List UInt8 := dkwX1_tell_1 ++ []
def dkwX1_tell_0 : List UInt8 := [28, 29, 159, 0, 36, 42, 43, 180, 0, 217, 28, 46, 43, 180, 0, 217, 29, 46, 182, 1, 46, 153, 0, 17]
abbrev dktX1_tell_0 : List UInt8 := dkwX1_tell_0 ++ dktX1_tell_1
theorem dksX1_tell_0 : cX1_tell.data.toList.drop 0 = dktX1_tell_0 := by decide +kernel
theorem dksX1_tell_1 : cX1_tell.data.toList.drop 24 = dktX1_tell_1 := dk_seg dksX1_tell_0 24 rfl rfl
theorem dX1_tell_0 : decode cX1_tell 0 = .ok (.iload_n 2, 1) := dk_28 (dk_at dksX1_tell_0 0 rfl rfl)
theorem dX1_tell_1 : decode cX1_tell 1 = .ok (.iload_n 3, 1) := dk_29 (dk_at dksX1_tell_0 1 rfl rfl)
theorem dX1_tell_2 : decode cX1_tell 2 = .ok (.if_icmp .eq 36, 3) := dk_159 0 36 (dk_at dksX1_tell_0 2 rfl rfl)
theorem dX1_tell_5 : decode cX1_tell 5 = .ok (.aload_n 0, 1) := dk_42 (dk_at dksX1_tell_0 5 rfl rfl)
theorem dX1_tell_6 : decode cX1_tell 6 = .ok (.aload_n 1, 1) := dk_43 (dk_at dksX1_tell_0 6 rfl rfl)
theorem dX1_tell_7 : decode cX1_tell 7 = .ok (.getfield 217, 3) := dk_180 0 217 (dk_at dksX1_tell_0 7 rfl rfl)
theorem dX1_tell_10 : decode cX1_tell 10 = .ok (.iload_n 2, 1) := dk_28 (dk_at dksX1_tell_0 10 rfl rfl)
theorem dX1_tell_11 : decode cX1_tell 11 = .ok (.iaload, 1) := dk_46 (dk_at dksX1_tell_0 11 rfl rfl)
theorem dX1_tell_12 : decode cX1_tell 12 = .ok (.aload_n 1, 1) := dk_43 (dk_at dksX1_tell_0 12 rfl rfl)
theorem dX1_tell_13 : decode cX1_tell 13 = .ok (.getfield 217, 3) := dk_180 0 217 (dk_at dksX1_tell_0 13 rfl rfl)
theorem dX1_tell_16 : decode cX1_tell 16 = .ok (.iload_n 3, 1) := dk_29 (dk_at dksX1_tell_0 16 rfl rfl)
theorem dX1_tell_17 : decode cX1_tell 17 = .ok (.iaload, 1) := dk_46 (dk_at dksX1_tell_0 17 rfl rfl)
theorem dX1_tell_18 : decode cX1_tell 18 = .ok (.invokevirtual 302, 3) := dk_182 1 46 (dk_at dksX1_tell_0 18 rfl rfl)
theorem dX1_tell_21 : decode cX1_tell 21 = .ok (.ifCond .eq 17, 3) := dk_153 0 17 (dk_at dksX1_tell_0 21 rfl rfl)
theorem dX1_tell_24 : decode cX1_tell 24 = .ok (.aload_n 0, 1) := dk_42 (dk_at dksX1_tell_1 0 rfl rfl)
theorem dX1_tell_25 : decode cX1_tell 25 = .ok (.aload_n 1, 1) := dk_43 (dk_at dksX1_tell_1 1 rfl rfl)
theorem dX1_tell_26 : decode cX1_tell 26 = .ok (.iload_n 2, 1) := dk_28 (dk_at dksX1_tell_1 2 rfl rfl)
theorem dX1_tell_27 : decode cX1_tell 27 = .ok (.iload_n 3, 1) := dk_29 (dk_at dksX1_tell_1 3 rfl rfl)
theorem dX1_tell_28 : decode cX1_tell 28 = .ok (.invokevirtual 306, 3) := dk_182 1 50 (dk_at dksX1_tell_1 4 rfl rfl)
theorem dX1_tell_31 : decode cX1_tell 31 = .ok (.ifCond .eq 7, 3) := dk_153 0 7 (dk_at dksX1_tell_1 7 rfl rfl)
theorem dX1_tell_34 : decode cX1_tell 34 = .ok (.iconst 1, 1) := dk_4 (dk_at dksX1_tell_1 10 rfl rfl)
theorem dX1_tell_35 : decode cX1_tell 35 = .ok (.goto 4, 3) := dk_167 0 4 (dk_at dksX1_tell_1 11 rfl rfl)
theorem dX1_tell_38 : decode cX1_tell 38 = .ok (.iconst 0, 1) := dk_3 (dk_at dksX1_tell_1 14 rfl rfl)
theorem dX1_tell_39 : decode cX1_tell 39 = .ok (.ireturn, 1) := dk_172 (dk_at dksX1_tell_1 15 rfl rfl)
abbrev cX1_areNear : ByteArray := prog_1_method_40_code
def yX1_areNear : MethodName := ⟨RX1, "areNear", "(II)Z"⟩
def dkwX1_areNear_1 : List UInt8 := [180, 0, 13, 112, 28, 42, 180, 0, 13, 112, 100, 184, 0, 3, 4, 163, 0, 7, 4, 167, 0, 4, 3, 172]
abbrev dktX1_areNear_1 : List UInt8 := dkwX1_areNear_1 ++ []
def dkwX1_areNear_0 : List UInt8 := [27, 42, 180, 0, 13, 108, 28, 42, 180, 0, 13, 108, 100, 184, 0, 3, 4, 163, 0, 27, 27, 42]
abbrev dktX1_areNear_0 : List UInt8 := dkwX1_areNear_0 ++ dktX1_areNear_1
theorem dksX1_areNear_0 : cX1_areNear.data.toList.drop 0 = dktX1_areNear_0 := by decide +kernel
theorem dksX1_areNear_1 : cX1_areNear.data.toList.drop 22 = dktX1_areNear_1 := dk_seg dksX1_areNear_0 22 rfl rfl
theorem dX1_areNear_0 : decode cX1_areNear 0 = .ok (.iload_n 1, 1) := dk_27 (dk_at dksX1_areNear_0 0 rfl rfl)
theorem dX1_areNear_1 : decode cX1_areNear 1 = .ok (.aload_n 0, 1) := dk_42 (dk_at dksX1_areNear_0 1 rfl rfl)
theorem dX1_areNear_2 : decode cX1_areNear 2 = .ok (.getfield 13, 3) := dk_180 0 13 (dk_at dksX1_areNear_0 2 rfl rfl)
theorem dX1_areNear_5 : decode cX1_areNear 5 = .ok (.idiv, 1) := dk_108 (dk_at dksX1_areNear_0 5 rfl rfl)
theorem dX1_areNear_6 : decode cX1_areNear 6 = .ok (.iload_n 2, 1) := dk_28 (dk_at dksX1_areNear_0 6 rfl rfl)
theorem dX1_areNear_7 : decode cX1_areNear 7 = .ok (.aload_n 0, 1) := dk_42 (dk_at dksX1_areNear_0 7 rfl rfl)
theorem dX1_areNear_8 : decode cX1_areNear 8 = .ok (.getfield 13, 3) := dk_180 0 13 (dk_at dksX1_areNear_0 8 rfl rfl)
theorem dX1_areNear_11 : decode cX1_areNear 11 = .ok (.idiv, 1) := dk_108 (dk_at dksX1_areNear_0 11 rfl rfl)
theorem dX1_areNear_12 : decode cX1_areNear 12 = .ok (.isub, 1) := dk_100 (dk_at dksX1_areNear_0 12 rfl rfl)
theorem dX1_areNear_13 : decode cX1_areNear 13 = .ok (.invokestatic 3, 3) := dk_184 0 3 (dk_at dksX1_areNear_0 13 rfl rfl)
theorem dX1_areNear_16 : decode cX1_areNear 16 = .ok (.iconst 1, 1) := dk_4 (dk_at dksX1_areNear_0 16 rfl rfl)
theorem dX1_areNear_17 : decode cX1_areNear 17 = .ok (.if_icmp .gt 27, 3) := dk_163 0 27 (dk_at dksX1_areNear_0 17 rfl rfl)
theorem dX1_areNear_20 : decode cX1_areNear 20 = .ok (.iload_n 1, 1) := dk_27 (dk_at dksX1_areNear_0 20 rfl rfl)
theorem dX1_areNear_21 : decode cX1_areNear 21 = .ok (.aload_n 0, 1) := dk_42 (dk_at dksX1_areNear_0 21 rfl rfl)
theorem dX1_areNear_22 : decode cX1_areNear 22 = .ok (.getfield 13, 3) := dk_180 0 13 (dk_at dksX1_areNear_1 0 rfl rfl)
theorem dX1_areNear_25 : decode cX1_areNear 25 = .ok (.irem, 1) := dk_112 (dk_at dksX1_areNear_1 3 rfl rfl)
theorem dX1_areNear_26 : decode cX1_areNear 26 = .ok (.iload_n 2, 1) := dk_28 (dk_at dksX1_areNear_1 4 rfl rfl)
theorem dX1_areNear_27 : decode cX1_areNear 27 = .ok (.aload_n 0, 1) := dk_42 (dk_at dksX1_areNear_1 5 rfl rfl)
theorem dX1_areNear_28 : decode cX1_areNear 28 = .ok (.getfield 13, 3) := dk_180 0 13 (dk_at dksX1_areNear_1 6 rfl rfl)
theorem dX1_areNear_31 : decode cX1_areNear 31 = .ok (.irem, 1) := dk_112 (dk_at dksX1_areNear_1 9 rfl rfl)
theorem dX1_areNear_32 : decode cX1_areNear 32 = .ok (.isub, 1) := dk_100 (dk_at dksX1_areNear_1 10 rfl rfl)
theorem dX1_areNear_33 : decode cX1_areNear 33 = .ok (.invokestatic 3, 3) := dk_184 0 3 (dk_at dksX1_areNear_1 11 rfl rfl)
theorem dX1_areNear_36 : decode cX1_areNear 36 = .ok (.iconst 1, 1) := dk_4 (dk_at dksX1_areNear_1 14 rfl rfl)
theorem dX1_areNear_37 : decode cX1_areNear 37 = .ok (.if_icmp .gt 7, 3) := dk_163 0 7 (dk_at dksX1_areNear_1 15 rfl rfl)
theorem dX1_areNear_40 : decode cX1_areNear 40 = .ok (.iconst 1, 1) := dk_4 (dk_at dksX1_areNear_1 18 rfl rfl)
theorem dX1_areNear_41 : decode cX1_areNear 41 = .ok (.goto 4, 3) := dk_167 0 4 (dk_at dksX1_areNear_1 19 rfl rfl)
theorem dX1_areNear_44 : decode cX1_areNear 44 = .ok (.iconst 0, 1) := dk_3 (dk_at dksX1_areNear_1 22 rfl rfl)
theorem dX1_areNear_45 : decode cX1_areNear 45 = .ok (.ireturn, 1) := dk_172 (dk_at dksX1_areNear_1 23 rfl rfl)
abbrev cX1_meet : ByteArray := prog_1_method_39_code
def yX1_meet : MethodName := ⟨RX1, "meet", "(LBonnetValley$Upland;II)Z"⟩
def dkwX1_meet_1 : List UInt8 := [43, 180, 0, 217, 28, 46, 182, 0, 246, 153, 0, 7, 4, 167, 0, 4, 3, 172]
abbrev dktX1_meet_1 : List UInt8 := dkwX1_meet_1 ++ []
def dkwX1_meet_0 : List UInt8 := [42, 180, 0, 62, 43, 28, 43, 180, 0, 217, 29, 46, 182, 0, 246, 153, 0, 25, 42, 180, 0, 62, 43, 29]
abbrev dktX1_meet_0 : List UInt8 := dkwX1_meet_0 ++ dktX1_meet_1
theorem dksX1_meet_0 : cX1_meet.data.toList.drop 0 = dktX1_meet_0 := by decide +kernel
theorem dksX1_meet_1 : cX1_meet.data.toList.drop 24 = dktX1_meet_1 := dk_seg dksX1_meet_0 24 rfl rfl
theorem dX1_meet_0 : decode cX1_meet 0 = .ok (.aload_n 0, 1) := dk_42 (dk_at dksX1_meet_0 0 rfl rfl)
theorem dX1_meet_1 : decode cX1_meet 1 = .ok (.getfield 62, 3) := dk_180 0 62 (dk_at dksX1_meet_0 1 rfl rfl)
theorem dX1_meet_4 : decode cX1_meet 4 = .ok (.aload_n 1, 1) := dk_43 (dk_at dksX1_meet_0 4 rfl rfl)
theorem dX1_meet_5 : decode cX1_meet 5 = .ok (.iload_n 2, 1) := dk_28 (dk_at dksX1_meet_0 5 rfl rfl)
theorem dX1_meet_6 : decode cX1_meet 6 = .ok (.aload_n 1, 1) := dk_43 (dk_at dksX1_meet_0 6 rfl rfl)
theorem dX1_meet_7 : decode cX1_meet 7 = .ok (.getfield 217, 3) := dk_180 0 217 (dk_at dksX1_meet_0 7 rfl rfl)
theorem dX1_meet_10 : decode cX1_meet 10 = .ok (.iload_n 3, 1) := dk_29 (dk_at dksX1_meet_0 10 rfl rfl)
theorem dX1_meet_11 : decode cX1_meet 11 = .ok (.iaload, 1) := dk_46 (dk_at dksX1_meet_0 11 rfl rfl)
theorem dX1_meet_12 : decode cX1_meet 12 = .ok (.invokevirtual 246, 3) := dk_182 0 246 (dk_at dksX1_meet_0 12 rfl rfl)
theorem dX1_meet_15 : decode cX1_meet 15 = .ok (.ifCond .eq 25, 3) := dk_153 0 25 (dk_at dksX1_meet_0 15 rfl rfl)
theorem dX1_meet_18 : decode cX1_meet 18 = .ok (.aload_n 0, 1) := dk_42 (dk_at dksX1_meet_0 18 rfl rfl)
theorem dX1_meet_19 : decode cX1_meet 19 = .ok (.getfield 62, 3) := dk_180 0 62 (dk_at dksX1_meet_0 19 rfl rfl)
theorem dX1_meet_22 : decode cX1_meet 22 = .ok (.aload_n 1, 1) := dk_43 (dk_at dksX1_meet_0 22 rfl rfl)
theorem dX1_meet_23 : decode cX1_meet 23 = .ok (.iload_n 3, 1) := dk_29 (dk_at dksX1_meet_0 23 rfl rfl)
theorem dX1_meet_24 : decode cX1_meet 24 = .ok (.aload_n 1, 1) := dk_43 (dk_at dksX1_meet_1 0 rfl rfl)
theorem dX1_meet_25 : decode cX1_meet 25 = .ok (.getfield 217, 3) := dk_180 0 217 (dk_at dksX1_meet_1 1 rfl rfl)
theorem dX1_meet_28 : decode cX1_meet 28 = .ok (.iload_n 2, 1) := dk_28 (dk_at dksX1_meet_1 4 rfl rfl)
theorem dX1_meet_29 : decode cX1_meet 29 = .ok (.iaload, 1) := dk_46 (dk_at dksX1_meet_1 5 rfl rfl)
theorem dX1_meet_30 : decode cX1_meet 30 = .ok (.invokevirtual 246, 3) := dk_182 0 246 (dk_at dksX1_meet_1 6 rfl rfl)
theorem dX1_meet_33 : decode cX1_meet 33 = .ok (.ifCond .eq 7, 3) := dk_153 0 7 (dk_at dksX1_meet_1 9 rfl rfl)
theorem dX1_meet_36 : decode cX1_meet 36 = .ok (.iconst 1, 1) := dk_4 (dk_at dksX1_meet_1 12 rfl rfl)
theorem dX1_meet_37 : decode cX1_meet 37 = .ok (.goto 4, 3) := dk_167 0 4 (dk_at dksX1_meet_1 13 rfl rfl)
theorem dX1_meet_40 : decode cX1_meet 40 = .ok (.iconst 0, 1) := dk_3 (dk_at dksX1_meet_1 16 rfl rfl)
theorem dX1_meet_41 : decode cX1_meet 41 = .ok (.ireturn, 1) := dk_172 (dk_at dksX1_meet_1 17 rfl rfl)
abbrev cX1_tell_2 : ByteArray := prog_1_method_8_code
def yX1_tell_2 : MethodName := ⟨RX1, "tell", "(J)V"⟩
def dkwX1_tell_2_0 : List UInt8 := [42, 180, 0, 105, 42, 180, 0, 139, 31, 80, 42, 89, 180, 0, 139, 4, 96, 181, 0, 139, 177]
abbrev dktX1_tell_2_0 : List UInt8 := dkwX1_tell_2_0 ++ []
theorem dksX1_tell_2_0 : cX1_tell_2.data.toList.drop 0 = dktX1_tell_2_0 := by decide +kernel
theorem dX1_tell_2_0 : decode cX1_tell_2 0 = .ok (.aload_n 0, 1) := dk_42 (dk_at dksX1_tell_2_0 0 rfl rfl)
theorem dX1_tell_2_1 : decode cX1_tell_2 1 = .ok (.getfield 105, 3) := dk_180 0 105 (dk_at dksX1_tell_2_0 1 rfl rfl)
theorem dX1_tell_2_4 : decode cX1_tell_2 4 = .ok (.aload_n 0, 1) := dk_42 (dk_at dksX1_tell_2_0 4 rfl rfl)
theorem dX1_tell_2_5 : decode cX1_tell_2 5 = .ok (.getfield 139, 3) := dk_180 0 139 (dk_at dksX1_tell_2_0 5 rfl rfl)
theorem dX1_tell_2_8 : decode cX1_tell_2 8 = .ok (.lload_n 1, 1) := dk_31 (dk_at dksX1_tell_2_0 8 rfl rfl)
theorem dX1_tell_2_9 : decode cX1_tell_2 9 = .ok (.lastore, 1) := dk_80 (dk_at dksX1_tell_2_0 9 rfl rfl)
theorem dX1_tell_2_10 : decode cX1_tell_2 10 = .ok (.aload_n 0, 1) := dk_42 (dk_at dksX1_tell_2_0 10 rfl rfl)
theorem dX1_tell_2_11 : decode cX1_tell_2 11 = .ok (.dup, 1) := dk_89 (dk_at dksX1_tell_2_0 11 rfl rfl)
theorem dX1_tell_2_12 : decode cX1_tell_2 12 = .ok (.getfield 139, 3) := dk_180 0 139 (dk_at dksX1_tell_2_0 12 rfl rfl)
theorem dX1_tell_2_15 : decode cX1_tell_2 15 = .ok (.iconst 1, 1) := dk_4 (dk_at dksX1_tell_2_0 15 rfl rfl)
theorem dX1_tell_2_16 : decode cX1_tell_2 16 = .ok (.iadd, 1) := dk_96 (dk_at dksX1_tell_2_0 16 rfl rfl)
theorem dX1_tell_2_17 : decode cX1_tell_2 17 = .ok (.putfield 139, 3) := dk_181 0 139 (dk_at dksX1_tell_2_0 17 rfl rfl)
theorem dX1_tell_2_20 : decode cX1_tell_2 20 = .ok (.return_, 1) := dk_177 (dk_at dksX1_tell_2_0 20 rfl rfl)
abbrev cX1_faces : ByteArray := prog_1_method_47_code
def yX1_faces : MethodName := ⟨RX1, "faces", "(II)I"⟩
def dkwX1_faces_1 : List UInt8 := [180, 0, 219, 27, 46, 28, 184, 1, 82, 62, 42, 180, 0, 84, 180, 0, 219, 27, 28, 79, 29, 172]
abbrev dktX1_faces_1 : List UInt8 := dkwX1_faces_1 ++ []
def dkwX1_faces_0 : List UInt8 := [42, 27, 28, 182, 1, 79, 154, 0, 5, 2, 172, 42, 42, 180, 0, 84, 182, 1, 64, 42, 180, 0, 84]
abbrev dktX1_faces_0 : List UInt8 := dkwX1_faces_0 ++ dktX1_faces_1
theorem dksX1_faces_0 : cX1_faces.data.toList.drop 0 = dktX1_faces_0 := by decide +kernel
theorem dksX1_faces_1 : cX1_faces.data.toList.drop 23 = dktX1_faces_1 := dk_seg dksX1_faces_0 23 rfl rfl
theorem dX1_faces_0 : decode cX1_faces 0 = .ok (.aload_n 0, 1) := dk_42 (dk_at dksX1_faces_0 0 rfl rfl)
theorem dX1_faces_1 : decode cX1_faces 1 = .ok (.iload_n 1, 1) := dk_27 (dk_at dksX1_faces_0 1 rfl rfl)
theorem dX1_faces_2 : decode cX1_faces 2 = .ok (.iload_n 2, 1) := dk_28 (dk_at dksX1_faces_0 2 rfl rfl)
theorem dX1_faces_3 : decode cX1_faces 3 = .ok (.invokevirtual 335, 3) := dk_182 1 79 (dk_at dksX1_faces_0 3 rfl rfl)
theorem dX1_faces_6 : decode cX1_faces 6 = .ok (.ifCond .ne 5, 3) := dk_154 0 5 (dk_at dksX1_faces_0 6 rfl rfl)
theorem dX1_faces_9 : decode cX1_faces 9 = .ok (.iconst (-1), 1) := dk_2 (dk_at dksX1_faces_0 9 rfl rfl)
theorem dX1_faces_10 : decode cX1_faces 10 = .ok (.ireturn, 1) := dk_172 (dk_at dksX1_faces_0 10 rfl rfl)
theorem dX1_faces_11 : decode cX1_faces 11 = .ok (.aload_n 0, 1) := dk_42 (dk_at dksX1_faces_0 11 rfl rfl)
theorem dX1_faces_12 : decode cX1_faces 12 = .ok (.aload_n 0, 1) := dk_42 (dk_at dksX1_faces_0 12 rfl rfl)
theorem dX1_faces_13 : decode cX1_faces 13 = .ok (.getfield 84, 3) := dk_180 0 84 (dk_at dksX1_faces_0 13 rfl rfl)
theorem dX1_faces_16 : decode cX1_faces 16 = .ok (.invokevirtual 320, 3) := dk_182 1 64 (dk_at dksX1_faces_0 16 rfl rfl)
theorem dX1_faces_19 : decode cX1_faces 19 = .ok (.aload_n 0, 1) := dk_42 (dk_at dksX1_faces_0 19 rfl rfl)
theorem dX1_faces_20 : decode cX1_faces 20 = .ok (.getfield 84, 3) := dk_180 0 84 (dk_at dksX1_faces_0 20 rfl rfl)
theorem dX1_faces_23 : decode cX1_faces 23 = .ok (.getfield 219, 3) := dk_180 0 219 (dk_at dksX1_faces_1 0 rfl rfl)
theorem dX1_faces_26 : decode cX1_faces 26 = .ok (.iload_n 1, 1) := dk_27 (dk_at dksX1_faces_1 3 rfl rfl)
theorem dX1_faces_27 : decode cX1_faces 27 = .ok (.iaload, 1) := dk_46 (dk_at dksX1_faces_1 4 rfl rfl)
theorem dX1_faces_28 : decode cX1_faces 28 = .ok (.iload_n 2, 1) := dk_28 (dk_at dksX1_faces_1 5 rfl rfl)
theorem dX1_faces_29 : decode cX1_faces 29 = .ok (.invokestatic 338, 3) := dk_184 1 82 (dk_at dksX1_faces_1 6 rfl rfl)
theorem dX1_faces_32 : decode cX1_faces 32 = .ok (.istore_n 3, 1) := dk_62 (dk_at dksX1_faces_1 9 rfl rfl)
theorem dX1_faces_33 : decode cX1_faces 33 = .ok (.aload_n 0, 1) := dk_42 (dk_at dksX1_faces_1 10 rfl rfl)
theorem dX1_faces_34 : decode cX1_faces 34 = .ok (.getfield 84, 3) := dk_180 0 84 (dk_at dksX1_faces_1 11 rfl rfl)
theorem dX1_faces_37 : decode cX1_faces 37 = .ok (.getfield 219, 3) := dk_180 0 219 (dk_at dksX1_faces_1 14 rfl rfl)
theorem dX1_faces_40 : decode cX1_faces 40 = .ok (.iload_n 1, 1) := dk_27 (dk_at dksX1_faces_1 17 rfl rfl)
theorem dX1_faces_41 : decode cX1_faces 41 = .ok (.iload_n 2, 1) := dk_28 (dk_at dksX1_faces_1 18 rfl rfl)
theorem dX1_faces_42 : decode cX1_faces 42 = .ok (.iastore, 1) := dk_79 (dk_at dksX1_faces_1 19 rfl rfl)
theorem dX1_faces_43 : decode cX1_faces 43 = .ok (.iload_n 3, 1) := dk_29 (dk_at dksX1_faces_1 20 rfl rfl)
theorem dX1_faces_44 : decode cX1_faces 44 = .ok (.ireturn, 1) := dk_172 (dk_at dksX1_faces_1 21 rfl rfl)
abbrev cX1_canFace : ByteArray := prog_1_method_46_code
def yX1_canFace : MethodName := ⟨RX1, "canFace", "(II)Z"⟩
def dkwX1_canFace_1 : List UInt8 := [3, 172]
abbrev dktX1_canFace_1 : List UInt8 := dkwX1_canFace_1 ++ []
def dkwX1_canFace_0 : List UInt8 := [42, 27, 182, 0, 250, 153, 0, 19, 28, 133, 9, 20, 1, 77, 184, 0, 146, 153, 0, 7, 4, 167, 0, 4]
abbrev dktX1_canFace_0 : List UInt8 := dkwX1_canFace_0 ++ dktX1_canFace_1
theorem dksX1_canFace_0 : cX1_canFace.data.toList.drop 0 = dktX1_canFace_0 := by decide +kernel
theorem dksX1_canFace_1 : cX1_canFace.data.toList.drop 24 = dktX1_canFace_1 := dk_seg dksX1_canFace_0 24 rfl rfl
theorem dX1_canFace_0 : decode cX1_canFace 0 = .ok (.aload_n 0, 1) := dk_42 (dk_at dksX1_canFace_0 0 rfl rfl)
theorem dX1_canFace_1 : decode cX1_canFace 1 = .ok (.iload_n 1, 1) := dk_27 (dk_at dksX1_canFace_0 1 rfl rfl)
theorem dX1_canFace_2 : decode cX1_canFace 2 = .ok (.invokevirtual 250, 3) := dk_182 0 250 (dk_at dksX1_canFace_0 2 rfl rfl)
theorem dX1_canFace_5 : decode cX1_canFace 5 = .ok (.ifCond .eq 19, 3) := dk_153 0 19 (dk_at dksX1_canFace_0 5 rfl rfl)
theorem dX1_canFace_8 : decode cX1_canFace 8 = .ok (.iload_n 2, 1) := dk_28 (dk_at dksX1_canFace_0 8 rfl rfl)
theorem dX1_canFace_9 : decode cX1_canFace 9 = .ok (.i2l, 1) := dk_133 (dk_at dksX1_canFace_0 9 rfl rfl)
theorem dX1_canFace_10 : decode cX1_canFace 10 = .ok (.lconst 0, 1) := dk_9 (dk_at dksX1_canFace_0 10 rfl rfl)
theorem dX1_canFace_11 : decode cX1_canFace 11 = .ok (.ldc2_w 333, 3) := dk_20 1 77 (dk_at dksX1_canFace_0 11 rfl rfl)
theorem dX1_canFace_14 : decode cX1_canFace 14 = .ok (.invokestatic 146, 3) := dk_184 0 146 (dk_at dksX1_canFace_0 14 rfl rfl)
theorem dX1_canFace_17 : decode cX1_canFace 17 = .ok (.ifCond .eq 7, 3) := dk_153 0 7 (dk_at dksX1_canFace_0 17 rfl rfl)
theorem dX1_canFace_20 : decode cX1_canFace 20 = .ok (.iconst 1, 1) := dk_4 (dk_at dksX1_canFace_0 20 rfl rfl)
theorem dX1_canFace_21 : decode cX1_canFace 21 = .ok (.goto 4, 3) := dk_167 0 4 (dk_at dksX1_canFace_0 21 rfl rfl)
theorem dX1_canFace_24 : decode cX1_canFace 24 = .ok (.iconst 0, 1) := dk_3 (dk_at dksX1_canFace_1 0 rfl rfl)
theorem dX1_canFace_25 : decode cX1_canFace 25 = .ok (.ireturn, 1) := dk_172 (dk_at dksX1_canFace_1 1 rfl rfl)
abbrev cX1_isMan : ByteArray := prog_1_method_11_code
def yX1_isMan : MethodName := ⟨RX1, "isMan", "(I)Z"⟩
def dkwX1_isMan_0 : List UInt8 := [27, 133, 9, 42, 180, 0, 150, 4, 100, 133, 184, 0, 146, 172]
abbrev dktX1_isMan_0 : List UInt8 := dkwX1_isMan_0 ++ []
theorem dksX1_isMan_0 : cX1_isMan.data.toList.drop 0 = dktX1_isMan_0 := by decide +kernel
theorem dX1_isMan_0 : decode cX1_isMan 0 = .ok (.iload_n 1, 1) := dk_27 (dk_at dksX1_isMan_0 0 rfl rfl)
theorem dX1_isMan_1 : decode cX1_isMan 1 = .ok (.i2l, 1) := dk_133 (dk_at dksX1_isMan_0 1 rfl rfl)
theorem dX1_isMan_2 : decode cX1_isMan 2 = .ok (.lconst 0, 1) := dk_9 (dk_at dksX1_isMan_0 2 rfl rfl)
theorem dX1_isMan_3 : decode cX1_isMan 3 = .ok (.aload_n 0, 1) := dk_42 (dk_at dksX1_isMan_0 3 rfl rfl)
theorem dX1_isMan_4 : decode cX1_isMan 4 = .ok (.getfield 150, 3) := dk_180 0 150 (dk_at dksX1_isMan_0 4 rfl rfl)
theorem dX1_isMan_7 : decode cX1_isMan 7 = .ok (.iconst 1, 1) := dk_4 (dk_at dksX1_isMan_0 7 rfl rfl)
theorem dX1_isMan_8 : decode cX1_isMan 8 = .ok (.isub, 1) := dk_100 (dk_at dksX1_isMan_0 8 rfl rfl)
theorem dX1_isMan_9 : decode cX1_isMan 9 = .ok (.i2l, 1) := dk_133 (dk_at dksX1_isMan_0 9 rfl rfl)
theorem dX1_isMan_10 : decode cX1_isMan 10 = .ok (.invokestatic 146, 3) := dk_184 0 146 (dk_at dksX1_isMan_0 10 rfl rfl)
theorem dX1_isMan_13 : decode cX1_isMan 13 = .ok (.ireturn, 1) := dk_172 (dk_at dksX1_isMan_0 13 rfl rfl)
abbrev cX1_steps : ByteArray := prog_1_method_50_code
def yX1_steps : MethodName := ⟨RX1, "steps", "(II)I"⟩
def dkwX1_steps_2 : List UInt8 := [182, 1, 91, 79, 42, 180, 0, 84, 180, 0, 217, 27, 46, 172]
abbrev dktX1_steps_2 : List UInt8 := dkwX1_steps_2 ++ []
def dkwX1_steps_1 : List UInt8 := [182, 1, 64, 42, 180, 0, 84, 180, 0, 217, 27, 42, 42, 180, 0, 84, 180, 0, 217, 27, 46, 28]
abbrev dktX1_steps_1 : List UInt8 := dkwX1_steps_1 ++ dktX1_steps_2
def dkwX1_steps_0 : List UInt8 := [42, 42, 180, 0, 84, 27, 28, 182, 1, 94, 62, 29, 156, 0, 5, 29, 172, 42, 42, 180, 0, 84]
abbrev dktX1_steps_0 : List UInt8 := dkwX1_steps_0 ++ dktX1_steps_1
theorem dksX1_steps_0 : cX1_steps.data.toList.drop 0 = dktX1_steps_0 := by decide +kernel
theorem dksX1_steps_1 : cX1_steps.data.toList.drop 22 = dktX1_steps_1 := dk_seg dksX1_steps_0 22 rfl rfl
theorem dksX1_steps_2 : cX1_steps.data.toList.drop 44 = dktX1_steps_2 := dk_seg dksX1_steps_1 22 rfl rfl
theorem dX1_steps_0 : decode cX1_steps 0 = .ok (.aload_n 0, 1) := dk_42 (dk_at dksX1_steps_0 0 rfl rfl)
theorem dX1_steps_1 : decode cX1_steps 1 = .ok (.aload_n 0, 1) := dk_42 (dk_at dksX1_steps_0 1 rfl rfl)
theorem dX1_steps_2 : decode cX1_steps 2 = .ok (.getfield 84, 3) := dk_180 0 84 (dk_at dksX1_steps_0 2 rfl rfl)
theorem dX1_steps_5 : decode cX1_steps 5 = .ok (.iload_n 1, 1) := dk_27 (dk_at dksX1_steps_0 5 rfl rfl)
theorem dX1_steps_6 : decode cX1_steps 6 = .ok (.iload_n 2, 1) := dk_28 (dk_at dksX1_steps_0 6 rfl rfl)
theorem dX1_steps_7 : decode cX1_steps 7 = .ok (.invokevirtual 350, 3) := dk_182 1 94 (dk_at dksX1_steps_0 7 rfl rfl)
theorem dX1_steps_10 : decode cX1_steps 10 = .ok (.istore_n 3, 1) := dk_62 (dk_at dksX1_steps_0 10 rfl rfl)
theorem dX1_steps_11 : decode cX1_steps 11 = .ok (.iload_n 3, 1) := dk_29 (dk_at dksX1_steps_0 11 rfl rfl)
theorem dX1_steps_12 : decode cX1_steps 12 = .ok (.ifCond .ge 5, 3) := dk_156 0 5 (dk_at dksX1_steps_0 12 rfl rfl)
theorem dX1_steps_15 : decode cX1_steps 15 = .ok (.iload_n 3, 1) := dk_29 (dk_at dksX1_steps_0 15 rfl rfl)
theorem dX1_steps_16 : decode cX1_steps 16 = .ok (.ireturn, 1) := dk_172 (dk_at dksX1_steps_0 16 rfl rfl)
theorem dX1_steps_17 : decode cX1_steps 17 = .ok (.aload_n 0, 1) := dk_42 (dk_at dksX1_steps_0 17 rfl rfl)
theorem dX1_steps_18 : decode cX1_steps 18 = .ok (.aload_n 0, 1) := dk_42 (dk_at dksX1_steps_0 18 rfl rfl)
theorem dX1_steps_19 : decode cX1_steps 19 = .ok (.getfield 84, 3) := dk_180 0 84 (dk_at dksX1_steps_0 19 rfl rfl)
theorem dX1_steps_22 : decode cX1_steps 22 = .ok (.invokevirtual 320, 3) := dk_182 1 64 (dk_at dksX1_steps_1 0 rfl rfl)
theorem dX1_steps_25 : decode cX1_steps 25 = .ok (.aload_n 0, 1) := dk_42 (dk_at dksX1_steps_1 3 rfl rfl)
theorem dX1_steps_26 : decode cX1_steps 26 = .ok (.getfield 84, 3) := dk_180 0 84 (dk_at dksX1_steps_1 4 rfl rfl)
theorem dX1_steps_29 : decode cX1_steps 29 = .ok (.getfield 217, 3) := dk_180 0 217 (dk_at dksX1_steps_1 7 rfl rfl)
theorem dX1_steps_32 : decode cX1_steps 32 = .ok (.iload_n 1, 1) := dk_27 (dk_at dksX1_steps_1 10 rfl rfl)
theorem dX1_steps_33 : decode cX1_steps 33 = .ok (.aload_n 0, 1) := dk_42 (dk_at dksX1_steps_1 11 rfl rfl)
theorem dX1_steps_34 : decode cX1_steps 34 = .ok (.aload_n 0, 1) := dk_42 (dk_at dksX1_steps_1 12 rfl rfl)
theorem dX1_steps_35 : decode cX1_steps 35 = .ok (.getfield 84, 3) := dk_180 0 84 (dk_at dksX1_steps_1 13 rfl rfl)
theorem dX1_steps_38 : decode cX1_steps 38 = .ok (.getfield 217, 3) := dk_180 0 217 (dk_at dksX1_steps_1 16 rfl rfl)
theorem dX1_steps_41 : decode cX1_steps 41 = .ok (.iload_n 1, 1) := dk_27 (dk_at dksX1_steps_1 19 rfl rfl)
theorem dX1_steps_42 : decode cX1_steps 42 = .ok (.iaload, 1) := dk_46 (dk_at dksX1_steps_1 20 rfl rfl)
theorem dX1_steps_43 : decode cX1_steps 43 = .ok (.iload_n 2, 1) := dk_28 (dk_at dksX1_steps_1 21 rfl rfl)
theorem dX1_steps_44 : decode cX1_steps 44 = .ok (.invokevirtual 347, 3) := dk_182 1 91 (dk_at dksX1_steps_2 0 rfl rfl)
theorem dX1_steps_47 : decode cX1_steps 47 = .ok (.iastore, 1) := dk_79 (dk_at dksX1_steps_2 3 rfl rfl)
theorem dX1_steps_48 : decode cX1_steps 48 = .ok (.aload_n 0, 1) := dk_42 (dk_at dksX1_steps_2 4 rfl rfl)
theorem dX1_steps_49 : decode cX1_steps 49 = .ok (.getfield 84, 3) := dk_180 0 84 (dk_at dksX1_steps_2 5 rfl rfl)
theorem dX1_steps_52 : decode cX1_steps 52 = .ok (.getfield 217, 3) := dk_180 0 217 (dk_at dksX1_steps_2 8 rfl rfl)
theorem dX1_steps_55 : decode cX1_steps 55 = .ok (.iload_n 1, 1) := dk_27 (dk_at dksX1_steps_2 11 rfl rfl)
theorem dX1_steps_56 : decode cX1_steps 56 = .ok (.iaload, 1) := dk_46 (dk_at dksX1_steps_2 12 rfl rfl)
theorem dX1_steps_57 : decode cX1_steps 57 = .ok (.ireturn, 1) := dk_172 (dk_at dksX1_steps_2 13 rfl rfl)
abbrev cX1_refusesStep : ByteArray := prog_1_method_49_code
def yX1_refusesStep : MethodName := ⟨RX1, "refusesStep", "(LBonnetValley$Upland;II)I"⟩
def dkwX1_refusesStep_1 : List UInt8 := [160, 0, 8, 16, 254, 167, 0, 4, 3, 172]
abbrev dktX1_refusesStep_1 : List UInt8 := dkwX1_refusesStep_1 ++ []
def dkwX1_refusesStep_0 : List UInt8 := [42, 28, 29, 182, 1, 79, 154, 0, 5, 2, 172, 42, 43, 180, 0, 217, 28, 46, 29, 182, 1, 91, 2]
abbrev dktX1_refusesStep_0 : List UInt8 := dkwX1_refusesStep_0 ++ dktX1_refusesStep_1
theorem dksX1_refusesStep_0 : cX1_refusesStep.data.toList.drop 0 = dktX1_refusesStep_0 := by decide +kernel
theorem dksX1_refusesStep_1 : cX1_refusesStep.data.toList.drop 23 = dktX1_refusesStep_1 := dk_seg dksX1_refusesStep_0 23 rfl rfl
theorem dX1_refusesStep_0 : decode cX1_refusesStep 0 = .ok (.aload_n 0, 1) := dk_42 (dk_at dksX1_refusesStep_0 0 rfl rfl)
theorem dX1_refusesStep_1 : decode cX1_refusesStep 1 = .ok (.iload_n 2, 1) := dk_28 (dk_at dksX1_refusesStep_0 1 rfl rfl)
theorem dX1_refusesStep_2 : decode cX1_refusesStep 2 = .ok (.iload_n 3, 1) := dk_29 (dk_at dksX1_refusesStep_0 2 rfl rfl)
theorem dX1_refusesStep_3 : decode cX1_refusesStep 3 = .ok (.invokevirtual 335, 3) := dk_182 1 79 (dk_at dksX1_refusesStep_0 3 rfl rfl)
theorem dX1_refusesStep_6 : decode cX1_refusesStep 6 = .ok (.ifCond .ne 5, 3) := dk_154 0 5 (dk_at dksX1_refusesStep_0 6 rfl rfl)
theorem dX1_refusesStep_9 : decode cX1_refusesStep 9 = .ok (.iconst (-1), 1) := dk_2 (dk_at dksX1_refusesStep_0 9 rfl rfl)
theorem dX1_refusesStep_10 : decode cX1_refusesStep 10 = .ok (.ireturn, 1) := dk_172 (dk_at dksX1_refusesStep_0 10 rfl rfl)
theorem dX1_refusesStep_11 : decode cX1_refusesStep 11 = .ok (.aload_n 0, 1) := dk_42 (dk_at dksX1_refusesStep_0 11 rfl rfl)
theorem dX1_refusesStep_12 : decode cX1_refusesStep 12 = .ok (.aload_n 1, 1) := dk_43 (dk_at dksX1_refusesStep_0 12 rfl rfl)
theorem dX1_refusesStep_13 : decode cX1_refusesStep 13 = .ok (.getfield 217, 3) := dk_180 0 217 (dk_at dksX1_refusesStep_0 13 rfl rfl)
theorem dX1_refusesStep_16 : decode cX1_refusesStep 16 = .ok (.iload_n 2, 1) := dk_28 (dk_at dksX1_refusesStep_0 16 rfl rfl)
theorem dX1_refusesStep_17 : decode cX1_refusesStep 17 = .ok (.iaload, 1) := dk_46 (dk_at dksX1_refusesStep_0 17 rfl rfl)
theorem dX1_refusesStep_18 : decode cX1_refusesStep 18 = .ok (.iload_n 3, 1) := dk_29 (dk_at dksX1_refusesStep_0 18 rfl rfl)
theorem dX1_refusesStep_19 : decode cX1_refusesStep 19 = .ok (.invokevirtual 347, 3) := dk_182 1 91 (dk_at dksX1_refusesStep_0 19 rfl rfl)
theorem dX1_refusesStep_22 : decode cX1_refusesStep 22 = .ok (.iconst (-1), 1) := dk_2 (dk_at dksX1_refusesStep_0 22 rfl rfl)
theorem dX1_refusesStep_23 : decode cX1_refusesStep 23 = .ok (.if_icmp .ne 8, 3) := dk_160 0 8 (dk_at dksX1_refusesStep_1 0 rfl rfl)
theorem dX1_refusesStep_26 : decode cX1_refusesStep 26 = .ok (.bipush (-2), 2) := dk_16 254 (dk_at dksX1_refusesStep_1 3 rfl rfl)
theorem dX1_refusesStep_28 : decode cX1_refusesStep 28 = .ok (.goto 4, 3) := dk_167 0 4 (dk_at dksX1_refusesStep_1 5 rfl rfl)
theorem dX1_refusesStep_31 : decode cX1_refusesStep 31 = .ok (.iconst 0, 1) := dk_3 (dk_at dksX1_refusesStep_1 8 rfl rfl)
theorem dX1_refusesStep_32 : decode cX1_refusesStep 32 = .ok (.ireturn, 1) := dk_172 (dk_at dksX1_refusesStep_1 9 rfl rfl)
abbrev cX1_stepOf : ByteArray := prog_1_method_48_code
def yX1_stepOf : MethodName := ⟨RX1, "stepOf", "(II)I"⟩
def dkwX1_stepOf_3 : List UInt8 := [182, 0, 209, 153, 0, 7, 2, 167, 0, 12, 42, 180, 0, 13, 29, 104, 21, 4, 96, 172]
abbrev dktX1_stepOf_3 : List UInt8 := dkwX1_stepOf_3 ++ []
def dkwX1_stepOf_2 : List UInt8 := [180, 0, 13, 4, 100, 133, 184, 0, 146, 153, 0, 19, 42, 42, 180, 0, 13, 29, 104, 21, 4, 96]
abbrev dktX1_stepOf_2 : List UInt8 := dkwX1_stepOf_2 ++ dktX1_stepOf_3
def dkwX1_stepOf_1 : List UInt8 := [96, 54, 4, 29, 133, 9, 42, 180, 0, 80, 4, 100, 133, 184, 0, 146, 153, 0, 36, 21, 4, 133, 9, 42]
abbrev dktX1_stepOf_1 : List UInt8 := dkwX1_stepOf_1 ++ dktX1_stepOf_2
def dkwX1_stepOf_0 : List UInt8 := [27, 42, 180, 0, 13, 108, 178, 1, 85, 28, 46, 96, 62, 27, 42, 180, 0, 13, 112, 178, 1, 88, 28, 46]
abbrev dktX1_stepOf_0 : List UInt8 := dkwX1_stepOf_0 ++ dktX1_stepOf_1
theorem dksX1_stepOf_0 : cX1_stepOf.data.toList.drop 0 = dktX1_stepOf_0 := by decide +kernel
theorem dksX1_stepOf_1 : cX1_stepOf.data.toList.drop 24 = dktX1_stepOf_1 := dk_seg dksX1_stepOf_0 24 rfl rfl
theorem dksX1_stepOf_2 : cX1_stepOf.data.toList.drop 48 = dktX1_stepOf_2 := dk_seg dksX1_stepOf_1 24 rfl rfl
theorem dksX1_stepOf_3 : cX1_stepOf.data.toList.drop 70 = dktX1_stepOf_3 := dk_seg dksX1_stepOf_2 22 rfl rfl
theorem dX1_stepOf_0 : decode cX1_stepOf 0 = .ok (.iload_n 1, 1) := dk_27 (dk_at dksX1_stepOf_0 0 rfl rfl)
theorem dX1_stepOf_1 : decode cX1_stepOf 1 = .ok (.aload_n 0, 1) := dk_42 (dk_at dksX1_stepOf_0 1 rfl rfl)
theorem dX1_stepOf_2 : decode cX1_stepOf 2 = .ok (.getfield 13, 3) := dk_180 0 13 (dk_at dksX1_stepOf_0 2 rfl rfl)
theorem dX1_stepOf_5 : decode cX1_stepOf 5 = .ok (.idiv, 1) := dk_108 (dk_at dksX1_stepOf_0 5 rfl rfl)
theorem dX1_stepOf_6 : decode cX1_stepOf 6 = .ok (.getstatic 341, 3) := dk_178 1 85 (dk_at dksX1_stepOf_0 6 rfl rfl)
theorem dX1_stepOf_9 : decode cX1_stepOf 9 = .ok (.iload_n 2, 1) := dk_28 (dk_at dksX1_stepOf_0 9 rfl rfl)
theorem dX1_stepOf_10 : decode cX1_stepOf 10 = .ok (.iaload, 1) := dk_46 (dk_at dksX1_stepOf_0 10 rfl rfl)
theorem dX1_stepOf_11 : decode cX1_stepOf 11 = .ok (.iadd, 1) := dk_96 (dk_at dksX1_stepOf_0 11 rfl rfl)
theorem dX1_stepOf_12 : decode cX1_stepOf 12 = .ok (.istore_n 3, 1) := dk_62 (dk_at dksX1_stepOf_0 12 rfl rfl)
theorem dX1_stepOf_13 : decode cX1_stepOf 13 = .ok (.iload_n 1, 1) := dk_27 (dk_at dksX1_stepOf_0 13 rfl rfl)
theorem dX1_stepOf_14 : decode cX1_stepOf 14 = .ok (.aload_n 0, 1) := dk_42 (dk_at dksX1_stepOf_0 14 rfl rfl)
theorem dX1_stepOf_15 : decode cX1_stepOf 15 = .ok (.getfield 13, 3) := dk_180 0 13 (dk_at dksX1_stepOf_0 15 rfl rfl)
theorem dX1_stepOf_18 : decode cX1_stepOf 18 = .ok (.irem, 1) := dk_112 (dk_at dksX1_stepOf_0 18 rfl rfl)
theorem dX1_stepOf_19 : decode cX1_stepOf 19 = .ok (.getstatic 344, 3) := dk_178 1 88 (dk_at dksX1_stepOf_0 19 rfl rfl)
theorem dX1_stepOf_22 : decode cX1_stepOf 22 = .ok (.iload_n 2, 1) := dk_28 (dk_at dksX1_stepOf_0 22 rfl rfl)
theorem dX1_stepOf_23 : decode cX1_stepOf 23 = .ok (.iaload, 1) := dk_46 (dk_at dksX1_stepOf_0 23 rfl rfl)
theorem dX1_stepOf_24 : decode cX1_stepOf 24 = .ok (.iadd, 1) := dk_96 (dk_at dksX1_stepOf_1 0 rfl rfl)
theorem dX1_stepOf_25 : decode cX1_stepOf 25 = .ok (.istore 4, 2) := dk_54 4 (dk_at dksX1_stepOf_1 1 rfl rfl)
theorem dX1_stepOf_27 : decode cX1_stepOf 27 = .ok (.iload_n 3, 1) := dk_29 (dk_at dksX1_stepOf_1 3 rfl rfl)
theorem dX1_stepOf_28 : decode cX1_stepOf 28 = .ok (.i2l, 1) := dk_133 (dk_at dksX1_stepOf_1 4 rfl rfl)
theorem dX1_stepOf_29 : decode cX1_stepOf 29 = .ok (.lconst 0, 1) := dk_9 (dk_at dksX1_stepOf_1 5 rfl rfl)
theorem dX1_stepOf_30 : decode cX1_stepOf 30 = .ok (.aload_n 0, 1) := dk_42 (dk_at dksX1_stepOf_1 6 rfl rfl)
theorem dX1_stepOf_31 : decode cX1_stepOf 31 = .ok (.getfield 80, 3) := dk_180 0 80 (dk_at dksX1_stepOf_1 7 rfl rfl)
theorem dX1_stepOf_34 : decode cX1_stepOf 34 = .ok (.iconst 1, 1) := dk_4 (dk_at dksX1_stepOf_1 10 rfl rfl)
theorem dX1_stepOf_35 : decode cX1_stepOf 35 = .ok (.isub, 1) := dk_100 (dk_at dksX1_stepOf_1 11 rfl rfl)
theorem dX1_stepOf_36 : decode cX1_stepOf 36 = .ok (.i2l, 1) := dk_133 (dk_at dksX1_stepOf_1 12 rfl rfl)
theorem dX1_stepOf_37 : decode cX1_stepOf 37 = .ok (.invokestatic 146, 3) := dk_184 0 146 (dk_at dksX1_stepOf_1 13 rfl rfl)
theorem dX1_stepOf_40 : decode cX1_stepOf 40 = .ok (.ifCond .eq 36, 3) := dk_153 0 36 (dk_at dksX1_stepOf_1 16 rfl rfl)
theorem dX1_stepOf_43 : decode cX1_stepOf 43 = .ok (.iload 4, 2) := dk_21 4 (dk_at dksX1_stepOf_1 19 rfl rfl)
theorem dX1_stepOf_45 : decode cX1_stepOf 45 = .ok (.i2l, 1) := dk_133 (dk_at dksX1_stepOf_1 21 rfl rfl)
theorem dX1_stepOf_46 : decode cX1_stepOf 46 = .ok (.lconst 0, 1) := dk_9 (dk_at dksX1_stepOf_1 22 rfl rfl)
theorem dX1_stepOf_47 : decode cX1_stepOf 47 = .ok (.aload_n 0, 1) := dk_42 (dk_at dksX1_stepOf_1 23 rfl rfl)
theorem dX1_stepOf_48 : decode cX1_stepOf 48 = .ok (.getfield 13, 3) := dk_180 0 13 (dk_at dksX1_stepOf_2 0 rfl rfl)
theorem dX1_stepOf_51 : decode cX1_stepOf 51 = .ok (.iconst 1, 1) := dk_4 (dk_at dksX1_stepOf_2 3 rfl rfl)
theorem dX1_stepOf_52 : decode cX1_stepOf 52 = .ok (.isub, 1) := dk_100 (dk_at dksX1_stepOf_2 4 rfl rfl)
theorem dX1_stepOf_53 : decode cX1_stepOf 53 = .ok (.i2l, 1) := dk_133 (dk_at dksX1_stepOf_2 5 rfl rfl)
theorem dX1_stepOf_54 : decode cX1_stepOf 54 = .ok (.invokestatic 146, 3) := dk_184 0 146 (dk_at dksX1_stepOf_2 6 rfl rfl)
theorem dX1_stepOf_57 : decode cX1_stepOf 57 = .ok (.ifCond .eq 19, 3) := dk_153 0 19 (dk_at dksX1_stepOf_2 9 rfl rfl)
theorem dX1_stepOf_60 : decode cX1_stepOf 60 = .ok (.aload_n 0, 1) := dk_42 (dk_at dksX1_stepOf_2 12 rfl rfl)
theorem dX1_stepOf_61 : decode cX1_stepOf 61 = .ok (.aload_n 0, 1) := dk_42 (dk_at dksX1_stepOf_2 13 rfl rfl)
theorem dX1_stepOf_62 : decode cX1_stepOf 62 = .ok (.getfield 13, 3) := dk_180 0 13 (dk_at dksX1_stepOf_2 14 rfl rfl)
theorem dX1_stepOf_65 : decode cX1_stepOf 65 = .ok (.iload_n 3, 1) := dk_29 (dk_at dksX1_stepOf_2 17 rfl rfl)
theorem dX1_stepOf_66 : decode cX1_stepOf 66 = .ok (.imul, 1) := dk_104 (dk_at dksX1_stepOf_2 18 rfl rfl)
theorem dX1_stepOf_67 : decode cX1_stepOf 67 = .ok (.iload 4, 2) := dk_21 4 (dk_at dksX1_stepOf_2 19 rfl rfl)
theorem dX1_stepOf_69 : decode cX1_stepOf 69 = .ok (.iadd, 1) := dk_96 (dk_at dksX1_stepOf_2 21 rfl rfl)
theorem dX1_stepOf_70 : decode cX1_stepOf 70 = .ok (.invokevirtual 209, 3) := dk_182 0 209 (dk_at dksX1_stepOf_3 0 rfl rfl)
theorem dX1_stepOf_73 : decode cX1_stepOf 73 = .ok (.ifCond .eq 7, 3) := dk_153 0 7 (dk_at dksX1_stepOf_3 3 rfl rfl)
theorem dX1_stepOf_76 : decode cX1_stepOf 76 = .ok (.iconst (-1), 1) := dk_2 (dk_at dksX1_stepOf_3 6 rfl rfl)
theorem dX1_stepOf_77 : decode cX1_stepOf 77 = .ok (.goto 12, 3) := dk_167 0 12 (dk_at dksX1_stepOf_3 7 rfl rfl)
theorem dX1_stepOf_80 : decode cX1_stepOf 80 = .ok (.aload_n 0, 1) := dk_42 (dk_at dksX1_stepOf_3 10 rfl rfl)
theorem dX1_stepOf_81 : decode cX1_stepOf 81 = .ok (.getfield 13, 3) := dk_180 0 13 (dk_at dksX1_stepOf_3 11 rfl rfl)
theorem dX1_stepOf_84 : decode cX1_stepOf 84 = .ok (.iload_n 3, 1) := dk_29 (dk_at dksX1_stepOf_3 14 rfl rfl)
theorem dX1_stepOf_85 : decode cX1_stepOf 85 = .ok (.imul, 1) := dk_104 (dk_at dksX1_stepOf_3 15 rfl rfl)
theorem dX1_stepOf_86 : decode cX1_stepOf 86 = .ok (.iload 4, 2) := dk_21 4 (dk_at dksX1_stepOf_3 16 rfl rfl)
theorem dX1_stepOf_88 : decode cX1_stepOf 88 = .ok (.iadd, 1) := dk_96 (dk_at dksX1_stepOf_3 18 rfl rfl)
theorem dX1_stepOf_89 : decode cX1_stepOf 89 = .ok (.ireturn, 1) := dk_172 (dk_at dksX1_stepOf_3 19 rfl rfl)
abbrev cX1_trims : ByteArray := prog_1_method_52_code
def yX1_trims : MethodName := ⟨RX1, "trims", "(II)I"⟩
def dkwX1_trims_1 : List UInt8 := [180, 0, 222, 27, 46, 62, 42, 180, 0, 84, 180, 0, 222, 27, 28, 79, 29, 172]
abbrev dktX1_trims_1 : List UInt8 := dkwX1_trims_1 ++ []
def dkwX1_trims_0 : List UInt8 := [42, 27, 28, 182, 1, 99, 154, 0, 5, 2, 172, 42, 42, 180, 0, 84, 182, 1, 64, 42, 180, 0, 84]
abbrev dktX1_trims_0 : List UInt8 := dkwX1_trims_0 ++ dktX1_trims_1
theorem dksX1_trims_0 : cX1_trims.data.toList.drop 0 = dktX1_trims_0 := by decide +kernel
theorem dksX1_trims_1 : cX1_trims.data.toList.drop 23 = dktX1_trims_1 := dk_seg dksX1_trims_0 23 rfl rfl
theorem dX1_trims_0 : decode cX1_trims 0 = .ok (.aload_n 0, 1) := dk_42 (dk_at dksX1_trims_0 0 rfl rfl)
theorem dX1_trims_1 : decode cX1_trims 1 = .ok (.iload_n 1, 1) := dk_27 (dk_at dksX1_trims_0 1 rfl rfl)
theorem dX1_trims_2 : decode cX1_trims 2 = .ok (.iload_n 2, 1) := dk_28 (dk_at dksX1_trims_0 2 rfl rfl)
theorem dX1_trims_3 : decode cX1_trims 3 = .ok (.invokevirtual 355, 3) := dk_182 1 99 (dk_at dksX1_trims_0 3 rfl rfl)
theorem dX1_trims_6 : decode cX1_trims 6 = .ok (.ifCond .ne 5, 3) := dk_154 0 5 (dk_at dksX1_trims_0 6 rfl rfl)
theorem dX1_trims_9 : decode cX1_trims 9 = .ok (.iconst (-1), 1) := dk_2 (dk_at dksX1_trims_0 9 rfl rfl)
theorem dX1_trims_10 : decode cX1_trims 10 = .ok (.ireturn, 1) := dk_172 (dk_at dksX1_trims_0 10 rfl rfl)
theorem dX1_trims_11 : decode cX1_trims 11 = .ok (.aload_n 0, 1) := dk_42 (dk_at dksX1_trims_0 11 rfl rfl)
theorem dX1_trims_12 : decode cX1_trims 12 = .ok (.aload_n 0, 1) := dk_42 (dk_at dksX1_trims_0 12 rfl rfl)
theorem dX1_trims_13 : decode cX1_trims 13 = .ok (.getfield 84, 3) := dk_180 0 84 (dk_at dksX1_trims_0 13 rfl rfl)
theorem dX1_trims_16 : decode cX1_trims 16 = .ok (.invokevirtual 320, 3) := dk_182 1 64 (dk_at dksX1_trims_0 16 rfl rfl)
theorem dX1_trims_19 : decode cX1_trims 19 = .ok (.aload_n 0, 1) := dk_42 (dk_at dksX1_trims_0 19 rfl rfl)
theorem dX1_trims_20 : decode cX1_trims 20 = .ok (.getfield 84, 3) := dk_180 0 84 (dk_at dksX1_trims_0 20 rfl rfl)
theorem dX1_trims_23 : decode cX1_trims 23 = .ok (.getfield 222, 3) := dk_180 0 222 (dk_at dksX1_trims_1 0 rfl rfl)
theorem dX1_trims_26 : decode cX1_trims 26 = .ok (.iload_n 1, 1) := dk_27 (dk_at dksX1_trims_1 3 rfl rfl)
theorem dX1_trims_27 : decode cX1_trims 27 = .ok (.iaload, 1) := dk_46 (dk_at dksX1_trims_1 4 rfl rfl)
theorem dX1_trims_28 : decode cX1_trims 28 = .ok (.istore_n 3, 1) := dk_62 (dk_at dksX1_trims_1 5 rfl rfl)
theorem dX1_trims_29 : decode cX1_trims 29 = .ok (.aload_n 0, 1) := dk_42 (dk_at dksX1_trims_1 6 rfl rfl)
theorem dX1_trims_30 : decode cX1_trims 30 = .ok (.getfield 84, 3) := dk_180 0 84 (dk_at dksX1_trims_1 7 rfl rfl)
theorem dX1_trims_33 : decode cX1_trims 33 = .ok (.getfield 222, 3) := dk_180 0 222 (dk_at dksX1_trims_1 10 rfl rfl)
theorem dX1_trims_36 : decode cX1_trims 36 = .ok (.iload_n 1, 1) := dk_27 (dk_at dksX1_trims_1 13 rfl rfl)
theorem dX1_trims_37 : decode cX1_trims 37 = .ok (.iload_n 2, 1) := dk_28 (dk_at dksX1_trims_1 14 rfl rfl)
theorem dX1_trims_38 : decode cX1_trims 38 = .ok (.iastore, 1) := dk_79 (dk_at dksX1_trims_1 15 rfl rfl)
theorem dX1_trims_39 : decode cX1_trims 39 = .ok (.iload_n 3, 1) := dk_29 (dk_at dksX1_trims_1 16 rfl rfl)
theorem dX1_trims_40 : decode cX1_trims 40 = .ok (.ireturn, 1) := dk_172 (dk_at dksX1_trims_1 17 rfl rfl)
abbrev cX1_canTrim : ByteArray := prog_1_method_51_code
def yX1_canTrim : MethodName := ⟨RX1, "canTrim", "(II)Z"⟩
def dkwX1_canTrim_1 : List UInt8 := [3, 172]
abbrev dktX1_canTrim_1 : List UInt8 := dkwX1_canTrim_1 ++ []
def dkwX1_canTrim_0 : List UInt8 := [42, 27, 182, 0, 250, 153, 0, 19, 28, 133, 9, 20, 1, 97, 184, 0, 146, 153, 0, 7, 4, 167, 0, 4]
abbrev dktX1_canTrim_0 : List UInt8 := dkwX1_canTrim_0 ++ dktX1_canTrim_1
theorem dksX1_canTrim_0 : cX1_canTrim.data.toList.drop 0 = dktX1_canTrim_0 := by decide +kernel
theorem dksX1_canTrim_1 : cX1_canTrim.data.toList.drop 24 = dktX1_canTrim_1 := dk_seg dksX1_canTrim_0 24 rfl rfl
theorem dX1_canTrim_0 : decode cX1_canTrim 0 = .ok (.aload_n 0, 1) := dk_42 (dk_at dksX1_canTrim_0 0 rfl rfl)
theorem dX1_canTrim_1 : decode cX1_canTrim 1 = .ok (.iload_n 1, 1) := dk_27 (dk_at dksX1_canTrim_0 1 rfl rfl)
theorem dX1_canTrim_2 : decode cX1_canTrim 2 = .ok (.invokevirtual 250, 3) := dk_182 0 250 (dk_at dksX1_canTrim_0 2 rfl rfl)
theorem dX1_canTrim_5 : decode cX1_canTrim 5 = .ok (.ifCond .eq 19, 3) := dk_153 0 19 (dk_at dksX1_canTrim_0 5 rfl rfl)
theorem dX1_canTrim_8 : decode cX1_canTrim 8 = .ok (.iload_n 2, 1) := dk_28 (dk_at dksX1_canTrim_0 8 rfl rfl)
theorem dX1_canTrim_9 : decode cX1_canTrim 9 = .ok (.i2l, 1) := dk_133 (dk_at dksX1_canTrim_0 9 rfl rfl)
theorem dX1_canTrim_10 : decode cX1_canTrim 10 = .ok (.lconst 0, 1) := dk_9 (dk_at dksX1_canTrim_0 10 rfl rfl)
theorem dX1_canTrim_11 : decode cX1_canTrim 11 = .ok (.ldc2_w 353, 3) := dk_20 1 97 (dk_at dksX1_canTrim_0 11 rfl rfl)
theorem dX1_canTrim_14 : decode cX1_canTrim 14 = .ok (.invokestatic 146, 3) := dk_184 0 146 (dk_at dksX1_canTrim_0 14 rfl rfl)
theorem dX1_canTrim_17 : decode cX1_canTrim 17 = .ok (.ifCond .eq 7, 3) := dk_153 0 7 (dk_at dksX1_canTrim_0 17 rfl rfl)
theorem dX1_canTrim_20 : decode cX1_canTrim 20 = .ok (.iconst 1, 1) := dk_4 (dk_at dksX1_canTrim_0 20 rfl rfl)
theorem dX1_canTrim_21 : decode cX1_canTrim 21 = .ok (.goto 4, 3) := dk_167 0 4 (dk_at dksX1_canTrim_0 21 rfl rfl)
theorem dX1_canTrim_24 : decode cX1_canTrim 24 = .ok (.iconst 0, 1) := dk_3 (dk_at dksX1_canTrim_1 0 rfl rfl)
theorem dX1_canTrim_25 : decode cX1_canTrim 25 = .ok (.ireturn, 1) := dk_172 (dk_at dksX1_canTrim_1 1 rfl rfl)
abbrev cX1_puts : ByteArray := prog_1_method_54_code
def yX1_puts : MethodName := ⟨RX1, "puts", "(II)I"⟩
def dkwX1_puts_1 : List UInt8 := [180, 0, 84, 180, 0, 228, 27, 46, 54, 4, 42, 180, 0, 84, 180, 0, 228, 27, 28, 79, 21, 4, 172]
abbrev dktX1_puts_1 : List UInt8 := dkwX1_puts_1 ++ []
def dkwX1_puts_0 : List UInt8 := [42, 27, 28, 182, 1, 105, 62, 29, 156, 0, 5, 29, 172, 42, 42, 180, 0, 84, 182, 1, 64, 42]
abbrev dktX1_puts_0 : List UInt8 := dkwX1_puts_0 ++ dktX1_puts_1
theorem dksX1_puts_0 : cX1_puts.data.toList.drop 0 = dktX1_puts_0 := by decide +kernel
theorem dksX1_puts_1 : cX1_puts.data.toList.drop 22 = dktX1_puts_1 := dk_seg dksX1_puts_0 22 rfl rfl
theorem dX1_puts_0 : decode cX1_puts 0 = .ok (.aload_n 0, 1) := dk_42 (dk_at dksX1_puts_0 0 rfl rfl)
theorem dX1_puts_1 : decode cX1_puts 1 = .ok (.iload_n 1, 1) := dk_27 (dk_at dksX1_puts_0 1 rfl rfl)
theorem dX1_puts_2 : decode cX1_puts 2 = .ok (.iload_n 2, 1) := dk_28 (dk_at dksX1_puts_0 2 rfl rfl)
theorem dX1_puts_3 : decode cX1_puts 3 = .ok (.invokevirtual 361, 3) := dk_182 1 105 (dk_at dksX1_puts_0 3 rfl rfl)
theorem dX1_puts_6 : decode cX1_puts 6 = .ok (.istore_n 3, 1) := dk_62 (dk_at dksX1_puts_0 6 rfl rfl)
theorem dX1_puts_7 : decode cX1_puts 7 = .ok (.iload_n 3, 1) := dk_29 (dk_at dksX1_puts_0 7 rfl rfl)
theorem dX1_puts_8 : decode cX1_puts 8 = .ok (.ifCond .ge 5, 3) := dk_156 0 5 (dk_at dksX1_puts_0 8 rfl rfl)
theorem dX1_puts_11 : decode cX1_puts 11 = .ok (.iload_n 3, 1) := dk_29 (dk_at dksX1_puts_0 11 rfl rfl)
theorem dX1_puts_12 : decode cX1_puts 12 = .ok (.ireturn, 1) := dk_172 (dk_at dksX1_puts_0 12 rfl rfl)
theorem dX1_puts_13 : decode cX1_puts 13 = .ok (.aload_n 0, 1) := dk_42 (dk_at dksX1_puts_0 13 rfl rfl)
theorem dX1_puts_14 : decode cX1_puts 14 = .ok (.aload_n 0, 1) := dk_42 (dk_at dksX1_puts_0 14 rfl rfl)
theorem dX1_puts_15 : decode cX1_puts 15 = .ok (.getfield 84, 3) := dk_180 0 84 (dk_at dksX1_puts_0 15 rfl rfl)
theorem dX1_puts_18 : decode cX1_puts 18 = .ok (.invokevirtual 320, 3) := dk_182 1 64 (dk_at dksX1_puts_0 18 rfl rfl)
theorem dX1_puts_21 : decode cX1_puts 21 = .ok (.aload_n 0, 1) := dk_42 (dk_at dksX1_puts_0 21 rfl rfl)
theorem dX1_puts_22 : decode cX1_puts 22 = .ok (.getfield 84, 3) := dk_180 0 84 (dk_at dksX1_puts_1 0 rfl rfl)
theorem dX1_puts_25 : decode cX1_puts 25 = .ok (.getfield 228, 3) := dk_180 0 228 (dk_at dksX1_puts_1 3 rfl rfl)
theorem dX1_puts_28 : decode cX1_puts 28 = .ok (.iload_n 1, 1) := dk_27 (dk_at dksX1_puts_1 6 rfl rfl)
theorem dX1_puts_29 : decode cX1_puts 29 = .ok (.iaload, 1) := dk_46 (dk_at dksX1_puts_1 7 rfl rfl)
theorem dX1_puts_30 : decode cX1_puts 30 = .ok (.istore 4, 2) := dk_54 4 (dk_at dksX1_puts_1 8 rfl rfl)
theorem dX1_puts_32 : decode cX1_puts 32 = .ok (.aload_n 0, 1) := dk_42 (dk_at dksX1_puts_1 10 rfl rfl)
theorem dX1_puts_33 : decode cX1_puts 33 = .ok (.getfield 84, 3) := dk_180 0 84 (dk_at dksX1_puts_1 11 rfl rfl)
theorem dX1_puts_36 : decode cX1_puts 36 = .ok (.getfield 228, 3) := dk_180 0 228 (dk_at dksX1_puts_1 14 rfl rfl)
theorem dX1_puts_39 : decode cX1_puts 39 = .ok (.iload_n 1, 1) := dk_27 (dk_at dksX1_puts_1 17 rfl rfl)
theorem dX1_puts_40 : decode cX1_puts 40 = .ok (.iload_n 2, 1) := dk_28 (dk_at dksX1_puts_1 18 rfl rfl)
theorem dX1_puts_41 : decode cX1_puts 41 = .ok (.iastore, 1) := dk_79 (dk_at dksX1_puts_1 19 rfl rfl)
theorem dX1_puts_42 : decode cX1_puts 42 = .ok (.iload 4, 2) := dk_21 4 (dk_at dksX1_puts_1 20 rfl rfl)
theorem dX1_puts_44 : decode cX1_puts 44 = .ok (.ireturn, 1) := dk_172 (dk_at dksX1_puts_1 22 rfl rfl)
abbrev cX1_refusesPut : ByteArray := prog_1_method_53_code
def yX1_refusesPut : MethodName := ⟨RX1, "refusesPut", "(II)I"⟩
def dkwX1_refusesPut_1 : List UInt8 := [180, 0, 228, 27, 46, 28, 160, 0, 8, 16, 254, 167, 0, 4, 3, 172]
abbrev dktX1_refusesPut_1 : List UInt8 := dkwX1_refusesPut_1 ++ []
def dkwX1_refusesPut_0 : List UInt8 := [42, 27, 182, 1, 6, 153, 0, 11, 42, 28, 182, 1, 102, 154, 0, 5, 2, 172, 42, 180, 0, 84]
abbrev dktX1_refusesPut_0 : List UInt8 := dkwX1_refusesPut_0 ++ dktX1_refusesPut_1
theorem dksX1_refusesPut_0 : cX1_refusesPut.data.toList.drop 0 = dktX1_refusesPut_0 := by decide +kernel
theorem dksX1_refusesPut_1 : cX1_refusesPut.data.toList.drop 22 = dktX1_refusesPut_1 := dk_seg dksX1_refusesPut_0 22 rfl rfl
theorem dX1_refusesPut_0 : decode cX1_refusesPut 0 = .ok (.aload_n 0, 1) := dk_42 (dk_at dksX1_refusesPut_0 0 rfl rfl)
theorem dX1_refusesPut_1 : decode cX1_refusesPut 1 = .ok (.iload_n 1, 1) := dk_27 (dk_at dksX1_refusesPut_0 1 rfl rfl)
theorem dX1_refusesPut_2 : decode cX1_refusesPut 2 = .ok (.invokevirtual 262, 3) := dk_182 1 6 (dk_at dksX1_refusesPut_0 2 rfl rfl)
theorem dX1_refusesPut_5 : decode cX1_refusesPut 5 = .ok (.ifCond .eq 11, 3) := dk_153 0 11 (dk_at dksX1_refusesPut_0 5 rfl rfl)
theorem dX1_refusesPut_8 : decode cX1_refusesPut 8 = .ok (.aload_n 0, 1) := dk_42 (dk_at dksX1_refusesPut_0 8 rfl rfl)
theorem dX1_refusesPut_9 : decode cX1_refusesPut 9 = .ok (.iload_n 2, 1) := dk_28 (dk_at dksX1_refusesPut_0 9 rfl rfl)
theorem dX1_refusesPut_10 : decode cX1_refusesPut 10 = .ok (.invokevirtual 358, 3) := dk_182 1 102 (dk_at dksX1_refusesPut_0 10 rfl rfl)
theorem dX1_refusesPut_13 : decode cX1_refusesPut 13 = .ok (.ifCond .ne 5, 3) := dk_154 0 5 (dk_at dksX1_refusesPut_0 13 rfl rfl)
theorem dX1_refusesPut_16 : decode cX1_refusesPut 16 = .ok (.iconst (-1), 1) := dk_2 (dk_at dksX1_refusesPut_0 16 rfl rfl)
theorem dX1_refusesPut_17 : decode cX1_refusesPut 17 = .ok (.ireturn, 1) := dk_172 (dk_at dksX1_refusesPut_0 17 rfl rfl)
theorem dX1_refusesPut_18 : decode cX1_refusesPut 18 = .ok (.aload_n 0, 1) := dk_42 (dk_at dksX1_refusesPut_0 18 rfl rfl)
theorem dX1_refusesPut_19 : decode cX1_refusesPut 19 = .ok (.getfield 84, 3) := dk_180 0 84 (dk_at dksX1_refusesPut_0 19 rfl rfl)
theorem dX1_refusesPut_22 : decode cX1_refusesPut 22 = .ok (.getfield 228, 3) := dk_180 0 228 (dk_at dksX1_refusesPut_1 0 rfl rfl)
theorem dX1_refusesPut_25 : decode cX1_refusesPut 25 = .ok (.iload_n 1, 1) := dk_27 (dk_at dksX1_refusesPut_1 3 rfl rfl)
theorem dX1_refusesPut_26 : decode cX1_refusesPut 26 = .ok (.iaload, 1) := dk_46 (dk_at dksX1_refusesPut_1 4 rfl rfl)
theorem dX1_refusesPut_27 : decode cX1_refusesPut 27 = .ok (.iload_n 2, 1) := dk_28 (dk_at dksX1_refusesPut_1 5 rfl rfl)
theorem dX1_refusesPut_28 : decode cX1_refusesPut 28 = .ok (.if_icmp .ne 8, 3) := dk_160 0 8 (dk_at dksX1_refusesPut_1 6 rfl rfl)
theorem dX1_refusesPut_31 : decode cX1_refusesPut 31 = .ok (.bipush (-2), 2) := dk_16 254 (dk_at dksX1_refusesPut_1 9 rfl rfl)
theorem dX1_refusesPut_33 : decode cX1_refusesPut 33 = .ok (.goto 4, 3) := dk_167 0 4 (dk_at dksX1_refusesPut_1 11 rfl rfl)
theorem dX1_refusesPut_36 : decode cX1_refusesPut 36 = .ok (.iconst 0, 1) := dk_3 (dk_at dksX1_refusesPut_1 14 rfl rfl)
theorem dX1_refusesPut_37 : decode cX1_refusesPut 37 = .ok (.ireturn, 1) := dk_172 (dk_at dksX1_refusesPut_1 15 rfl rfl)
abbrev cX1_isThing : ByteArray := prog_1_method_12_code
def yX1_isThing : MethodName := ⟨RX1, "isThing", "(I)Z"⟩
def dkwX1_isThing_0 : List UInt8 := [27, 133, 9, 42, 180, 0, 153, 4, 100, 133, 184, 0, 146, 172]
abbrev dktX1_isThing_0 : List UInt8 := dkwX1_isThing_0 ++ []
theorem dksX1_isThing_0 : cX1_isThing.data.toList.drop 0 = dktX1_isThing_0 := by decide +kernel
theorem dX1_isThing_0 : decode cX1_isThing 0 = .ok (.iload_n 1, 1) := dk_27 (dk_at dksX1_isThing_0 0 rfl rfl)
theorem dX1_isThing_1 : decode cX1_isThing 1 = .ok (.i2l, 1) := dk_133 (dk_at dksX1_isThing_0 1 rfl rfl)
theorem dX1_isThing_2 : decode cX1_isThing 2 = .ok (.lconst 0, 1) := dk_9 (dk_at dksX1_isThing_0 2 rfl rfl)
theorem dX1_isThing_3 : decode cX1_isThing 3 = .ok (.aload_n 0, 1) := dk_42 (dk_at dksX1_isThing_0 3 rfl rfl)
theorem dX1_isThing_4 : decode cX1_isThing 4 = .ok (.getfield 153, 3) := dk_180 0 153 (dk_at dksX1_isThing_0 4 rfl rfl)
theorem dX1_isThing_7 : decode cX1_isThing 7 = .ok (.iconst 1, 1) := dk_4 (dk_at dksX1_isThing_0 7 rfl rfl)
theorem dX1_isThing_8 : decode cX1_isThing 8 = .ok (.isub, 1) := dk_100 (dk_at dksX1_isThing_0 8 rfl rfl)
theorem dX1_isThing_9 : decode cX1_isThing 9 = .ok (.i2l, 1) := dk_133 (dk_at dksX1_isThing_0 9 rfl rfl)
theorem dX1_isThing_10 : decode cX1_isThing 10 = .ok (.invokestatic 146, 3) := dk_184 0 146 (dk_at dksX1_isThing_0 10 rfl rfl)
theorem dX1_isThing_13 : decode cX1_isThing 13 = .ok (.ireturn, 1) := dk_172 (dk_at dksX1_isThing_0 13 rfl rfl)
abbrev cX1_isField : ByteArray := prog_1_method_10_code
def yX1_isField : MethodName := ⟨RX1, "isField", "(I)Z"⟩
def dkwX1_isField_0 : List UInt8 := [27, 133, 9, 42, 182, 0, 142, 4, 100, 133, 184, 0, 146, 172]
abbrev dktX1_isField_0 : List UInt8 := dkwX1_isField_0 ++ []
theorem dksX1_isField_0 : cX1_isField.data.toList.drop 0 = dktX1_isField_0 := by decide +kernel
theorem dX1_isField_0 : decode cX1_isField 0 = .ok (.iload_n 1, 1) := dk_27 (dk_at dksX1_isField_0 0 rfl rfl)
theorem dX1_isField_1 : decode cX1_isField 1 = .ok (.i2l, 1) := dk_133 (dk_at dksX1_isField_0 1 rfl rfl)
theorem dX1_isField_2 : decode cX1_isField 2 = .ok (.lconst 0, 1) := dk_9 (dk_at dksX1_isField_0 2 rfl rfl)
theorem dX1_isField_3 : decode cX1_isField 3 = .ok (.aload_n 0, 1) := dk_42 (dk_at dksX1_isField_0 3 rfl rfl)
theorem dX1_isField_4 : decode cX1_isField 4 = .ok (.invokevirtual 142, 3) := dk_182 0 142 (dk_at dksX1_isField_0 4 rfl rfl)
theorem dX1_isField_7 : decode cX1_isField 7 = .ok (.iconst 1, 1) := dk_4 (dk_at dksX1_isField_0 7 rfl rfl)
theorem dX1_isField_8 : decode cX1_isField 8 = .ok (.isub, 1) := dk_100 (dk_at dksX1_isField_0 8 rfl rfl)
theorem dX1_isField_9 : decode cX1_isField 9 = .ok (.i2l, 1) := dk_133 (dk_at dksX1_isField_0 9 rfl rfl)
theorem dX1_isField_10 : decode cX1_isField 10 = .ok (.invokestatic 146, 3) := dk_184 0 146 (dk_at dksX1_isField_0 10 rfl rfl)
theorem dX1_isField_13 : decode cX1_isField 13 = .ok (.ireturn, 1) := dk_172 (dk_at dksX1_isField_0 13 rfl rfl)
abbrev cX1_fields : ByteArray := prog_1_method_9_code
def yX1_fields : MethodName := ⟨RX1, "fields", "()I"⟩
def dkwX1_fields_0 : List UInt8 := [42, 180, 0, 80, 42, 180, 0, 13, 104, 172]
abbrev dktX1_fields_0 : List UInt8 := dkwX1_fields_0 ++ []
theorem dksX1_fields_0 : cX1_fields.data.toList.drop 0 = dktX1_fields_0 := by decide +kernel
theorem dX1_fields_0 : decode cX1_fields 0 = .ok (.aload_n 0, 1) := dk_42 (dk_at dksX1_fields_0 0 rfl rfl)
theorem dX1_fields_1 : decode cX1_fields 1 = .ok (.getfield 80, 3) := dk_180 0 80 (dk_at dksX1_fields_0 1 rfl rfl)
theorem dX1_fields_4 : decode cX1_fields 4 = .ok (.aload_n 0, 1) := dk_42 (dk_at dksX1_fields_0 4 rfl rfl)
theorem dX1_fields_5 : decode cX1_fields 5 = .ok (.getfield 13, 3) := dk_180 0 13 (dk_at dksX1_fields_0 5 rfl rfl)
theorem dX1_fields_8 : decode cX1_fields 8 = .ok (.imul, 1) := dk_104 (dk_at dksX1_fields_0 8 rfl rfl)
theorem dX1_fields_9 : decode cX1_fields 9 = .ok (.ireturn, 1) := dk_172 (dk_at dksX1_fields_0 9 rfl rfl)
abbrev cX1_day : ByteArray := prog_1_method_55_code
def yX1_day : MethodName := ⟨RX1, "day", "()I"⟩
def dkwX1_day_5 : List UInt8 := [167, 0, 4, 9, 182, 1, 74, 42, 42, 180, 0, 84, 180, 0, 34, 133, 182, 1, 74, 28, 172]
abbrev dktX1_day_5 : List UInt8 := dkwX1_day_5 ++ []
def dkwX1_day_4 : List UInt8 := [42, 42, 180, 0, 88, 182, 1, 64, 42, 3, 181, 0, 139, 42, 28, 43, 180, 1, 113, 162, 0, 7, 10]
abbrev dktX1_day_4 : List UInt8 := dkwX1_day_4 ++ dktX1_day_5
def dkwX1_day_3 : List UInt8 := [28, 46, 43, 180, 1, 123, 28, 46, 182, 1, 126, 153, 0, 9, 132, 2, 1, 167, 255, 220, 28, 158, 0, 11]
abbrev dktX1_day_3 : List UInt8 := dkwX1_day_3 ++ dktX1_day_4
def dkwX1_day_2 : List UInt8 := [182, 1, 42, 3, 61, 28, 43, 180, 1, 113, 162, 0, 34, 42, 43, 180, 1, 116, 28, 52, 43, 180, 1, 120]
abbrev dktX1_day_2 : List UInt8 := dkwX1_day_2 ++ dktX1_day_3
def dkwX1_day_1 : List UInt8 := [182, 1, 111, 167, 0, 11, 77, 2, 44, 180, 0, 187, 100, 172, 42, 180, 0, 88, 42, 180, 0, 84]
abbrev dktX1_day_1 : List UInt8 := dkwX1_day_1 ++ dktX1_day_2
def dkwX1_day_0 : List UInt8 := [187, 1, 108, 89, 42, 42, 180, 0, 102, 42, 180, 0, 160, 183, 1, 110, 76, 42, 3, 181, 0, 160, 43]
abbrev dktX1_day_0 : List UInt8 := dkwX1_day_0 ++ dktX1_day_1
theorem dksX1_day_0 : cX1_day.data.toList.drop 0 = dktX1_day_0 := by decide +kernel
theorem dksX1_day_1 : cX1_day.data.toList.drop 23 = dktX1_day_1 := dk_seg dksX1_day_0 23 rfl rfl
theorem dksX1_day_2 : cX1_day.data.toList.drop 45 = dktX1_day_2 := dk_seg dksX1_day_1 22 rfl rfl
theorem dksX1_day_3 : cX1_day.data.toList.drop 69 = dktX1_day_3 := dk_seg dksX1_day_2 24 rfl rfl
theorem dksX1_day_4 : cX1_day.data.toList.drop 93 = dktX1_day_4 := dk_seg dksX1_day_3 24 rfl rfl
theorem dksX1_day_5 : cX1_day.data.toList.drop 116 = dktX1_day_5 := dk_seg dksX1_day_4 23 rfl rfl
theorem dX1_day_0 : decode cX1_day 0 = .ok (.new 364, 3) := dk_187 1 108 (dk_at dksX1_day_0 0 rfl rfl)
theorem dX1_day_3 : decode cX1_day 3 = .ok (.dup, 1) := dk_89 (dk_at dksX1_day_0 3 rfl rfl)
theorem dX1_day_4 : decode cX1_day 4 = .ok (.aload_n 0, 1) := dk_42 (dk_at dksX1_day_0 4 rfl rfl)
theorem dX1_day_5 : decode cX1_day 5 = .ok (.aload_n 0, 1) := dk_42 (dk_at dksX1_day_0 5 rfl rfl)
theorem dX1_day_6 : decode cX1_day 6 = .ok (.getfield 102, 3) := dk_180 0 102 (dk_at dksX1_day_0 6 rfl rfl)
theorem dX1_day_9 : decode cX1_day 9 = .ok (.aload_n 0, 1) := dk_42 (dk_at dksX1_day_0 9 rfl rfl)
theorem dX1_day_10 : decode cX1_day 10 = .ok (.getfield 160, 3) := dk_180 0 160 (dk_at dksX1_day_0 10 rfl rfl)
theorem dX1_day_13 : decode cX1_day 13 = .ok (.invokespecial 366, 3) := dk_183 1 110 (dk_at dksX1_day_0 13 rfl rfl)
theorem dX1_day_16 : decode cX1_day 16 = .ok (.astore_n 1, 1) := dk_76 (dk_at dksX1_day_0 16 rfl rfl)
theorem dX1_day_17 : decode cX1_day 17 = .ok (.aload_n 0, 1) := dk_42 (dk_at dksX1_day_0 17 rfl rfl)
theorem dX1_day_18 : decode cX1_day 18 = .ok (.iconst 0, 1) := dk_3 (dk_at dksX1_day_0 18 rfl rfl)
theorem dX1_day_19 : decode cX1_day 19 = .ok (.putfield 160, 3) := dk_181 0 160 (dk_at dksX1_day_0 19 rfl rfl)
theorem dX1_day_22 : decode cX1_day 22 = .ok (.aload_n 1, 1) := dk_43 (dk_at dksX1_day_0 22 rfl rfl)
theorem dX1_day_23 : decode cX1_day 23 = .ok (.invokevirtual 367, 3) := dk_182 1 111 (dk_at dksX1_day_1 0 rfl rfl)
theorem dX1_day_26 : decode cX1_day 26 = .ok (.goto 11, 3) := dk_167 0 11 (dk_at dksX1_day_1 3 rfl rfl)
theorem dX1_day_29 : decode cX1_day 29 = .ok (.astore_n 2, 1) := dk_77 (dk_at dksX1_day_1 6 rfl rfl)
theorem dX1_day_30 : decode cX1_day 30 = .ok (.iconst (-1), 1) := dk_2 (dk_at dksX1_day_1 7 rfl rfl)
theorem dX1_day_31 : decode cX1_day 31 = .ok (.aload_n 2, 1) := dk_44 (dk_at dksX1_day_1 8 rfl rfl)
theorem dX1_day_32 : decode cX1_day 32 = .ok (.getfield 187, 3) := dk_180 0 187 (dk_at dksX1_day_1 9 rfl rfl)
theorem dX1_day_35 : decode cX1_day 35 = .ok (.isub, 1) := dk_100 (dk_at dksX1_day_1 12 rfl rfl)
theorem dX1_day_36 : decode cX1_day 36 = .ok (.ireturn, 1) := dk_172 (dk_at dksX1_day_1 13 rfl rfl)
theorem dX1_day_37 : decode cX1_day 37 = .ok (.aload_n 0, 1) := dk_42 (dk_at dksX1_day_1 14 rfl rfl)
theorem dX1_day_38 : decode cX1_day 38 = .ok (.getfield 88, 3) := dk_180 0 88 (dk_at dksX1_day_1 15 rfl rfl)
theorem dX1_day_41 : decode cX1_day 41 = .ok (.aload_n 0, 1) := dk_42 (dk_at dksX1_day_1 18 rfl rfl)
theorem dX1_day_42 : decode cX1_day 42 = .ok (.getfield 84, 3) := dk_180 0 84 (dk_at dksX1_day_1 19 rfl rfl)
theorem dX1_day_45 : decode cX1_day 45 = .ok (.invokevirtual 298, 3) := dk_182 1 42 (dk_at dksX1_day_2 0 rfl rfl)
theorem dX1_day_48 : decode cX1_day 48 = .ok (.iconst 0, 1) := dk_3 (dk_at dksX1_day_2 3 rfl rfl)
theorem dX1_day_49 : decode cX1_day 49 = .ok (.istore_n 2, 1) := dk_61 (dk_at dksX1_day_2 4 rfl rfl)
theorem dX1_day_50 : decode cX1_day 50 = .ok (.iload_n 2, 1) := dk_28 (dk_at dksX1_day_2 5 rfl rfl)
theorem dX1_day_51 : decode cX1_day 51 = .ok (.aload_n 1, 1) := dk_43 (dk_at dksX1_day_2 6 rfl rfl)
theorem dX1_day_52 : decode cX1_day 52 = .ok (.getfield 369, 3) := dk_180 1 113 (dk_at dksX1_day_2 7 rfl rfl)
theorem dX1_day_55 : decode cX1_day 55 = .ok (.if_icmp .ge 34, 3) := dk_162 0 34 (dk_at dksX1_day_2 10 rfl rfl)
theorem dX1_day_58 : decode cX1_day 58 = .ok (.aload_n 0, 1) := dk_42 (dk_at dksX1_day_2 13 rfl rfl)
theorem dX1_day_59 : decode cX1_day 59 = .ok (.aload_n 1, 1) := dk_43 (dk_at dksX1_day_2 14 rfl rfl)
theorem dX1_day_60 : decode cX1_day 60 = .ok (.getfield 372, 3) := dk_180 1 116 (dk_at dksX1_day_2 15 rfl rfl)
theorem dX1_day_63 : decode cX1_day 63 = .ok (.iload_n 2, 1) := dk_28 (dk_at dksX1_day_2 18 rfl rfl)
theorem dX1_day_64 : decode cX1_day 64 = .ok (.caload, 1) := dk_52 (dk_at dksX1_day_2 19 rfl rfl)
theorem dX1_day_65 : decode cX1_day 65 = .ok (.aload_n 1, 1) := dk_43 (dk_at dksX1_day_2 20 rfl rfl)
theorem dX1_day_66 : decode cX1_day 66 = .ok (.getfield 376, 3) := dk_180 1 120 (dk_at dksX1_day_2 21 rfl rfl)
theorem dX1_day_69 : decode cX1_day 69 = .ok (.iload_n 2, 1) := dk_28 (dk_at dksX1_day_3 0 rfl rfl)
theorem dX1_day_70 : decode cX1_day 70 = .ok (.iaload, 1) := dk_46 (dk_at dksX1_day_3 1 rfl rfl)
theorem dX1_day_71 : decode cX1_day 71 = .ok (.aload_n 1, 1) := dk_43 (dk_at dksX1_day_3 2 rfl rfl)
theorem dX1_day_72 : decode cX1_day 72 = .ok (.getfield 379, 3) := dk_180 1 123 (dk_at dksX1_day_3 3 rfl rfl)
theorem dX1_day_75 : decode cX1_day 75 = .ok (.iload_n 2, 1) := dk_28 (dk_at dksX1_day_3 6 rfl rfl)
theorem dX1_day_76 : decode cX1_day 76 = .ok (.iaload, 1) := dk_46 (dk_at dksX1_day_3 7 rfl rfl)
theorem dX1_day_77 : decode cX1_day 77 = .ok (.invokevirtual 382, 3) := dk_182 1 126 (dk_at dksX1_day_3 8 rfl rfl)
theorem dX1_day_80 : decode cX1_day 80 = .ok (.ifCond .eq 9, 3) := dk_153 0 9 (dk_at dksX1_day_3 11 rfl rfl)
theorem dX1_day_83 : decode cX1_day 83 = .ok (.iinc 2 1, 3) := dk_132 2 1 (dk_at dksX1_day_3 14 rfl rfl)
theorem dX1_day_86 : decode cX1_day 86 = .ok (.goto (-36), 3) := dk_167 255 220 (dk_at dksX1_day_3 17 rfl rfl)
theorem dX1_day_89 : decode cX1_day 89 = .ok (.iload_n 2, 1) := dk_28 (dk_at dksX1_day_3 20 rfl rfl)
theorem dX1_day_90 : decode cX1_day 90 = .ok (.ifCond .le 11, 3) := dk_158 0 11 (dk_at dksX1_day_3 21 rfl rfl)
theorem dX1_day_93 : decode cX1_day 93 = .ok (.aload_n 0, 1) := dk_42 (dk_at dksX1_day_4 0 rfl rfl)
theorem dX1_day_94 : decode cX1_day 94 = .ok (.aload_n 0, 1) := dk_42 (dk_at dksX1_day_4 1 rfl rfl)
theorem dX1_day_95 : decode cX1_day 95 = .ok (.getfield 88, 3) := dk_180 0 88 (dk_at dksX1_day_4 2 rfl rfl)
theorem dX1_day_98 : decode cX1_day 98 = .ok (.invokevirtual 320, 3) := dk_182 1 64 (dk_at dksX1_day_4 5 rfl rfl)
theorem dX1_day_101 : decode cX1_day 101 = .ok (.aload_n 0, 1) := dk_42 (dk_at dksX1_day_4 8 rfl rfl)
theorem dX1_day_102 : decode cX1_day 102 = .ok (.iconst 0, 1) := dk_3 (dk_at dksX1_day_4 9 rfl rfl)
theorem dX1_day_103 : decode cX1_day 103 = .ok (.putfield 139, 3) := dk_181 0 139 (dk_at dksX1_day_4 10 rfl rfl)
theorem dX1_day_106 : decode cX1_day 106 = .ok (.aload_n 0, 1) := dk_42 (dk_at dksX1_day_4 13 rfl rfl)
theorem dX1_day_107 : decode cX1_day 107 = .ok (.iload_n 2, 1) := dk_28 (dk_at dksX1_day_4 14 rfl rfl)
theorem dX1_day_108 : decode cX1_day 108 = .ok (.aload_n 1, 1) := dk_43 (dk_at dksX1_day_4 15 rfl rfl)
theorem dX1_day_109 : decode cX1_day 109 = .ok (.getfield 369, 3) := dk_180 1 113 (dk_at dksX1_day_4 16 rfl rfl)
theorem dX1_day_112 : decode cX1_day 112 = .ok (.if_icmp .ge 7, 3) := dk_162 0 7 (dk_at dksX1_day_4 19 rfl rfl)
theorem dX1_day_115 : decode cX1_day 115 = .ok (.lconst 1, 1) := dk_10 (dk_at dksX1_day_4 22 rfl rfl)
theorem dX1_day_116 : decode cX1_day 116 = .ok (.goto 4, 3) := dk_167 0 4 (dk_at dksX1_day_5 0 rfl rfl)
theorem dX1_day_119 : decode cX1_day 119 = .ok (.lconst 0, 1) := dk_9 (dk_at dksX1_day_5 3 rfl rfl)
theorem dX1_day_120 : decode cX1_day 120 = .ok (.invokevirtual 330, 3) := dk_182 1 74 (dk_at dksX1_day_5 4 rfl rfl)
theorem dX1_day_123 : decode cX1_day 123 = .ok (.aload_n 0, 1) := dk_42 (dk_at dksX1_day_5 7 rfl rfl)
theorem dX1_day_124 : decode cX1_day 124 = .ok (.aload_n 0, 1) := dk_42 (dk_at dksX1_day_5 8 rfl rfl)
theorem dX1_day_125 : decode cX1_day 125 = .ok (.getfield 84, 3) := dk_180 0 84 (dk_at dksX1_day_5 9 rfl rfl)
theorem dX1_day_128 : decode cX1_day 128 = .ok (.getfield 34, 3) := dk_180 0 34 (dk_at dksX1_day_5 12 rfl rfl)
theorem dX1_day_131 : decode cX1_day 131 = .ok (.i2l, 1) := dk_133 (dk_at dksX1_day_5 15 rfl rfl)
theorem dX1_day_132 : decode cX1_day 132 = .ok (.invokevirtual 330, 3) := dk_182 1 74 (dk_at dksX1_day_5 16 rfl rfl)
theorem dX1_day_135 : decode cX1_day 135 = .ok (.iload_n 2, 1) := dk_28 (dk_at dksX1_day_5 19 rfl rfl)
theorem dX1_day_136 : decode cX1_day 136 = .ok (.ireturn, 1) := dk_172 (dk_at dksX1_day_5 20 rfl rfl)
abbrev cX1_act : ByteArray := prog_1_method_56_code
def yX1_act : MethodName := ⟨RX1, "act", "(CII)Z"⟩
def dkwX1_act_7 : List UInt8 := [172]
abbrev dktX1_act_7 : List UInt8 := dkwX1_act_7 ++ []
def dkwX1_act_6 : List UInt8 := [4, 172, 42, 28, 29, 182, 1, 105, 156, 0, 5, 3, 172, 42, 180, 0, 84, 180, 0, 228, 28, 29, 79, 4]
abbrev dktX1_act_6 : List UInt8 := dkwX1_act_6 ++ dktX1_act_7
def dkwX1_act_5 : List UInt8 := [79, 4, 172, 42, 28, 29, 182, 1, 99, 154, 0, 5, 3, 172, 42, 180, 0, 84, 180, 0, 222, 28, 29, 79]
abbrev dktX1_act_5 : List UInt8 := dkwX1_act_5 ++ dktX1_act_6
def dkwX1_act_4 : List UInt8 := [3, 172, 42, 180, 0, 84, 180, 0, 217, 28, 42, 42, 180, 0, 84, 180, 0, 217, 28, 46, 29, 182, 1, 91]
abbrev dktX1_act_4 : List UInt8 := dkwX1_act_4 ++ dktX1_act_5
def dkwX1_act_3 : List UInt8 := [180, 0, 84, 180, 0, 219, 28, 29, 79, 4, 172, 42, 42, 180, 0, 84, 28, 29, 182, 1, 94, 156, 0, 5]
abbrev dktX1_act_3 : List UInt8 := dkwX1_act_3 ++ dktX1_act_4
def dkwX1_act_2 : List UInt8 := [42, 42, 180, 0, 84, 28, 182, 1, 70, 4, 172, 42, 28, 29, 182, 1, 79, 154, 0, 5, 3, 172, 42]
abbrev dktX1_act_2 : List UInt8 := dkwX1_act_2 ++ dktX1_act_3
def dkwX1_act_1 : List UInt8 := [171, 0, 0, 0, 0, 0, 140, 0, 0, 0, 4, 0, 0, 0, 98, 0, 0, 0, 117, 0, 0, 0, 102, 0, 0, 0, 54, 0, 0, 0, 103, 0, 0, 0, 77, 0, 0, 0, 110, 0, 0, 0, 43]
abbrev dktX1_act_1 : List UInt8 := dkwX1_act_1 ++ dktX1_act_2
def dkwX1_act_0 : List UInt8 := [27]
abbrev dktX1_act_0 : List UInt8 := dkwX1_act_0 ++ dktX1_act_1
theorem dksX1_act_0 : cX1_act.data.toList.drop 0 = dktX1_act_0 := by decide +kernel
theorem dksX1_act_1 : cX1_act.data.toList.drop 1 = dktX1_act_1 := dk_seg dksX1_act_0 1 rfl rfl
theorem dksX1_act_2 : cX1_act.data.toList.drop 44 = dktX1_act_2 := dk_seg dksX1_act_1 43 rfl rfl
theorem dksX1_act_3 : cX1_act.data.toList.drop 67 = dktX1_act_3 := dk_seg dksX1_act_2 23 rfl rfl
theorem dksX1_act_4 : cX1_act.data.toList.drop 91 = dktX1_act_4 := dk_seg dksX1_act_3 24 rfl rfl
theorem dksX1_act_5 : cX1_act.data.toList.drop 115 = dktX1_act_5 := dk_seg dksX1_act_4 24 rfl rfl
theorem dksX1_act_6 : cX1_act.data.toList.drop 139 = dktX1_act_6 := dk_seg dksX1_act_5 24 rfl rfl
theorem dksX1_act_7 : cX1_act.data.toList.drop 163 = dktX1_act_7 := dk_seg dksX1_act_6 24 rfl rfl
theorem dX1_act_0 : decode cX1_act 0 = .ok (.iload_n 1, 1) := dk_27 (dk_at dksX1_act_0 0 rfl rfl)
theorem dX1_act_1 : decode cX1_act 1 = .ok (.lookupswitch 140 #[(98, 117), (102, 54), (103, 77), (110, 43)], 43) := by decide +kernel
theorem dX1_act_44 : decode cX1_act 44 = .ok (.aload_n 0, 1) := dk_42 (dk_at dksX1_act_2 0 rfl rfl)
theorem dX1_act_45 : decode cX1_act 45 = .ok (.aload_n 0, 1) := dk_42 (dk_at dksX1_act_2 1 rfl rfl)
theorem dX1_act_46 : decode cX1_act 46 = .ok (.getfield 84, 3) := dk_180 0 84 (dk_at dksX1_act_2 2 rfl rfl)
theorem dX1_act_49 : decode cX1_act 49 = .ok (.iload_n 2, 1) := dk_28 (dk_at dksX1_act_2 5 rfl rfl)
theorem dX1_act_50 : decode cX1_act 50 = .ok (.invokevirtual 326, 3) := dk_182 1 70 (dk_at dksX1_act_2 6 rfl rfl)
theorem dX1_act_53 : decode cX1_act 53 = .ok (.iconst 1, 1) := dk_4 (dk_at dksX1_act_2 9 rfl rfl)
theorem dX1_act_54 : decode cX1_act 54 = .ok (.ireturn, 1) := dk_172 (dk_at dksX1_act_2 10 rfl rfl)
theorem dX1_act_55 : decode cX1_act 55 = .ok (.aload_n 0, 1) := dk_42 (dk_at dksX1_act_2 11 rfl rfl)
theorem dX1_act_56 : decode cX1_act 56 = .ok (.iload_n 2, 1) := dk_28 (dk_at dksX1_act_2 12 rfl rfl)
theorem dX1_act_57 : decode cX1_act 57 = .ok (.iload_n 3, 1) := dk_29 (dk_at dksX1_act_2 13 rfl rfl)
theorem dX1_act_58 : decode cX1_act 58 = .ok (.invokevirtual 335, 3) := dk_182 1 79 (dk_at dksX1_act_2 14 rfl rfl)
theorem dX1_act_61 : decode cX1_act 61 = .ok (.ifCond .ne 5, 3) := dk_154 0 5 (dk_at dksX1_act_2 17 rfl rfl)
theorem dX1_act_64 : decode cX1_act 64 = .ok (.iconst 0, 1) := dk_3 (dk_at dksX1_act_2 20 rfl rfl)
theorem dX1_act_65 : decode cX1_act 65 = .ok (.ireturn, 1) := dk_172 (dk_at dksX1_act_2 21 rfl rfl)
theorem dX1_act_66 : decode cX1_act 66 = .ok (.aload_n 0, 1) := dk_42 (dk_at dksX1_act_2 22 rfl rfl)
theorem dX1_act_67 : decode cX1_act 67 = .ok (.getfield 84, 3) := dk_180 0 84 (dk_at dksX1_act_3 0 rfl rfl)
theorem dX1_act_70 : decode cX1_act 70 = .ok (.getfield 219, 3) := dk_180 0 219 (dk_at dksX1_act_3 3 rfl rfl)
theorem dX1_act_73 : decode cX1_act 73 = .ok (.iload_n 2, 1) := dk_28 (dk_at dksX1_act_3 6 rfl rfl)
theorem dX1_act_74 : decode cX1_act 74 = .ok (.iload_n 3, 1) := dk_29 (dk_at dksX1_act_3 7 rfl rfl)
theorem dX1_act_75 : decode cX1_act 75 = .ok (.iastore, 1) := dk_79 (dk_at dksX1_act_3 8 rfl rfl)
theorem dX1_act_76 : decode cX1_act 76 = .ok (.iconst 1, 1) := dk_4 (dk_at dksX1_act_3 9 rfl rfl)
theorem dX1_act_77 : decode cX1_act 77 = .ok (.ireturn, 1) := dk_172 (dk_at dksX1_act_3 10 rfl rfl)
theorem dX1_act_78 : decode cX1_act 78 = .ok (.aload_n 0, 1) := dk_42 (dk_at dksX1_act_3 11 rfl rfl)
theorem dX1_act_79 : decode cX1_act 79 = .ok (.aload_n 0, 1) := dk_42 (dk_at dksX1_act_3 12 rfl rfl)
theorem dX1_act_80 : decode cX1_act 80 = .ok (.getfield 84, 3) := dk_180 0 84 (dk_at dksX1_act_3 13 rfl rfl)
theorem dX1_act_83 : decode cX1_act 83 = .ok (.iload_n 2, 1) := dk_28 (dk_at dksX1_act_3 16 rfl rfl)
theorem dX1_act_84 : decode cX1_act 84 = .ok (.iload_n 3, 1) := dk_29 (dk_at dksX1_act_3 17 rfl rfl)
theorem dX1_act_85 : decode cX1_act 85 = .ok (.invokevirtual 350, 3) := dk_182 1 94 (dk_at dksX1_act_3 18 rfl rfl)
theorem dX1_act_88 : decode cX1_act 88 = .ok (.ifCond .ge 5, 3) := dk_156 0 5 (dk_at dksX1_act_3 21 rfl rfl)
theorem dX1_act_91 : decode cX1_act 91 = .ok (.iconst 0, 1) := dk_3 (dk_at dksX1_act_4 0 rfl rfl)
theorem dX1_act_92 : decode cX1_act 92 = .ok (.ireturn, 1) := dk_172 (dk_at dksX1_act_4 1 rfl rfl)
theorem dX1_act_93 : decode cX1_act 93 = .ok (.aload_n 0, 1) := dk_42 (dk_at dksX1_act_4 2 rfl rfl)
theorem dX1_act_94 : decode cX1_act 94 = .ok (.getfield 84, 3) := dk_180 0 84 (dk_at dksX1_act_4 3 rfl rfl)
theorem dX1_act_97 : decode cX1_act 97 = .ok (.getfield 217, 3) := dk_180 0 217 (dk_at dksX1_act_4 6 rfl rfl)
theorem dX1_act_100 : decode cX1_act 100 = .ok (.iload_n 2, 1) := dk_28 (dk_at dksX1_act_4 9 rfl rfl)
theorem dX1_act_101 : decode cX1_act 101 = .ok (.aload_n 0, 1) := dk_42 (dk_at dksX1_act_4 10 rfl rfl)
theorem dX1_act_102 : decode cX1_act 102 = .ok (.aload_n 0, 1) := dk_42 (dk_at dksX1_act_4 11 rfl rfl)
theorem dX1_act_103 : decode cX1_act 103 = .ok (.getfield 84, 3) := dk_180 0 84 (dk_at dksX1_act_4 12 rfl rfl)
theorem dX1_act_106 : decode cX1_act 106 = .ok (.getfield 217, 3) := dk_180 0 217 (dk_at dksX1_act_4 15 rfl rfl)
theorem dX1_act_109 : decode cX1_act 109 = .ok (.iload_n 2, 1) := dk_28 (dk_at dksX1_act_4 18 rfl rfl)
theorem dX1_act_110 : decode cX1_act 110 = .ok (.iaload, 1) := dk_46 (dk_at dksX1_act_4 19 rfl rfl)
theorem dX1_act_111 : decode cX1_act 111 = .ok (.iload_n 3, 1) := dk_29 (dk_at dksX1_act_4 20 rfl rfl)
theorem dX1_act_112 : decode cX1_act 112 = .ok (.invokevirtual 347, 3) := dk_182 1 91 (dk_at dksX1_act_4 21 rfl rfl)
theorem dX1_act_115 : decode cX1_act 115 = .ok (.iastore, 1) := dk_79 (dk_at dksX1_act_5 0 rfl rfl)
theorem dX1_act_116 : decode cX1_act 116 = .ok (.iconst 1, 1) := dk_4 (dk_at dksX1_act_5 1 rfl rfl)
theorem dX1_act_117 : decode cX1_act 117 = .ok (.ireturn, 1) := dk_172 (dk_at dksX1_act_5 2 rfl rfl)
theorem dX1_act_118 : decode cX1_act 118 = .ok (.aload_n 0, 1) := dk_42 (dk_at dksX1_act_5 3 rfl rfl)
theorem dX1_act_119 : decode cX1_act 119 = .ok (.iload_n 2, 1) := dk_28 (dk_at dksX1_act_5 4 rfl rfl)
theorem dX1_act_120 : decode cX1_act 120 = .ok (.iload_n 3, 1) := dk_29 (dk_at dksX1_act_5 5 rfl rfl)
theorem dX1_act_121 : decode cX1_act 121 = .ok (.invokevirtual 355, 3) := dk_182 1 99 (dk_at dksX1_act_5 6 rfl rfl)
theorem dX1_act_124 : decode cX1_act 124 = .ok (.ifCond .ne 5, 3) := dk_154 0 5 (dk_at dksX1_act_5 9 rfl rfl)
theorem dX1_act_127 : decode cX1_act 127 = .ok (.iconst 0, 1) := dk_3 (dk_at dksX1_act_5 12 rfl rfl)
theorem dX1_act_128 : decode cX1_act 128 = .ok (.ireturn, 1) := dk_172 (dk_at dksX1_act_5 13 rfl rfl)
theorem dX1_act_129 : decode cX1_act 129 = .ok (.aload_n 0, 1) := dk_42 (dk_at dksX1_act_5 14 rfl rfl)
theorem dX1_act_130 : decode cX1_act 130 = .ok (.getfield 84, 3) := dk_180 0 84 (dk_at dksX1_act_5 15 rfl rfl)
theorem dX1_act_133 : decode cX1_act 133 = .ok (.getfield 222, 3) := dk_180 0 222 (dk_at dksX1_act_5 18 rfl rfl)
theorem dX1_act_136 : decode cX1_act 136 = .ok (.iload_n 2, 1) := dk_28 (dk_at dksX1_act_5 21 rfl rfl)
theorem dX1_act_137 : decode cX1_act 137 = .ok (.iload_n 3, 1) := dk_29 (dk_at dksX1_act_5 22 rfl rfl)
theorem dX1_act_138 : decode cX1_act 138 = .ok (.iastore, 1) := dk_79 (dk_at dksX1_act_5 23 rfl rfl)
theorem dX1_act_139 : decode cX1_act 139 = .ok (.iconst 1, 1) := dk_4 (dk_at dksX1_act_6 0 rfl rfl)
theorem dX1_act_140 : decode cX1_act 140 = .ok (.ireturn, 1) := dk_172 (dk_at dksX1_act_6 1 rfl rfl)
theorem dX1_act_141 : decode cX1_act 141 = .ok (.aload_n 0, 1) := dk_42 (dk_at dksX1_act_6 2 rfl rfl)
theorem dX1_act_142 : decode cX1_act 142 = .ok (.iload_n 2, 1) := dk_28 (dk_at dksX1_act_6 3 rfl rfl)
theorem dX1_act_143 : decode cX1_act 143 = .ok (.iload_n 3, 1) := dk_29 (dk_at dksX1_act_6 4 rfl rfl)
theorem dX1_act_144 : decode cX1_act 144 = .ok (.invokevirtual 361, 3) := dk_182 1 105 (dk_at dksX1_act_6 5 rfl rfl)
theorem dX1_act_147 : decode cX1_act 147 = .ok (.ifCond .ge 5, 3) := dk_156 0 5 (dk_at dksX1_act_6 8 rfl rfl)
theorem dX1_act_150 : decode cX1_act 150 = .ok (.iconst 0, 1) := dk_3 (dk_at dksX1_act_6 11 rfl rfl)
theorem dX1_act_151 : decode cX1_act 151 = .ok (.ireturn, 1) := dk_172 (dk_at dksX1_act_6 12 rfl rfl)
theorem dX1_act_152 : decode cX1_act 152 = .ok (.aload_n 0, 1) := dk_42 (dk_at dksX1_act_6 13 rfl rfl)
theorem dX1_act_153 : decode cX1_act 153 = .ok (.getfield 84, 3) := dk_180 0 84 (dk_at dksX1_act_6 14 rfl rfl)
theorem dX1_act_156 : decode cX1_act 156 = .ok (.getfield 228, 3) := dk_180 0 228 (dk_at dksX1_act_6 17 rfl rfl)
theorem dX1_act_159 : decode cX1_act 159 = .ok (.iload_n 2, 1) := dk_28 (dk_at dksX1_act_6 20 rfl rfl)
theorem dX1_act_160 : decode cX1_act 160 = .ok (.iload_n 3, 1) := dk_29 (dk_at dksX1_act_6 21 rfl rfl)
theorem dX1_act_161 : decode cX1_act 161 = .ok (.iastore, 1) := dk_79 (dk_at dksX1_act_6 22 rfl rfl)
theorem dX1_act_162 : decode cX1_act 162 = .ok (.iconst 1, 1) := dk_4 (dk_at dksX1_act_6 23 rfl rfl)
theorem dX1_act_163 : decode cX1_act 163 = .ok (.ireturn, 1) := dk_172 (dk_at dksX1_act_7 0 rfl rfl)
abbrev cX1_undo : ByteArray := prog_1_method_57_code
def yX1_undo : MethodName := ⟨RX1, "undo", "()I"⟩
def dkwX1_undo_1 : List UInt8 := [180, 0, 94, 42, 180, 0, 196, 50, 182, 1, 42, 42, 180, 0, 196, 172]
abbrev dktX1_undo_1 : List UInt8 := dkwX1_undo_1 ++ []
def dkwX1_undo_0 : List UInt8 := [42, 180, 0, 196, 154, 0, 5, 2, 172, 42, 89, 180, 0, 196, 4, 100, 181, 0, 196, 42, 180, 0, 84, 42]
abbrev dktX1_undo_0 : List UInt8 := dkwX1_undo_0 ++ dktX1_undo_1
theorem dksX1_undo_0 : cX1_undo.data.toList.drop 0 = dktX1_undo_0 := by decide +kernel
theorem dksX1_undo_1 : cX1_undo.data.toList.drop 24 = dktX1_undo_1 := dk_seg dksX1_undo_0 24 rfl rfl
theorem dX1_undo_0 : decode cX1_undo 0 = .ok (.aload_n 0, 1) := dk_42 (dk_at dksX1_undo_0 0 rfl rfl)
theorem dX1_undo_1 : decode cX1_undo 1 = .ok (.getfield 196, 3) := dk_180 0 196 (dk_at dksX1_undo_0 1 rfl rfl)
theorem dX1_undo_4 : decode cX1_undo 4 = .ok (.ifCond .ne 5, 3) := dk_154 0 5 (dk_at dksX1_undo_0 4 rfl rfl)
theorem dX1_undo_7 : decode cX1_undo 7 = .ok (.iconst (-1), 1) := dk_2 (dk_at dksX1_undo_0 7 rfl rfl)
theorem dX1_undo_8 : decode cX1_undo 8 = .ok (.ireturn, 1) := dk_172 (dk_at dksX1_undo_0 8 rfl rfl)
theorem dX1_undo_9 : decode cX1_undo 9 = .ok (.aload_n 0, 1) := dk_42 (dk_at dksX1_undo_0 9 rfl rfl)
theorem dX1_undo_10 : decode cX1_undo 10 = .ok (.dup, 1) := dk_89 (dk_at dksX1_undo_0 10 rfl rfl)
theorem dX1_undo_11 : decode cX1_undo 11 = .ok (.getfield 196, 3) := dk_180 0 196 (dk_at dksX1_undo_0 11 rfl rfl)
theorem dX1_undo_14 : decode cX1_undo 14 = .ok (.iconst 1, 1) := dk_4 (dk_at dksX1_undo_0 14 rfl rfl)
theorem dX1_undo_15 : decode cX1_undo 15 = .ok (.isub, 1) := dk_100 (dk_at dksX1_undo_0 15 rfl rfl)
theorem dX1_undo_16 : decode cX1_undo 16 = .ok (.putfield 196, 3) := dk_181 0 196 (dk_at dksX1_undo_0 16 rfl rfl)
theorem dX1_undo_19 : decode cX1_undo 19 = .ok (.aload_n 0, 1) := dk_42 (dk_at dksX1_undo_0 19 rfl rfl)
theorem dX1_undo_20 : decode cX1_undo 20 = .ok (.getfield 84, 3) := dk_180 0 84 (dk_at dksX1_undo_0 20 rfl rfl)
theorem dX1_undo_23 : decode cX1_undo 23 = .ok (.aload_n 0, 1) := dk_42 (dk_at dksX1_undo_0 23 rfl rfl)
theorem dX1_undo_24 : decode cX1_undo 24 = .ok (.getfield 94, 3) := dk_180 0 94 (dk_at dksX1_undo_1 0 rfl rfl)
theorem dX1_undo_27 : decode cX1_undo 27 = .ok (.aload_n 0, 1) := dk_42 (dk_at dksX1_undo_1 3 rfl rfl)
theorem dX1_undo_28 : decode cX1_undo 28 = .ok (.getfield 196, 3) := dk_180 0 196 (dk_at dksX1_undo_1 4 rfl rfl)
theorem dX1_undo_31 : decode cX1_undo 31 = .ok (.aaload, 1) := dk_50 (dk_at dksX1_undo_1 7 rfl rfl)
theorem dX1_undo_32 : decode cX1_undo 32 = .ok (.invokevirtual 298, 3) := dk_182 1 42 (dk_at dksX1_undo_1 8 rfl rfl)
theorem dX1_undo_35 : decode cX1_undo 35 = .ok (.aload_n 0, 1) := dk_42 (dk_at dksX1_undo_1 11 rfl rfl)
theorem dX1_undo_36 : decode cX1_undo 36 = .ok (.getfield 196, 3) := dk_180 0 196 (dk_at dksX1_undo_1 12 rfl rfl)
theorem dX1_undo_39 : decode cX1_undo 39 = .ok (.ireturn, 1) := dk_172 (dk_at dksX1_undo_1 15 rfl rfl)
abbrev cX1_sees : ByteArray := prog_1_method_58_code
def yX1_sees : MethodName := ⟨RX1, "sees", "(I)J"⟩
def dkwX1_sees_2 : List UInt8 := [182, 1, 138, 4, 27, 120, 2, 130, 126, 133, 182, 1, 74, 32, 173]
abbrev dktX1_sees_2 : List UInt8 := dkwX1_sees_2 ++ []
def dkwX1_sees_1 : List UInt8 := [65, 42, 3, 181, 0, 139, 42, 32, 184, 1, 133, 133, 182, 1, 74, 42, 42, 42, 180, 0, 84, 32]
abbrev dktX1_sees_1 : List UInt8 := dkwX1_sees_1 ++ dktX1_sees_2
def dkwX1_sees_0 : List UInt8 := [42, 27, 182, 0, 250, 154, 0, 7, 20, 0, 156, 173, 42, 180, 0, 62, 42, 180, 0, 84, 27, 182, 1, 130]
abbrev dktX1_sees_0 : List UInt8 := dkwX1_sees_0 ++ dktX1_sees_1
theorem dksX1_sees_0 : cX1_sees.data.toList.drop 0 = dktX1_sees_0 := by decide +kernel
theorem dksX1_sees_1 : cX1_sees.data.toList.drop 24 = dktX1_sees_1 := dk_seg dksX1_sees_0 24 rfl rfl
theorem dksX1_sees_2 : cX1_sees.data.toList.drop 46 = dktX1_sees_2 := dk_seg dksX1_sees_1 22 rfl rfl
theorem dX1_sees_0 : decode cX1_sees 0 = .ok (.aload_n 0, 1) := dk_42 (dk_at dksX1_sees_0 0 rfl rfl)
theorem dX1_sees_1 : decode cX1_sees 1 = .ok (.iload_n 1, 1) := dk_27 (dk_at dksX1_sees_0 1 rfl rfl)
theorem dX1_sees_2 : decode cX1_sees 2 = .ok (.invokevirtual 250, 3) := dk_182 0 250 (dk_at dksX1_sees_0 2 rfl rfl)
theorem dX1_sees_5 : decode cX1_sees 5 = .ok (.ifCond .ne 7, 3) := dk_154 0 7 (dk_at dksX1_sees_0 5 rfl rfl)
theorem dX1_sees_8 : decode cX1_sees 8 = .ok (.ldc2_w 156, 3) := dk_20 0 156 (dk_at dksX1_sees_0 8 rfl rfl)
theorem dX1_sees_11 : decode cX1_sees 11 = .ok (.lreturn, 1) := dk_173 (dk_at dksX1_sees_0 11 rfl rfl)
theorem dX1_sees_12 : decode cX1_sees 12 = .ok (.aload_n 0, 1) := dk_42 (dk_at dksX1_sees_0 12 rfl rfl)
theorem dX1_sees_13 : decode cX1_sees 13 = .ok (.getfield 62, 3) := dk_180 0 62 (dk_at dksX1_sees_0 13 rfl rfl)
theorem dX1_sees_16 : decode cX1_sees 16 = .ok (.aload_n 0, 1) := dk_42 (dk_at dksX1_sees_0 16 rfl rfl)
theorem dX1_sees_17 : decode cX1_sees 17 = .ok (.getfield 84, 3) := dk_180 0 84 (dk_at dksX1_sees_0 17 rfl rfl)
theorem dX1_sees_20 : decode cX1_sees 20 = .ok (.iload_n 1, 1) := dk_27 (dk_at dksX1_sees_0 20 rfl rfl)
theorem dX1_sees_21 : decode cX1_sees 21 = .ok (.invokevirtual 386, 3) := dk_182 1 130 (dk_at dksX1_sees_0 21 rfl rfl)
theorem dX1_sees_24 : decode cX1_sees 24 = .ok (.lstore_n 2, 1) := dk_65 (dk_at dksX1_sees_1 0 rfl rfl)
theorem dX1_sees_25 : decode cX1_sees 25 = .ok (.aload_n 0, 1) := dk_42 (dk_at dksX1_sees_1 1 rfl rfl)
theorem dX1_sees_26 : decode cX1_sees 26 = .ok (.iconst 0, 1) := dk_3 (dk_at dksX1_sees_1 2 rfl rfl)
theorem dX1_sees_27 : decode cX1_sees 27 = .ok (.putfield 139, 3) := dk_181 0 139 (dk_at dksX1_sees_1 3 rfl rfl)
theorem dX1_sees_30 : decode cX1_sees 30 = .ok (.aload_n 0, 1) := dk_42 (dk_at dksX1_sees_1 6 rfl rfl)
theorem dX1_sees_31 : decode cX1_sees 31 = .ok (.lload_n 2, 1) := dk_32 (dk_at dksX1_sees_1 7 rfl rfl)
theorem dX1_sees_32 : decode cX1_sees 32 = .ok (.invokestatic 389, 3) := dk_184 1 133 (dk_at dksX1_sees_1 8 rfl rfl)
theorem dX1_sees_35 : decode cX1_sees 35 = .ok (.i2l, 1) := dk_133 (dk_at dksX1_sees_1 11 rfl rfl)
theorem dX1_sees_36 : decode cX1_sees 36 = .ok (.invokevirtual 330, 3) := dk_182 1 74 (dk_at dksX1_sees_1 12 rfl rfl)
theorem dX1_sees_39 : decode cX1_sees 39 = .ok (.aload_n 0, 1) := dk_42 (dk_at dksX1_sees_1 15 rfl rfl)
theorem dX1_sees_40 : decode cX1_sees 40 = .ok (.aload_n 0, 1) := dk_42 (dk_at dksX1_sees_1 16 rfl rfl)
theorem dX1_sees_41 : decode cX1_sees 41 = .ok (.aload_n 0, 1) := dk_42 (dk_at dksX1_sees_1 17 rfl rfl)
theorem dX1_sees_42 : decode cX1_sees 42 = .ok (.getfield 84, 3) := dk_180 0 84 (dk_at dksX1_sees_1 18 rfl rfl)
theorem dX1_sees_45 : decode cX1_sees 45 = .ok (.lload_n 2, 1) := dk_32 (dk_at dksX1_sees_1 21 rfl rfl)
theorem dX1_sees_46 : decode cX1_sees 46 = .ok (.invokevirtual 394, 3) := dk_182 1 138 (dk_at dksX1_sees_2 0 rfl rfl)
theorem dX1_sees_49 : decode cX1_sees 49 = .ok (.iconst 1, 1) := dk_4 (dk_at dksX1_sees_2 3 rfl rfl)
theorem dX1_sees_50 : decode cX1_sees 50 = .ok (.iload_n 1, 1) := dk_27 (dk_at dksX1_sees_2 4 rfl rfl)
theorem dX1_sees_51 : decode cX1_sees 51 = .ok (.ishl, 1) := dk_120 (dk_at dksX1_sees_2 5 rfl rfl)
theorem dX1_sees_52 : decode cX1_sees 52 = .ok (.iconst (-1), 1) := dk_2 (dk_at dksX1_sees_2 6 rfl rfl)
theorem dX1_sees_53 : decode cX1_sees 53 = .ok (.ixor, 1) := dk_130 (dk_at dksX1_sees_2 7 rfl rfl)
theorem dX1_sees_54 : decode cX1_sees 54 = .ok (.iand, 1) := dk_126 (dk_at dksX1_sees_2 8 rfl rfl)
theorem dX1_sees_55 : decode cX1_sees 55 = .ok (.i2l, 1) := dk_133 (dk_at dksX1_sees_2 9 rfl rfl)
theorem dX1_sees_56 : decode cX1_sees 56 = .ok (.invokevirtual 330, 3) := dk_182 1 74 (dk_at dksX1_sees_2 10 rfl rfl)
theorem dX1_sees_59 : decode cX1_sees 59 = .ok (.lload_n 2, 1) := dk_32 (dk_at dksX1_sees_2 13 rfl rfl)
theorem dX1_sees_60 : decode cX1_sees 60 = .ok (.lreturn, 1) := dk_173 (dk_at dksX1_sees_2 14 rfl rfl)
abbrev cX1_seers : ByteArray := prog_1_method_59_code
def yX1_seers : MethodName := ⟨RX1, "seers", "(I)I"⟩
def dkwX1_seers_2 : List UInt8 := [28, 172]
abbrev dktX1_seers_2 : List UInt8 := dkwX1_seers_2 ++ []
def dkwX1_seers_1 : List UInt8 := [181, 0, 139, 42, 28, 184, 1, 59, 133, 182, 1, 74, 42, 42, 10, 27, 121, 182, 1, 142, 133, 182, 1, 74]
abbrev dktX1_seers_1 : List UInt8 := dkwX1_seers_1 ++ dktX1_seers_2
def dkwX1_seers_0 : List UInt8 := [42, 27, 182, 1, 102, 154, 0, 5, 2, 172, 42, 42, 180, 0, 84, 27, 182, 1, 14, 61, 42, 3]
abbrev dktX1_seers_0 : List UInt8 := dkwX1_seers_0 ++ dktX1_seers_1
theorem dksX1_seers_0 : cX1_seers.data.toList.drop 0 = dktX1_seers_0 := by decide +kernel
theorem dksX1_seers_1 : cX1_seers.data.toList.drop 22 = dktX1_seers_1 := dk_seg dksX1_seers_0 22 rfl rfl
theorem dksX1_seers_2 : cX1_seers.data.toList.drop 46 = dktX1_seers_2 := dk_seg dksX1_seers_1 24 rfl rfl
theorem dX1_seers_0 : decode cX1_seers 0 = .ok (.aload_n 0, 1) := dk_42 (dk_at dksX1_seers_0 0 rfl rfl)
theorem dX1_seers_1 : decode cX1_seers 1 = .ok (.iload_n 1, 1) := dk_27 (dk_at dksX1_seers_0 1 rfl rfl)
theorem dX1_seers_2 : decode cX1_seers 2 = .ok (.invokevirtual 358, 3) := dk_182 1 102 (dk_at dksX1_seers_0 2 rfl rfl)
theorem dX1_seers_5 : decode cX1_seers 5 = .ok (.ifCond .ne 5, 3) := dk_154 0 5 (dk_at dksX1_seers_0 5 rfl rfl)
theorem dX1_seers_8 : decode cX1_seers 8 = .ok (.iconst (-1), 1) := dk_2 (dk_at dksX1_seers_0 8 rfl rfl)
theorem dX1_seers_9 : decode cX1_seers 9 = .ok (.ireturn, 1) := dk_172 (dk_at dksX1_seers_0 9 rfl rfl)
theorem dX1_seers_10 : decode cX1_seers 10 = .ok (.aload_n 0, 1) := dk_42 (dk_at dksX1_seers_0 10 rfl rfl)
theorem dX1_seers_11 : decode cX1_seers 11 = .ok (.aload_n 0, 1) := dk_42 (dk_at dksX1_seers_0 11 rfl rfl)
theorem dX1_seers_12 : decode cX1_seers 12 = .ok (.getfield 84, 3) := dk_180 0 84 (dk_at dksX1_seers_0 12 rfl rfl)
theorem dX1_seers_15 : decode cX1_seers 15 = .ok (.iload_n 1, 1) := dk_27 (dk_at dksX1_seers_0 15 rfl rfl)
theorem dX1_seers_16 : decode cX1_seers 16 = .ok (.invokevirtual 270, 3) := dk_182 1 14 (dk_at dksX1_seers_0 16 rfl rfl)
theorem dX1_seers_19 : decode cX1_seers 19 = .ok (.istore_n 2, 1) := dk_61 (dk_at dksX1_seers_0 19 rfl rfl)
theorem dX1_seers_20 : decode cX1_seers 20 = .ok (.aload_n 0, 1) := dk_42 (dk_at dksX1_seers_0 20 rfl rfl)
theorem dX1_seers_21 : decode cX1_seers 21 = .ok (.iconst 0, 1) := dk_3 (dk_at dksX1_seers_0 21 rfl rfl)
theorem dX1_seers_22 : decode cX1_seers 22 = .ok (.putfield 139, 3) := dk_181 0 139 (dk_at dksX1_seers_1 0 rfl rfl)
theorem dX1_seers_25 : decode cX1_seers 25 = .ok (.aload_n 0, 1) := dk_42 (dk_at dksX1_seers_1 3 rfl rfl)
theorem dX1_seers_26 : decode cX1_seers 26 = .ok (.iload_n 2, 1) := dk_28 (dk_at dksX1_seers_1 4 rfl rfl)
theorem dX1_seers_27 : decode cX1_seers 27 = .ok (.invokestatic 315, 3) := dk_184 1 59 (dk_at dksX1_seers_1 5 rfl rfl)
theorem dX1_seers_30 : decode cX1_seers 30 = .ok (.i2l, 1) := dk_133 (dk_at dksX1_seers_1 8 rfl rfl)
theorem dX1_seers_31 : decode cX1_seers 31 = .ok (.invokevirtual 330, 3) := dk_182 1 74 (dk_at dksX1_seers_1 9 rfl rfl)
theorem dX1_seers_34 : decode cX1_seers 34 = .ok (.aload_n 0, 1) := dk_42 (dk_at dksX1_seers_1 12 rfl rfl)
theorem dX1_seers_35 : decode cX1_seers 35 = .ok (.aload_n 0, 1) := dk_42 (dk_at dksX1_seers_1 13 rfl rfl)
theorem dX1_seers_36 : decode cX1_seers 36 = .ok (.lconst 1, 1) := dk_10 (dk_at dksX1_seers_1 14 rfl rfl)
theorem dX1_seers_37 : decode cX1_seers 37 = .ok (.iload_n 1, 1) := dk_27 (dk_at dksX1_seers_1 15 rfl rfl)
theorem dX1_seers_38 : decode cX1_seers 38 = .ok (.lshl, 1) := dk_121 (dk_at dksX1_seers_1 16 rfl rfl)
theorem dX1_seers_39 : decode cX1_seers 39 = .ok (.invokevirtual 398, 3) := dk_182 1 142 (dk_at dksX1_seers_1 17 rfl rfl)
theorem dX1_seers_42 : decode cX1_seers 42 = .ok (.i2l, 1) := dk_133 (dk_at dksX1_seers_1 20 rfl rfl)
theorem dX1_seers_43 : decode cX1_seers 43 = .ok (.invokevirtual 330, 3) := dk_182 1 74 (dk_at dksX1_seers_1 21 rfl rfl)
theorem dX1_seers_46 : decode cX1_seers 46 = .ok (.iload_n 2, 1) := dk_28 (dk_at dksX1_seers_2 0 rfl rfl)
theorem dX1_seers_47 : decode cX1_seers 47 = .ok (.ireturn, 1) := dk_172 (dk_at dksX1_seers_2 1 rfl rfl)
abbrev cX1_seersOf : ByteArray := prog_1_method_30_code
def yX1_seersOf : MethodName := ⟨RX1, "seersOf", "(LBonnetValley$Upland;I)I"⟩
def dkwX1_seersOf_1 : List UInt8 := [182, 0, 246, 153, 0, 10, 4, 21, 4, 120, 167, 0, 4, 3, 128, 62, 132, 4, 1, 167, 255, 219, 29, 172]
abbrev dktX1_seersOf_1 : List UInt8 := dkwX1_seersOf_1 ++ []
def dkwX1_seersOf_0 : List UInt8 := [3, 62, 3, 54, 4, 21, 4, 42, 180, 0, 150, 162, 0, 34, 29, 42, 180, 0, 62, 43, 21, 4, 28]
abbrev dktX1_seersOf_0 : List UInt8 := dkwX1_seersOf_0 ++ dktX1_seersOf_1
theorem dksX1_seersOf_0 : cX1_seersOf.data.toList.drop 0 = dktX1_seersOf_0 := by decide +kernel
theorem dksX1_seersOf_1 : cX1_seersOf.data.toList.drop 23 = dktX1_seersOf_1 := dk_seg dksX1_seersOf_0 23 rfl rfl
theorem dX1_seersOf_0 : decode cX1_seersOf 0 = .ok (.iconst 0, 1) := dk_3 (dk_at dksX1_seersOf_0 0 rfl rfl)
theorem dX1_seersOf_1 : decode cX1_seersOf 1 = .ok (.istore_n 3, 1) := dk_62 (dk_at dksX1_seersOf_0 1 rfl rfl)
theorem dX1_seersOf_2 : decode cX1_seersOf 2 = .ok (.iconst 0, 1) := dk_3 (dk_at dksX1_seersOf_0 2 rfl rfl)
theorem dX1_seersOf_3 : decode cX1_seersOf 3 = .ok (.istore 4, 2) := dk_54 4 (dk_at dksX1_seersOf_0 3 rfl rfl)
theorem dX1_seersOf_5 : decode cX1_seersOf 5 = .ok (.iload 4, 2) := dk_21 4 (dk_at dksX1_seersOf_0 5 rfl rfl)
theorem dX1_seersOf_7 : decode cX1_seersOf 7 = .ok (.aload_n 0, 1) := dk_42 (dk_at dksX1_seersOf_0 7 rfl rfl)
theorem dX1_seersOf_8 : decode cX1_seersOf 8 = .ok (.getfield 150, 3) := dk_180 0 150 (dk_at dksX1_seersOf_0 8 rfl rfl)
theorem dX1_seersOf_11 : decode cX1_seersOf 11 = .ok (.if_icmp .ge 34, 3) := dk_162 0 34 (dk_at dksX1_seersOf_0 11 rfl rfl)
theorem dX1_seersOf_14 : decode cX1_seersOf 14 = .ok (.iload_n 3, 1) := dk_29 (dk_at dksX1_seersOf_0 14 rfl rfl)
theorem dX1_seersOf_15 : decode cX1_seersOf 15 = .ok (.aload_n 0, 1) := dk_42 (dk_at dksX1_seersOf_0 15 rfl rfl)
theorem dX1_seersOf_16 : decode cX1_seersOf 16 = .ok (.getfield 62, 3) := dk_180 0 62 (dk_at dksX1_seersOf_0 16 rfl rfl)
theorem dX1_seersOf_19 : decode cX1_seersOf 19 = .ok (.aload_n 1, 1) := dk_43 (dk_at dksX1_seersOf_0 19 rfl rfl)
theorem dX1_seersOf_20 : decode cX1_seersOf 20 = .ok (.iload 4, 2) := dk_21 4 (dk_at dksX1_seersOf_0 20 rfl rfl)
theorem dX1_seersOf_22 : decode cX1_seersOf 22 = .ok (.iload_n 2, 1) := dk_28 (dk_at dksX1_seersOf_0 22 rfl rfl)
theorem dX1_seersOf_23 : decode cX1_seersOf 23 = .ok (.invokevirtual 246, 3) := dk_182 0 246 (dk_at dksX1_seersOf_1 0 rfl rfl)
theorem dX1_seersOf_26 : decode cX1_seersOf 26 = .ok (.ifCond .eq 10, 3) := dk_153 0 10 (dk_at dksX1_seersOf_1 3 rfl rfl)
theorem dX1_seersOf_29 : decode cX1_seersOf 29 = .ok (.iconst 1, 1) := dk_4 (dk_at dksX1_seersOf_1 6 rfl rfl)
theorem dX1_seersOf_30 : decode cX1_seersOf 30 = .ok (.iload 4, 2) := dk_21 4 (dk_at dksX1_seersOf_1 7 rfl rfl)
theorem dX1_seersOf_32 : decode cX1_seersOf 32 = .ok (.ishl, 1) := dk_120 (dk_at dksX1_seersOf_1 9 rfl rfl)
theorem dX1_seersOf_33 : decode cX1_seersOf 33 = .ok (.goto 4, 3) := dk_167 0 4 (dk_at dksX1_seersOf_1 10 rfl rfl)
theorem dX1_seersOf_36 : decode cX1_seersOf 36 = .ok (.iconst 0, 1) := dk_3 (dk_at dksX1_seersOf_1 13 rfl rfl)
theorem dX1_seersOf_37 : decode cX1_seersOf 37 = .ok (.ior, 1) := dk_128 (dk_at dksX1_seersOf_1 14 rfl rfl)
theorem dX1_seersOf_38 : decode cX1_seersOf 38 = .ok (.istore_n 3, 1) := dk_62 (dk_at dksX1_seersOf_1 15 rfl rfl)
theorem dX1_seersOf_39 : decode cX1_seersOf 39 = .ok (.iinc 4 1, 3) := dk_132 4 1 (dk_at dksX1_seersOf_1 16 rfl rfl)
theorem dX1_seersOf_42 : decode cX1_seersOf 42 = .ok (.goto (-37), 3) := dk_167 255 219 (dk_at dksX1_seersOf_1 19 rfl rfl)
theorem dX1_seersOf_45 : decode cX1_seersOf 45 = .ok (.iload_n 3, 1) := dk_29 (dk_at dksX1_seersOf_1 22 rfl rfl)
theorem dX1_seersOf_46 : decode cX1_seersOf 46 = .ok (.ireturn, 1) := dk_172 (dk_at dksX1_seersOf_1 23 rfl rfl)
abbrev cX1_thingsOn : ByteArray := prog_1_method_29_code
def yX1_thingsOn : MethodName := ⟨RX1, "thingsOn", "(J)I"⟩
def dkwX1_thingsOn_2 : List UInt8 := [167, 255, 216, 29, 172]
abbrev dktX1_thingsOn_2 : List UInt8 := dkwX1_thingsOn_2 ++ []
def dkwX1_thingsOn_1 : List UInt8 := [21, 4, 46, 184, 0, 26, 153, 0, 10, 4, 21, 4, 120, 167, 0, 4, 3, 128, 62, 132, 4, 1]
abbrev dktX1_thingsOn_1 : List UInt8 := dkwX1_thingsOn_1 ++ dktX1_thingsOn_2
def dkwX1_thingsOn_0 : List UInt8 := [3, 62, 3, 54, 4, 21, 4, 42, 180, 0, 153, 162, 0, 37, 29, 31, 42, 180, 0, 84, 180, 0, 228]
abbrev dktX1_thingsOn_0 : List UInt8 := dkwX1_thingsOn_0 ++ dktX1_thingsOn_1
theorem dksX1_thingsOn_0 : cX1_thingsOn.data.toList.drop 0 = dktX1_thingsOn_0 := by decide +kernel
theorem dksX1_thingsOn_1 : cX1_thingsOn.data.toList.drop 23 = dktX1_thingsOn_1 := dk_seg dksX1_thingsOn_0 23 rfl rfl
theorem dksX1_thingsOn_2 : cX1_thingsOn.data.toList.drop 45 = dktX1_thingsOn_2 := dk_seg dksX1_thingsOn_1 22 rfl rfl
theorem dX1_thingsOn_0 : decode cX1_thingsOn 0 = .ok (.iconst 0, 1) := dk_3 (dk_at dksX1_thingsOn_0 0 rfl rfl)
theorem dX1_thingsOn_1 : decode cX1_thingsOn 1 = .ok (.istore_n 3, 1) := dk_62 (dk_at dksX1_thingsOn_0 1 rfl rfl)
theorem dX1_thingsOn_2 : decode cX1_thingsOn 2 = .ok (.iconst 0, 1) := dk_3 (dk_at dksX1_thingsOn_0 2 rfl rfl)
theorem dX1_thingsOn_3 : decode cX1_thingsOn 3 = .ok (.istore 4, 2) := dk_54 4 (dk_at dksX1_thingsOn_0 3 rfl rfl)
theorem dX1_thingsOn_5 : decode cX1_thingsOn 5 = .ok (.iload 4, 2) := dk_21 4 (dk_at dksX1_thingsOn_0 5 rfl rfl)
theorem dX1_thingsOn_7 : decode cX1_thingsOn 7 = .ok (.aload_n 0, 1) := dk_42 (dk_at dksX1_thingsOn_0 7 rfl rfl)
theorem dX1_thingsOn_8 : decode cX1_thingsOn 8 = .ok (.getfield 153, 3) := dk_180 0 153 (dk_at dksX1_thingsOn_0 8 rfl rfl)
theorem dX1_thingsOn_11 : decode cX1_thingsOn 11 = .ok (.if_icmp .ge 37, 3) := dk_162 0 37 (dk_at dksX1_thingsOn_0 11 rfl rfl)
theorem dX1_thingsOn_14 : decode cX1_thingsOn 14 = .ok (.iload_n 3, 1) := dk_29 (dk_at dksX1_thingsOn_0 14 rfl rfl)
theorem dX1_thingsOn_15 : decode cX1_thingsOn 15 = .ok (.lload_n 1, 1) := dk_31 (dk_at dksX1_thingsOn_0 15 rfl rfl)
theorem dX1_thingsOn_16 : decode cX1_thingsOn 16 = .ok (.aload_n 0, 1) := dk_42 (dk_at dksX1_thingsOn_0 16 rfl rfl)
theorem dX1_thingsOn_17 : decode cX1_thingsOn 17 = .ok (.getfield 84, 3) := dk_180 0 84 (dk_at dksX1_thingsOn_0 17 rfl rfl)
theorem dX1_thingsOn_20 : decode cX1_thingsOn 20 = .ok (.getfield 228, 3) := dk_180 0 228 (dk_at dksX1_thingsOn_0 20 rfl rfl)
theorem dX1_thingsOn_23 : decode cX1_thingsOn 23 = .ok (.iload 4, 2) := dk_21 4 (dk_at dksX1_thingsOn_1 0 rfl rfl)
theorem dX1_thingsOn_25 : decode cX1_thingsOn 25 = .ok (.iaload, 1) := dk_46 (dk_at dksX1_thingsOn_1 2 rfl rfl)
theorem dX1_thingsOn_26 : decode cX1_thingsOn 26 = .ok (.invokestatic 26, 3) := dk_184 0 26 (dk_at dksX1_thingsOn_1 3 rfl rfl)
theorem dX1_thingsOn_29 : decode cX1_thingsOn 29 = .ok (.ifCond .eq 10, 3) := dk_153 0 10 (dk_at dksX1_thingsOn_1 6 rfl rfl)
theorem dX1_thingsOn_32 : decode cX1_thingsOn 32 = .ok (.iconst 1, 1) := dk_4 (dk_at dksX1_thingsOn_1 9 rfl rfl)
theorem dX1_thingsOn_33 : decode cX1_thingsOn 33 = .ok (.iload 4, 2) := dk_21 4 (dk_at dksX1_thingsOn_1 10 rfl rfl)
theorem dX1_thingsOn_35 : decode cX1_thingsOn 35 = .ok (.ishl, 1) := dk_120 (dk_at dksX1_thingsOn_1 12 rfl rfl)
theorem dX1_thingsOn_36 : decode cX1_thingsOn 36 = .ok (.goto 4, 3) := dk_167 0 4 (dk_at dksX1_thingsOn_1 13 rfl rfl)
theorem dX1_thingsOn_39 : decode cX1_thingsOn 39 = .ok (.iconst 0, 1) := dk_3 (dk_at dksX1_thingsOn_1 16 rfl rfl)
theorem dX1_thingsOn_40 : decode cX1_thingsOn 40 = .ok (.ior, 1) := dk_128 (dk_at dksX1_thingsOn_1 17 rfl rfl)
theorem dX1_thingsOn_41 : decode cX1_thingsOn 41 = .ok (.istore_n 3, 1) := dk_62 (dk_at dksX1_thingsOn_1 18 rfl rfl)
theorem dX1_thingsOn_42 : decode cX1_thingsOn 42 = .ok (.iinc 4 1, 3) := dk_132 4 1 (dk_at dksX1_thingsOn_1 19 rfl rfl)
theorem dX1_thingsOn_45 : decode cX1_thingsOn 45 = .ok (.goto (-40), 3) := dk_167 255 216 (dk_at dksX1_thingsOn_2 0 rfl rfl)
theorem dX1_thingsOn_48 : decode cX1_thingsOn 48 = .ok (.iload_n 3, 1) := dk_29 (dk_at dksX1_thingsOn_2 3 rfl rfl)
theorem dX1_thingsOn_49 : decode cX1_thingsOn 49 = .ok (.ireturn, 1) := dk_172 (dk_at dksX1_thingsOn_2 4 rfl rfl)
abbrev cX1_hidden : ByteArray := prog_1_method_61_code
def yX1_hidden : MethodName := ⟨RX1, "hidden", "()J"⟩
def dkwX1_hidden_1 : List UInt8 := [31, 184, 1, 133, 133, 182, 1, 74, 42, 42, 31, 182, 1, 142, 133, 182, 1, 74, 31, 173]
abbrev dktX1_hidden_1 : List UInt8 := dkwX1_hidden_1 ++ []
def dkwX1_hidden_0 : List UInt8 := [42, 182, 1, 145, 42, 42, 180, 0, 84, 182, 1, 149, 20, 0, 156, 131, 127, 64, 42, 3, 181, 0, 139, 42]
abbrev dktX1_hidden_0 : List UInt8 := dkwX1_hidden_0 ++ dktX1_hidden_1
theorem dksX1_hidden_0 : cX1_hidden.data.toList.drop 0 = dktX1_hidden_0 := by decide +kernel
theorem dksX1_hidden_1 : cX1_hidden.data.toList.drop 24 = dktX1_hidden_1 := dk_seg dksX1_hidden_0 24 rfl rfl
theorem dX1_hidden_0 : decode cX1_hidden 0 = .ok (.aload_n 0, 1) := dk_42 (dk_at dksX1_hidden_0 0 rfl rfl)
theorem dX1_hidden_1 : decode cX1_hidden 1 = .ok (.invokevirtual 401, 3) := dk_182 1 145 (dk_at dksX1_hidden_0 1 rfl rfl)
theorem dX1_hidden_4 : decode cX1_hidden 4 = .ok (.aload_n 0, 1) := dk_42 (dk_at dksX1_hidden_0 4 rfl rfl)
theorem dX1_hidden_5 : decode cX1_hidden 5 = .ok (.aload_n 0, 1) := dk_42 (dk_at dksX1_hidden_0 5 rfl rfl)
theorem dX1_hidden_6 : decode cX1_hidden 6 = .ok (.getfield 84, 3) := dk_180 0 84 (dk_at dksX1_hidden_0 6 rfl rfl)
theorem dX1_hidden_9 : decode cX1_hidden 9 = .ok (.invokevirtual 405, 3) := dk_182 1 149 (dk_at dksX1_hidden_0 9 rfl rfl)
theorem dX1_hidden_12 : decode cX1_hidden 12 = .ok (.ldc2_w 156, 3) := dk_20 0 156 (dk_at dksX1_hidden_0 12 rfl rfl)
theorem dX1_hidden_15 : decode cX1_hidden 15 = .ok (.lxor, 1) := dk_131 (dk_at dksX1_hidden_0 15 rfl rfl)
theorem dX1_hidden_16 : decode cX1_hidden 16 = .ok (.land, 1) := dk_127 (dk_at dksX1_hidden_0 16 rfl rfl)
theorem dX1_hidden_17 : decode cX1_hidden 17 = .ok (.lstore_n 1, 1) := dk_64 (dk_at dksX1_hidden_0 17 rfl rfl)
theorem dX1_hidden_18 : decode cX1_hidden 18 = .ok (.aload_n 0, 1) := dk_42 (dk_at dksX1_hidden_0 18 rfl rfl)
theorem dX1_hidden_19 : decode cX1_hidden 19 = .ok (.iconst 0, 1) := dk_3 (dk_at dksX1_hidden_0 19 rfl rfl)
theorem dX1_hidden_20 : decode cX1_hidden 20 = .ok (.putfield 139, 3) := dk_181 0 139 (dk_at dksX1_hidden_0 20 rfl rfl)
theorem dX1_hidden_23 : decode cX1_hidden 23 = .ok (.aload_n 0, 1) := dk_42 (dk_at dksX1_hidden_0 23 rfl rfl)
theorem dX1_hidden_24 : decode cX1_hidden 24 = .ok (.lload_n 1, 1) := dk_31 (dk_at dksX1_hidden_1 0 rfl rfl)
theorem dX1_hidden_25 : decode cX1_hidden 25 = .ok (.invokestatic 389, 3) := dk_184 1 133 (dk_at dksX1_hidden_1 1 rfl rfl)
theorem dX1_hidden_28 : decode cX1_hidden 28 = .ok (.i2l, 1) := dk_133 (dk_at dksX1_hidden_1 4 rfl rfl)
theorem dX1_hidden_29 : decode cX1_hidden 29 = .ok (.invokevirtual 330, 3) := dk_182 1 74 (dk_at dksX1_hidden_1 5 rfl rfl)
theorem dX1_hidden_32 : decode cX1_hidden 32 = .ok (.aload_n 0, 1) := dk_42 (dk_at dksX1_hidden_1 8 rfl rfl)
theorem dX1_hidden_33 : decode cX1_hidden 33 = .ok (.aload_n 0, 1) := dk_42 (dk_at dksX1_hidden_1 9 rfl rfl)
theorem dX1_hidden_34 : decode cX1_hidden 34 = .ok (.lload_n 1, 1) := dk_31 (dk_at dksX1_hidden_1 10 rfl rfl)
theorem dX1_hidden_35 : decode cX1_hidden 35 = .ok (.invokevirtual 398, 3) := dk_182 1 142 (dk_at dksX1_hidden_1 11 rfl rfl)
theorem dX1_hidden_38 : decode cX1_hidden 38 = .ok (.i2l, 1) := dk_133 (dk_at dksX1_hidden_1 14 rfl rfl)
theorem dX1_hidden_39 : decode cX1_hidden 39 = .ok (.invokevirtual 330, 3) := dk_182 1 74 (dk_at dksX1_hidden_1 15 rfl rfl)
theorem dX1_hidden_42 : decode cX1_hidden 42 = .ok (.lload_n 1, 1) := dk_31 (dk_at dksX1_hidden_1 18 rfl rfl)
theorem dX1_hidden_43 : decode cX1_hidden 43 = .ok (.lreturn, 1) := dk_173 (dk_at dksX1_hidden_1 19 rfl rfl)
abbrev cX1_open : ByteArray := prog_1_method_15_code
def yX1_open : MethodName := ⟨RX1, "open", "()J"⟩
def dkwX1_open_0 : List UInt8 := [10, 42, 182, 0, 142, 121, 10, 101, 42, 180, 0, 22, 20, 0, 156, 131, 127, 173]
abbrev dktX1_open_0 : List UInt8 := dkwX1_open_0 ++ []
theorem dksX1_open_0 : cX1_open.data.toList.drop 0 = dktX1_open_0 := by decide +kernel
theorem dX1_open_0 : decode cX1_open 0 = .ok (.lconst 1, 1) := dk_10 (dk_at dksX1_open_0 0 rfl rfl)
theorem dX1_open_1 : decode cX1_open 1 = .ok (.aload_n 0, 1) := dk_42 (dk_at dksX1_open_0 1 rfl rfl)
theorem dX1_open_2 : decode cX1_open 2 = .ok (.invokevirtual 142, 3) := dk_182 0 142 (dk_at dksX1_open_0 2 rfl rfl)
theorem dX1_open_5 : decode cX1_open 5 = .ok (.lshl, 1) := dk_121 (dk_at dksX1_open_0 5 rfl rfl)
theorem dX1_open_6 : decode cX1_open 6 = .ok (.lconst 1, 1) := dk_10 (dk_at dksX1_open_0 6 rfl rfl)
theorem dX1_open_7 : decode cX1_open 7 = .ok (.lsub, 1) := dk_101 (dk_at dksX1_open_0 7 rfl rfl)
theorem dX1_open_8 : decode cX1_open 8 = .ok (.aload_n 0, 1) := dk_42 (dk_at dksX1_open_0 8 rfl rfl)
theorem dX1_open_9 : decode cX1_open 9 = .ok (.getfield 22, 3) := dk_180 0 22 (dk_at dksX1_open_0 9 rfl rfl)
theorem dX1_open_12 : decode cX1_open 12 = .ok (.ldc2_w 156, 3) := dk_20 0 156 (dk_at dksX1_open_0 12 rfl rfl)
theorem dX1_open_15 : decode cX1_open 15 = .ok (.lxor, 1) := dk_131 (dk_at dksX1_open_0 15 rfl rfl)
theorem dX1_open_16 : decode cX1_open 16 = .ok (.land, 1) := dk_127 (dk_at dksX1_open_0 16 rfl rfl)
theorem dX1_open_17 : decode cX1_open 17 = .ok (.lreturn, 1) := dk_173 (dk_at dksX1_open_0 17 rfl rfl)
abbrev cX1_seen : ByteArray := prog_1_method_60_code
def yX1_seen : MethodName := ⟨RX1, "seen", "(LBonnetValley$Upland;)J"⟩
def dkwX1_seen_1 : List UInt8 := [182, 1, 130, 129, 65, 132, 4, 1, 167, 255, 231, 32, 173]
abbrev dktX1_seen_1 : List UInt8 := dkwX1_seen_1 ++ []
def dkwX1_seen_0 : List UInt8 := [9, 65, 3, 54, 4, 21, 4, 42, 180, 0, 150, 162, 0, 22, 32, 42, 180, 0, 62, 43, 21, 4]
abbrev dktX1_seen_0 : List UInt8 := dkwX1_seen_0 ++ dktX1_seen_1
theorem dksX1_seen_0 : cX1_seen.data.toList.drop 0 = dktX1_seen_0 := by decide +kernel
theorem dksX1_seen_1 : cX1_seen.data.toList.drop 22 = dktX1_seen_1 := dk_seg dksX1_seen_0 22 rfl rfl
theorem dX1_seen_0 : decode cX1_seen 0 = .ok (.lconst 0, 1) := dk_9 (dk_at dksX1_seen_0 0 rfl rfl)
theorem dX1_seen_1 : decode cX1_seen 1 = .ok (.lstore_n 2, 1) := dk_65 (dk_at dksX1_seen_0 1 rfl rfl)
theorem dX1_seen_2 : decode cX1_seen 2 = .ok (.iconst 0, 1) := dk_3 (dk_at dksX1_seen_0 2 rfl rfl)
theorem dX1_seen_3 : decode cX1_seen 3 = .ok (.istore 4, 2) := dk_54 4 (dk_at dksX1_seen_0 3 rfl rfl)
theorem dX1_seen_5 : decode cX1_seen 5 = .ok (.iload 4, 2) := dk_21 4 (dk_at dksX1_seen_0 5 rfl rfl)
theorem dX1_seen_7 : decode cX1_seen 7 = .ok (.aload_n 0, 1) := dk_42 (dk_at dksX1_seen_0 7 rfl rfl)
theorem dX1_seen_8 : decode cX1_seen 8 = .ok (.getfield 150, 3) := dk_180 0 150 (dk_at dksX1_seen_0 8 rfl rfl)
theorem dX1_seen_11 : decode cX1_seen 11 = .ok (.if_icmp .ge 22, 3) := dk_162 0 22 (dk_at dksX1_seen_0 11 rfl rfl)
theorem dX1_seen_14 : decode cX1_seen 14 = .ok (.lload_n 2, 1) := dk_32 (dk_at dksX1_seen_0 14 rfl rfl)
theorem dX1_seen_15 : decode cX1_seen 15 = .ok (.aload_n 0, 1) := dk_42 (dk_at dksX1_seen_0 15 rfl rfl)
theorem dX1_seen_16 : decode cX1_seen 16 = .ok (.getfield 62, 3) := dk_180 0 62 (dk_at dksX1_seen_0 16 rfl rfl)
theorem dX1_seen_19 : decode cX1_seen 19 = .ok (.aload_n 1, 1) := dk_43 (dk_at dksX1_seen_0 19 rfl rfl)
theorem dX1_seen_20 : decode cX1_seen 20 = .ok (.iload 4, 2) := dk_21 4 (dk_at dksX1_seen_0 20 rfl rfl)
theorem dX1_seen_22 : decode cX1_seen 22 = .ok (.invokevirtual 386, 3) := dk_182 1 130 (dk_at dksX1_seen_1 0 rfl rfl)
theorem dX1_seen_25 : decode cX1_seen 25 = .ok (.lor, 1) := dk_129 (dk_at dksX1_seen_1 3 rfl rfl)
theorem dX1_seen_26 : decode cX1_seen 26 = .ok (.lstore_n 2, 1) := dk_65 (dk_at dksX1_seen_1 4 rfl rfl)
theorem dX1_seen_27 : decode cX1_seen 27 = .ok (.iinc 4 1, 3) := dk_132 4 1 (dk_at dksX1_seen_1 5 rfl rfl)
theorem dX1_seen_30 : decode cX1_seen 30 = .ok (.goto (-25), 3) := dk_167 255 231 (dk_at dksX1_seen_1 8 rfl rfl)
theorem dX1_seen_33 : decode cX1_seen 33 = .ok (.lload_n 2, 1) := dk_32 (dk_at dksX1_seen_1 11 rfl rfl)
theorem dX1_seen_34 : decode cX1_seen 34 = .ok (.lreturn, 1) := dk_173 (dk_at dksX1_seen_1 12 rfl rfl)
abbrev cX1_pairs : ByteArray := prog_1_method_62_code
def yX1_pairs : MethodName := ⟨RX1, "pairs", "()I"⟩
def dkwX1_pairs_5 : List UInt8 := [42, 29, 133, 182, 1, 74, 42, 21, 4, 133, 182, 1, 74, 27, 172]
abbrev dktX1_pairs_5 : List UInt8 := dkwX1_pairs_5 ++ []
def dkwX1_pairs_4 : List UInt8 := [167, 255, 195, 132, 5, 255, 167, 255, 176, 42, 3, 181, 0, 139, 42, 28, 133, 182, 1, 74, 27, 158, 0, 16]
abbrev dktX1_pairs_4 : List UInt8 := dkwX1_pairs_4 ++ dktX1_pairs_5
def dkwX1_pairs_3 : List UInt8 := [182, 1, 53, 153, 0, 7, 4, 167, 0, 4, 3, 96, 61, 21, 5, 62, 21, 6, 54, 4, 132, 6, 255]
abbrev dktX1_pairs_3 : List UInt8 := dkwX1_pairs_3 ++ dktX1_pairs_4
def dkwX1_pairs_2 : List UInt8 := [182, 1, 50, 154, 0, 6, 167, 0, 36, 132, 1, 1, 28, 42, 42, 180, 0, 84, 21, 5, 21, 6]
abbrev dktX1_pairs_2 : List UInt8 := dkwX1_pairs_2 ++ dktX1_pairs_3
def dkwX1_pairs_1 : List UInt8 := [180, 0, 150, 4, 100, 54, 6, 21, 6, 21, 5, 164, 0, 60, 42, 42, 180, 0, 84, 21, 5, 21, 6]
abbrev dktX1_pairs_1 : List UInt8 := dkwX1_pairs_1 ++ dktX1_pairs_2
def dkwX1_pairs_0 : List UInt8 := [3, 60, 3, 61, 2, 62, 2, 54, 4, 42, 180, 0, 150, 4, 100, 54, 5, 21, 5, 155, 0, 81, 42]
abbrev dktX1_pairs_0 : List UInt8 := dkwX1_pairs_0 ++ dktX1_pairs_1
theorem dksX1_pairs_0 : cX1_pairs.data.toList.drop 0 = dktX1_pairs_0 := by decide +kernel
theorem dksX1_pairs_1 : cX1_pairs.data.toList.drop 23 = dktX1_pairs_1 := dk_seg dksX1_pairs_0 23 rfl rfl
theorem dksX1_pairs_2 : cX1_pairs.data.toList.drop 46 = dktX1_pairs_2 := dk_seg dksX1_pairs_1 23 rfl rfl
theorem dksX1_pairs_3 : cX1_pairs.data.toList.drop 68 = dktX1_pairs_3 := dk_seg dksX1_pairs_2 22 rfl rfl
theorem dksX1_pairs_4 : cX1_pairs.data.toList.drop 91 = dktX1_pairs_4 := dk_seg dksX1_pairs_3 23 rfl rfl
theorem dksX1_pairs_5 : cX1_pairs.data.toList.drop 115 = dktX1_pairs_5 := dk_seg dksX1_pairs_4 24 rfl rfl
theorem dX1_pairs_0 : decode cX1_pairs 0 = .ok (.iconst 0, 1) := dk_3 (dk_at dksX1_pairs_0 0 rfl rfl)
theorem dX1_pairs_1 : decode cX1_pairs 1 = .ok (.istore_n 1, 1) := dk_60 (dk_at dksX1_pairs_0 1 rfl rfl)
theorem dX1_pairs_2 : decode cX1_pairs 2 = .ok (.iconst 0, 1) := dk_3 (dk_at dksX1_pairs_0 2 rfl rfl)
theorem dX1_pairs_3 : decode cX1_pairs 3 = .ok (.istore_n 2, 1) := dk_61 (dk_at dksX1_pairs_0 3 rfl rfl)
theorem dX1_pairs_4 : decode cX1_pairs 4 = .ok (.iconst (-1), 1) := dk_2 (dk_at dksX1_pairs_0 4 rfl rfl)
theorem dX1_pairs_5 : decode cX1_pairs 5 = .ok (.istore_n 3, 1) := dk_62 (dk_at dksX1_pairs_0 5 rfl rfl)
theorem dX1_pairs_6 : decode cX1_pairs 6 = .ok (.iconst (-1), 1) := dk_2 (dk_at dksX1_pairs_0 6 rfl rfl)
theorem dX1_pairs_7 : decode cX1_pairs 7 = .ok (.istore 4, 2) := dk_54 4 (dk_at dksX1_pairs_0 7 rfl rfl)
theorem dX1_pairs_9 : decode cX1_pairs 9 = .ok (.aload_n 0, 1) := dk_42 (dk_at dksX1_pairs_0 9 rfl rfl)
theorem dX1_pairs_10 : decode cX1_pairs 10 = .ok (.getfield 150, 3) := dk_180 0 150 (dk_at dksX1_pairs_0 10 rfl rfl)
theorem dX1_pairs_13 : decode cX1_pairs 13 = .ok (.iconst 1, 1) := dk_4 (dk_at dksX1_pairs_0 13 rfl rfl)
theorem dX1_pairs_14 : decode cX1_pairs 14 = .ok (.isub, 1) := dk_100 (dk_at dksX1_pairs_0 14 rfl rfl)
theorem dX1_pairs_15 : decode cX1_pairs 15 = .ok (.istore 5, 2) := dk_54 5 (dk_at dksX1_pairs_0 15 rfl rfl)
theorem dX1_pairs_17 : decode cX1_pairs 17 = .ok (.iload 5, 2) := dk_21 5 (dk_at dksX1_pairs_0 17 rfl rfl)
theorem dX1_pairs_19 : decode cX1_pairs 19 = .ok (.ifCond .lt 81, 3) := dk_155 0 81 (dk_at dksX1_pairs_0 19 rfl rfl)
theorem dX1_pairs_22 : decode cX1_pairs 22 = .ok (.aload_n 0, 1) := dk_42 (dk_at dksX1_pairs_0 22 rfl rfl)
theorem dX1_pairs_23 : decode cX1_pairs 23 = .ok (.getfield 150, 3) := dk_180 0 150 (dk_at dksX1_pairs_1 0 rfl rfl)
theorem dX1_pairs_26 : decode cX1_pairs 26 = .ok (.iconst 1, 1) := dk_4 (dk_at dksX1_pairs_1 3 rfl rfl)
theorem dX1_pairs_27 : decode cX1_pairs 27 = .ok (.isub, 1) := dk_100 (dk_at dksX1_pairs_1 4 rfl rfl)
theorem dX1_pairs_28 : decode cX1_pairs 28 = .ok (.istore 6, 2) := dk_54 6 (dk_at dksX1_pairs_1 5 rfl rfl)
theorem dX1_pairs_30 : decode cX1_pairs 30 = .ok (.iload 6, 2) := dk_21 6 (dk_at dksX1_pairs_1 7 rfl rfl)
theorem dX1_pairs_32 : decode cX1_pairs 32 = .ok (.iload 5, 2) := dk_21 5 (dk_at dksX1_pairs_1 9 rfl rfl)
theorem dX1_pairs_34 : decode cX1_pairs 34 = .ok (.if_icmp .le 60, 3) := dk_164 0 60 (dk_at dksX1_pairs_1 11 rfl rfl)
theorem dX1_pairs_37 : decode cX1_pairs 37 = .ok (.aload_n 0, 1) := dk_42 (dk_at dksX1_pairs_1 14 rfl rfl)
theorem dX1_pairs_38 : decode cX1_pairs 38 = .ok (.aload_n 0, 1) := dk_42 (dk_at dksX1_pairs_1 15 rfl rfl)
theorem dX1_pairs_39 : decode cX1_pairs 39 = .ok (.getfield 84, 3) := dk_180 0 84 (dk_at dksX1_pairs_1 16 rfl rfl)
theorem dX1_pairs_42 : decode cX1_pairs 42 = .ok (.iload 5, 2) := dk_21 5 (dk_at dksX1_pairs_1 19 rfl rfl)
theorem dX1_pairs_44 : decode cX1_pairs 44 = .ok (.iload 6, 2) := dk_21 6 (dk_at dksX1_pairs_1 21 rfl rfl)
theorem dX1_pairs_46 : decode cX1_pairs 46 = .ok (.invokevirtual 306, 3) := dk_182 1 50 (dk_at dksX1_pairs_2 0 rfl rfl)
theorem dX1_pairs_49 : decode cX1_pairs 49 = .ok (.ifCond .ne 6, 3) := dk_154 0 6 (dk_at dksX1_pairs_2 3 rfl rfl)
theorem dX1_pairs_52 : decode cX1_pairs 52 = .ok (.goto 36, 3) := dk_167 0 36 (dk_at dksX1_pairs_2 6 rfl rfl)
theorem dX1_pairs_55 : decode cX1_pairs 55 = .ok (.iinc 1 1, 3) := dk_132 1 1 (dk_at dksX1_pairs_2 9 rfl rfl)
theorem dX1_pairs_58 : decode cX1_pairs 58 = .ok (.iload_n 2, 1) := dk_28 (dk_at dksX1_pairs_2 12 rfl rfl)
theorem dX1_pairs_59 : decode cX1_pairs 59 = .ok (.aload_n 0, 1) := dk_42 (dk_at dksX1_pairs_2 13 rfl rfl)
theorem dX1_pairs_60 : decode cX1_pairs 60 = .ok (.aload_n 0, 1) := dk_42 (dk_at dksX1_pairs_2 14 rfl rfl)
theorem dX1_pairs_61 : decode cX1_pairs 61 = .ok (.getfield 84, 3) := dk_180 0 84 (dk_at dksX1_pairs_2 15 rfl rfl)
theorem dX1_pairs_64 : decode cX1_pairs 64 = .ok (.iload 5, 2) := dk_21 5 (dk_at dksX1_pairs_2 18 rfl rfl)
theorem dX1_pairs_66 : decode cX1_pairs 66 = .ok (.iload 6, 2) := dk_21 6 (dk_at dksX1_pairs_2 20 rfl rfl)
theorem dX1_pairs_68 : decode cX1_pairs 68 = .ok (.invokevirtual 309, 3) := dk_182 1 53 (dk_at dksX1_pairs_3 0 rfl rfl)
theorem dX1_pairs_71 : decode cX1_pairs 71 = .ok (.ifCond .eq 7, 3) := dk_153 0 7 (dk_at dksX1_pairs_3 3 rfl rfl)
theorem dX1_pairs_74 : decode cX1_pairs 74 = .ok (.iconst 1, 1) := dk_4 (dk_at dksX1_pairs_3 6 rfl rfl)
theorem dX1_pairs_75 : decode cX1_pairs 75 = .ok (.goto 4, 3) := dk_167 0 4 (dk_at dksX1_pairs_3 7 rfl rfl)
theorem dX1_pairs_78 : decode cX1_pairs 78 = .ok (.iconst 0, 1) := dk_3 (dk_at dksX1_pairs_3 10 rfl rfl)
theorem dX1_pairs_79 : decode cX1_pairs 79 = .ok (.iadd, 1) := dk_96 (dk_at dksX1_pairs_3 11 rfl rfl)
theorem dX1_pairs_80 : decode cX1_pairs 80 = .ok (.istore_n 2, 1) := dk_61 (dk_at dksX1_pairs_3 12 rfl rfl)
theorem dX1_pairs_81 : decode cX1_pairs 81 = .ok (.iload 5, 2) := dk_21 5 (dk_at dksX1_pairs_3 13 rfl rfl)
theorem dX1_pairs_83 : decode cX1_pairs 83 = .ok (.istore_n 3, 1) := dk_62 (dk_at dksX1_pairs_3 15 rfl rfl)
theorem dX1_pairs_84 : decode cX1_pairs 84 = .ok (.iload 6, 2) := dk_21 6 (dk_at dksX1_pairs_3 16 rfl rfl)
theorem dX1_pairs_86 : decode cX1_pairs 86 = .ok (.istore 4, 2) := dk_54 4 (dk_at dksX1_pairs_3 18 rfl rfl)
theorem dX1_pairs_88 : decode cX1_pairs 88 = .ok (.iinc 6 (-1), 3) := dk_132 6 255 (dk_at dksX1_pairs_3 20 rfl rfl)
theorem dX1_pairs_91 : decode cX1_pairs 91 = .ok (.goto (-61), 3) := dk_167 255 195 (dk_at dksX1_pairs_4 0 rfl rfl)
theorem dX1_pairs_94 : decode cX1_pairs 94 = .ok (.iinc 5 (-1), 3) := dk_132 5 255 (dk_at dksX1_pairs_4 3 rfl rfl)
theorem dX1_pairs_97 : decode cX1_pairs 97 = .ok (.goto (-80), 3) := dk_167 255 176 (dk_at dksX1_pairs_4 6 rfl rfl)
theorem dX1_pairs_100 : decode cX1_pairs 100 = .ok (.aload_n 0, 1) := dk_42 (dk_at dksX1_pairs_4 9 rfl rfl)
theorem dX1_pairs_101 : decode cX1_pairs 101 = .ok (.iconst 0, 1) := dk_3 (dk_at dksX1_pairs_4 10 rfl rfl)
theorem dX1_pairs_102 : decode cX1_pairs 102 = .ok (.putfield 139, 3) := dk_181 0 139 (dk_at dksX1_pairs_4 11 rfl rfl)
theorem dX1_pairs_105 : decode cX1_pairs 105 = .ok (.aload_n 0, 1) := dk_42 (dk_at dksX1_pairs_4 14 rfl rfl)
theorem dX1_pairs_106 : decode cX1_pairs 106 = .ok (.iload_n 2, 1) := dk_28 (dk_at dksX1_pairs_4 15 rfl rfl)
theorem dX1_pairs_107 : decode cX1_pairs 107 = .ok (.i2l, 1) := dk_133 (dk_at dksX1_pairs_4 16 rfl rfl)
theorem dX1_pairs_108 : decode cX1_pairs 108 = .ok (.invokevirtual 330, 3) := dk_182 1 74 (dk_at dksX1_pairs_4 17 rfl rfl)
theorem dX1_pairs_111 : decode cX1_pairs 111 = .ok (.iload_n 1, 1) := dk_27 (dk_at dksX1_pairs_4 20 rfl rfl)
theorem dX1_pairs_112 : decode cX1_pairs 112 = .ok (.ifCond .le 16, 3) := dk_158 0 16 (dk_at dksX1_pairs_4 21 rfl rfl)
theorem dX1_pairs_115 : decode cX1_pairs 115 = .ok (.aload_n 0, 1) := dk_42 (dk_at dksX1_pairs_5 0 rfl rfl)
theorem dX1_pairs_116 : decode cX1_pairs 116 = .ok (.iload_n 3, 1) := dk_29 (dk_at dksX1_pairs_5 1 rfl rfl)
theorem dX1_pairs_117 : decode cX1_pairs 117 = .ok (.i2l, 1) := dk_133 (dk_at dksX1_pairs_5 2 rfl rfl)
theorem dX1_pairs_118 : decode cX1_pairs 118 = .ok (.invokevirtual 330, 3) := dk_182 1 74 (dk_at dksX1_pairs_5 3 rfl rfl)
theorem dX1_pairs_121 : decode cX1_pairs 121 = .ok (.aload_n 0, 1) := dk_42 (dk_at dksX1_pairs_5 6 rfl rfl)
theorem dX1_pairs_122 : decode cX1_pairs 122 = .ok (.iload 4, 2) := dk_21 4 (dk_at dksX1_pairs_5 7 rfl rfl)
theorem dX1_pairs_124 : decode cX1_pairs 124 = .ok (.i2l, 1) := dk_133 (dk_at dksX1_pairs_5 9 rfl rfl)
theorem dX1_pairs_125 : decode cX1_pairs 125 = .ok (.invokevirtual 330, 3) := dk_182 1 74 (dk_at dksX1_pairs_5 10 rfl rfl)
theorem dX1_pairs_128 : decode cX1_pairs 128 = .ok (.iload_n 1, 1) := dk_27 (dk_at dksX1_pairs_5 13 rfl rfl)
theorem dX1_pairs_129 : decode cX1_pairs 129 = .ok (.ireturn, 1) := dk_172 (dk_at dksX1_pairs_5 14 rfl rfl)
abbrev cX1_behind : ByteArray := prog_1_method_63_code
def yX1_behind : MethodName := ⟨RX1, "behind", "(I)I"⟩
def dkwX1_behind_4 : List UInt8 := [181, 0, 139, 42, 28, 184, 1, 59, 133, 182, 1, 74, 28, 172]
abbrev dktX1_behind_4 : List UInt8 := dkwX1_behind_4 ++ []
def dkwX1_behind_3 : List UInt8 := [182, 0, 246, 154, 0, 9, 4, 29, 120, 167, 0, 4, 3, 128, 61, 132, 3, 1, 167, 255, 182, 42, 3]
abbrev dktX1_behind_3 : List UInt8 := dkwX1_behind_3 ++ dktX1_behind_4
def dkwX1_behind_2 : List UInt8 := [182, 0, 246, 153, 0, 33, 42, 180, 0, 62, 42, 180, 0, 84, 27, 42, 180, 0, 84, 180, 0, 217, 29, 46]
abbrev dktX1_behind_2 : List UInt8 := dkwX1_behind_2 ++ dktX1_behind_3
def dkwX1_behind_1 : List UInt8 := [27, 159, 0, 57, 42, 180, 0, 62, 42, 180, 0, 84, 29, 42, 180, 0, 84, 180, 0, 217, 27, 46]
abbrev dktX1_behind_1 : List UInt8 := dkwX1_behind_1 ++ dktX1_behind_2
def dkwX1_behind_0 : List UInt8 := [42, 27, 182, 0, 250, 154, 0, 5, 2, 172, 3, 61, 3, 62, 29, 42, 180, 0, 150, 162, 0, 72, 28, 29]
abbrev dktX1_behind_0 : List UInt8 := dkwX1_behind_0 ++ dktX1_behind_1
theorem dksX1_behind_0 : cX1_behind.data.toList.drop 0 = dktX1_behind_0 := by decide +kernel
theorem dksX1_behind_1 : cX1_behind.data.toList.drop 24 = dktX1_behind_1 := dk_seg dksX1_behind_0 24 rfl rfl
theorem dksX1_behind_2 : cX1_behind.data.toList.drop 46 = dktX1_behind_2 := dk_seg dksX1_behind_1 22 rfl rfl
theorem dksX1_behind_3 : cX1_behind.data.toList.drop 70 = dktX1_behind_3 := dk_seg dksX1_behind_2 24 rfl rfl
theorem dksX1_behind_4 : cX1_behind.data.toList.drop 93 = dktX1_behind_4 := dk_seg dksX1_behind_3 23 rfl rfl
theorem dX1_behind_0 : decode cX1_behind 0 = .ok (.aload_n 0, 1) := dk_42 (dk_at dksX1_behind_0 0 rfl rfl)
theorem dX1_behind_1 : decode cX1_behind 1 = .ok (.iload_n 1, 1) := dk_27 (dk_at dksX1_behind_0 1 rfl rfl)
theorem dX1_behind_2 : decode cX1_behind 2 = .ok (.invokevirtual 250, 3) := dk_182 0 250 (dk_at dksX1_behind_0 2 rfl rfl)
theorem dX1_behind_5 : decode cX1_behind 5 = .ok (.ifCond .ne 5, 3) := dk_154 0 5 (dk_at dksX1_behind_0 5 rfl rfl)
theorem dX1_behind_8 : decode cX1_behind 8 = .ok (.iconst (-1), 1) := dk_2 (dk_at dksX1_behind_0 8 rfl rfl)
theorem dX1_behind_9 : decode cX1_behind 9 = .ok (.ireturn, 1) := dk_172 (dk_at dksX1_behind_0 9 rfl rfl)
theorem dX1_behind_10 : decode cX1_behind 10 = .ok (.iconst 0, 1) := dk_3 (dk_at dksX1_behind_0 10 rfl rfl)
theorem dX1_behind_11 : decode cX1_behind 11 = .ok (.istore_n 2, 1) := dk_61 (dk_at dksX1_behind_0 11 rfl rfl)
theorem dX1_behind_12 : decode cX1_behind 12 = .ok (.iconst 0, 1) := dk_3 (dk_at dksX1_behind_0 12 rfl rfl)
theorem dX1_behind_13 : decode cX1_behind 13 = .ok (.istore_n 3, 1) := dk_62 (dk_at dksX1_behind_0 13 rfl rfl)
theorem dX1_behind_14 : decode cX1_behind 14 = .ok (.iload_n 3, 1) := dk_29 (dk_at dksX1_behind_0 14 rfl rfl)
theorem dX1_behind_15 : decode cX1_behind 15 = .ok (.aload_n 0, 1) := dk_42 (dk_at dksX1_behind_0 15 rfl rfl)
theorem dX1_behind_16 : decode cX1_behind 16 = .ok (.getfield 150, 3) := dk_180 0 150 (dk_at dksX1_behind_0 16 rfl rfl)
theorem dX1_behind_19 : decode cX1_behind 19 = .ok (.if_icmp .ge 72, 3) := dk_162 0 72 (dk_at dksX1_behind_0 19 rfl rfl)
theorem dX1_behind_22 : decode cX1_behind 22 = .ok (.iload_n 2, 1) := dk_28 (dk_at dksX1_behind_0 22 rfl rfl)
theorem dX1_behind_23 : decode cX1_behind 23 = .ok (.iload_n 3, 1) := dk_29 (dk_at dksX1_behind_0 23 rfl rfl)
theorem dX1_behind_24 : decode cX1_behind 24 = .ok (.iload_n 1, 1) := dk_27 (dk_at dksX1_behind_1 0 rfl rfl)
theorem dX1_behind_25 : decode cX1_behind 25 = .ok (.if_icmp .eq 57, 3) := dk_159 0 57 (dk_at dksX1_behind_1 1 rfl rfl)
theorem dX1_behind_28 : decode cX1_behind 28 = .ok (.aload_n 0, 1) := dk_42 (dk_at dksX1_behind_1 4 rfl rfl)
theorem dX1_behind_29 : decode cX1_behind 29 = .ok (.getfield 62, 3) := dk_180 0 62 (dk_at dksX1_behind_1 5 rfl rfl)
theorem dX1_behind_32 : decode cX1_behind 32 = .ok (.aload_n 0, 1) := dk_42 (dk_at dksX1_behind_1 8 rfl rfl)
theorem dX1_behind_33 : decode cX1_behind 33 = .ok (.getfield 84, 3) := dk_180 0 84 (dk_at dksX1_behind_1 9 rfl rfl)
theorem dX1_behind_36 : decode cX1_behind 36 = .ok (.iload_n 3, 1) := dk_29 (dk_at dksX1_behind_1 12 rfl rfl)
theorem dX1_behind_37 : decode cX1_behind 37 = .ok (.aload_n 0, 1) := dk_42 (dk_at dksX1_behind_1 13 rfl rfl)
theorem dX1_behind_38 : decode cX1_behind 38 = .ok (.getfield 84, 3) := dk_180 0 84 (dk_at dksX1_behind_1 14 rfl rfl)
theorem dX1_behind_41 : decode cX1_behind 41 = .ok (.getfield 217, 3) := dk_180 0 217 (dk_at dksX1_behind_1 17 rfl rfl)
theorem dX1_behind_44 : decode cX1_behind 44 = .ok (.iload_n 1, 1) := dk_27 (dk_at dksX1_behind_1 20 rfl rfl)
theorem dX1_behind_45 : decode cX1_behind 45 = .ok (.iaload, 1) := dk_46 (dk_at dksX1_behind_1 21 rfl rfl)
theorem dX1_behind_46 : decode cX1_behind 46 = .ok (.invokevirtual 246, 3) := dk_182 0 246 (dk_at dksX1_behind_2 0 rfl rfl)
theorem dX1_behind_49 : decode cX1_behind 49 = .ok (.ifCond .eq 33, 3) := dk_153 0 33 (dk_at dksX1_behind_2 3 rfl rfl)
theorem dX1_behind_52 : decode cX1_behind 52 = .ok (.aload_n 0, 1) := dk_42 (dk_at dksX1_behind_2 6 rfl rfl)
theorem dX1_behind_53 : decode cX1_behind 53 = .ok (.getfield 62, 3) := dk_180 0 62 (dk_at dksX1_behind_2 7 rfl rfl)
theorem dX1_behind_56 : decode cX1_behind 56 = .ok (.aload_n 0, 1) := dk_42 (dk_at dksX1_behind_2 10 rfl rfl)
theorem dX1_behind_57 : decode cX1_behind 57 = .ok (.getfield 84, 3) := dk_180 0 84 (dk_at dksX1_behind_2 11 rfl rfl)
theorem dX1_behind_60 : decode cX1_behind 60 = .ok (.iload_n 1, 1) := dk_27 (dk_at dksX1_behind_2 14 rfl rfl)
theorem dX1_behind_61 : decode cX1_behind 61 = .ok (.aload_n 0, 1) := dk_42 (dk_at dksX1_behind_2 15 rfl rfl)
theorem dX1_behind_62 : decode cX1_behind 62 = .ok (.getfield 84, 3) := dk_180 0 84 (dk_at dksX1_behind_2 16 rfl rfl)
theorem dX1_behind_65 : decode cX1_behind 65 = .ok (.getfield 217, 3) := dk_180 0 217 (dk_at dksX1_behind_2 19 rfl rfl)
theorem dX1_behind_68 : decode cX1_behind 68 = .ok (.iload_n 3, 1) := dk_29 (dk_at dksX1_behind_2 22 rfl rfl)
theorem dX1_behind_69 : decode cX1_behind 69 = .ok (.iaload, 1) := dk_46 (dk_at dksX1_behind_2 23 rfl rfl)
theorem dX1_behind_70 : decode cX1_behind 70 = .ok (.invokevirtual 246, 3) := dk_182 0 246 (dk_at dksX1_behind_3 0 rfl rfl)
theorem dX1_behind_73 : decode cX1_behind 73 = .ok (.ifCond .ne 9, 3) := dk_154 0 9 (dk_at dksX1_behind_3 3 rfl rfl)
theorem dX1_behind_76 : decode cX1_behind 76 = .ok (.iconst 1, 1) := dk_4 (dk_at dksX1_behind_3 6 rfl rfl)
theorem dX1_behind_77 : decode cX1_behind 77 = .ok (.iload_n 3, 1) := dk_29 (dk_at dksX1_behind_3 7 rfl rfl)
theorem dX1_behind_78 : decode cX1_behind 78 = .ok (.ishl, 1) := dk_120 (dk_at dksX1_behind_3 8 rfl rfl)
theorem dX1_behind_79 : decode cX1_behind 79 = .ok (.goto 4, 3) := dk_167 0 4 (dk_at dksX1_behind_3 9 rfl rfl)
theorem dX1_behind_82 : decode cX1_behind 82 = .ok (.iconst 0, 1) := dk_3 (dk_at dksX1_behind_3 12 rfl rfl)
theorem dX1_behind_83 : decode cX1_behind 83 = .ok (.ior, 1) := dk_128 (dk_at dksX1_behind_3 13 rfl rfl)
theorem dX1_behind_84 : decode cX1_behind 84 = .ok (.istore_n 2, 1) := dk_61 (dk_at dksX1_behind_3 14 rfl rfl)
theorem dX1_behind_85 : decode cX1_behind 85 = .ok (.iinc 3 1, 3) := dk_132 3 1 (dk_at dksX1_behind_3 15 rfl rfl)
theorem dX1_behind_88 : decode cX1_behind 88 = .ok (.goto (-74), 3) := dk_167 255 182 (dk_at dksX1_behind_3 18 rfl rfl)
theorem dX1_behind_91 : decode cX1_behind 91 = .ok (.aload_n 0, 1) := dk_42 (dk_at dksX1_behind_3 21 rfl rfl)
theorem dX1_behind_92 : decode cX1_behind 92 = .ok (.iconst 0, 1) := dk_3 (dk_at dksX1_behind_3 22 rfl rfl)
theorem dX1_behind_93 : decode cX1_behind 93 = .ok (.putfield 139, 3) := dk_181 0 139 (dk_at dksX1_behind_4 0 rfl rfl)
theorem dX1_behind_96 : decode cX1_behind 96 = .ok (.aload_n 0, 1) := dk_42 (dk_at dksX1_behind_4 3 rfl rfl)
theorem dX1_behind_97 : decode cX1_behind 97 = .ok (.iload_n 2, 1) := dk_28 (dk_at dksX1_behind_4 4 rfl rfl)
theorem dX1_behind_98 : decode cX1_behind 98 = .ok (.invokestatic 315, 3) := dk_184 1 59 (dk_at dksX1_behind_4 5 rfl rfl)
theorem dX1_behind_101 : decode cX1_behind 101 = .ok (.i2l, 1) := dk_133 (dk_at dksX1_behind_4 8 rfl rfl)
theorem dX1_behind_102 : decode cX1_behind 102 = .ok (.invokevirtual 330, 3) := dk_182 1 74 (dk_at dksX1_behind_4 9 rfl rfl)
theorem dX1_behind_105 : decode cX1_behind 105 = .ok (.iload_n 2, 1) := dk_28 (dk_at dksX1_behind_4 12 rfl rfl)
theorem dX1_behind_106 : decode cX1_behind 106 = .ok (.ireturn, 1) := dk_172 (dk_at dksX1_behind_4 13 rfl rfl)
abbrev cX1_widest : ByteArray := prog_1_method_65_code
def yX1_widest : MethodName := ⟨RX1, "widest", "()I"⟩
def dkwX1_widest_4 : List UInt8 := [182, 1, 153, 133, 182, 1, 74, 27, 172]
abbrev dktX1_widest_4 : List UInt8 := dkwX1_widest_4 ++ []
def dkwX1_widest_3 : List UInt8 := [181, 0, 139, 42, 42, 27, 182, 1, 153, 133, 182, 1, 74, 42, 28, 133, 182, 1, 74, 42, 42, 28]
abbrev dktX1_widest_3 : List UInt8 := dkwX1_widest_3 ++ dktX1_widest_4
def dkwX1_widest_2 : List UInt8 := [42, 28, 182, 1, 153, 162, 0, 7, 29, 167, 0, 4, 28, 61, 132, 3, 1, 167, 255, 207, 42, 3]
abbrev dktX1_widest_2 : List UInt8 := dkwX1_widest_2 ++ dktX1_widest_3
def dkwX1_widest_1 : List UInt8 := [42, 29, 182, 1, 153, 42, 27, 182, 1, 153, 164, 0, 7, 29, 167, 0, 4, 27, 60, 42, 29, 182, 1, 153]
abbrev dktX1_widest_1 : List UInt8 := dkwX1_widest_1 ++ dktX1_widest_2
def dkwX1_widest_0 : List UInt8 := [42, 180, 0, 150, 154, 0, 6, 16, 254, 172, 3, 60, 3, 61, 4, 62, 29, 42, 180, 0, 150, 162, 0, 47]
abbrev dktX1_widest_0 : List UInt8 := dkwX1_widest_0 ++ dktX1_widest_1
theorem dksX1_widest_0 : cX1_widest.data.toList.drop 0 = dktX1_widest_0 := by decide +kernel
theorem dksX1_widest_1 : cX1_widest.data.toList.drop 24 = dktX1_widest_1 := dk_seg dksX1_widest_0 24 rfl rfl
theorem dksX1_widest_2 : cX1_widest.data.toList.drop 48 = dktX1_widest_2 := dk_seg dksX1_widest_1 24 rfl rfl
theorem dksX1_widest_3 : cX1_widest.data.toList.drop 70 = dktX1_widest_3 := dk_seg dksX1_widest_2 22 rfl rfl
theorem dksX1_widest_4 : cX1_widest.data.toList.drop 92 = dktX1_widest_4 := dk_seg dksX1_widest_3 22 rfl rfl
theorem dX1_widest_0 : decode cX1_widest 0 = .ok (.aload_n 0, 1) := dk_42 (dk_at dksX1_widest_0 0 rfl rfl)
theorem dX1_widest_1 : decode cX1_widest 1 = .ok (.getfield 150, 3) := dk_180 0 150 (dk_at dksX1_widest_0 1 rfl rfl)
theorem dX1_widest_4 : decode cX1_widest 4 = .ok (.ifCond .ne 6, 3) := dk_154 0 6 (dk_at dksX1_widest_0 4 rfl rfl)
theorem dX1_widest_7 : decode cX1_widest 7 = .ok (.bipush (-2), 2) := dk_16 254 (dk_at dksX1_widest_0 7 rfl rfl)
theorem dX1_widest_9 : decode cX1_widest 9 = .ok (.ireturn, 1) := dk_172 (dk_at dksX1_widest_0 9 rfl rfl)
theorem dX1_widest_10 : decode cX1_widest 10 = .ok (.iconst 0, 1) := dk_3 (dk_at dksX1_widest_0 10 rfl rfl)
theorem dX1_widest_11 : decode cX1_widest 11 = .ok (.istore_n 1, 1) := dk_60 (dk_at dksX1_widest_0 11 rfl rfl)
theorem dX1_widest_12 : decode cX1_widest 12 = .ok (.iconst 0, 1) := dk_3 (dk_at dksX1_widest_0 12 rfl rfl)
theorem dX1_widest_13 : decode cX1_widest 13 = .ok (.istore_n 2, 1) := dk_61 (dk_at dksX1_widest_0 13 rfl rfl)
theorem dX1_widest_14 : decode cX1_widest 14 = .ok (.iconst 1, 1) := dk_4 (dk_at dksX1_widest_0 14 rfl rfl)
theorem dX1_widest_15 : decode cX1_widest 15 = .ok (.istore_n 3, 1) := dk_62 (dk_at dksX1_widest_0 15 rfl rfl)
theorem dX1_widest_16 : decode cX1_widest 16 = .ok (.iload_n 3, 1) := dk_29 (dk_at dksX1_widest_0 16 rfl rfl)
theorem dX1_widest_17 : decode cX1_widest 17 = .ok (.aload_n 0, 1) := dk_42 (dk_at dksX1_widest_0 17 rfl rfl)
theorem dX1_widest_18 : decode cX1_widest 18 = .ok (.getfield 150, 3) := dk_180 0 150 (dk_at dksX1_widest_0 18 rfl rfl)
theorem dX1_widest_21 : decode cX1_widest 21 = .ok (.if_icmp .ge 47, 3) := dk_162 0 47 (dk_at dksX1_widest_0 21 rfl rfl)
theorem dX1_widest_24 : decode cX1_widest 24 = .ok (.aload_n 0, 1) := dk_42 (dk_at dksX1_widest_1 0 rfl rfl)
theorem dX1_widest_25 : decode cX1_widest 25 = .ok (.iload_n 3, 1) := dk_29 (dk_at dksX1_widest_1 1 rfl rfl)
theorem dX1_widest_26 : decode cX1_widest 26 = .ok (.invokevirtual 409, 3) := dk_182 1 153 (dk_at dksX1_widest_1 2 rfl rfl)
theorem dX1_widest_29 : decode cX1_widest 29 = .ok (.aload_n 0, 1) := dk_42 (dk_at dksX1_widest_1 5 rfl rfl)
theorem dX1_widest_30 : decode cX1_widest 30 = .ok (.iload_n 1, 1) := dk_27 (dk_at dksX1_widest_1 6 rfl rfl)
theorem dX1_widest_31 : decode cX1_widest 31 = .ok (.invokevirtual 409, 3) := dk_182 1 153 (dk_at dksX1_widest_1 7 rfl rfl)
theorem dX1_widest_34 : decode cX1_widest 34 = .ok (.if_icmp .le 7, 3) := dk_164 0 7 (dk_at dksX1_widest_1 10 rfl rfl)
theorem dX1_widest_37 : decode cX1_widest 37 = .ok (.iload_n 3, 1) := dk_29 (dk_at dksX1_widest_1 13 rfl rfl)
theorem dX1_widest_38 : decode cX1_widest 38 = .ok (.goto 4, 3) := dk_167 0 4 (dk_at dksX1_widest_1 14 rfl rfl)
theorem dX1_widest_41 : decode cX1_widest 41 = .ok (.iload_n 1, 1) := dk_27 (dk_at dksX1_widest_1 17 rfl rfl)
theorem dX1_widest_42 : decode cX1_widest 42 = .ok (.istore_n 1, 1) := dk_60 (dk_at dksX1_widest_1 18 rfl rfl)
theorem dX1_widest_43 : decode cX1_widest 43 = .ok (.aload_n 0, 1) := dk_42 (dk_at dksX1_widest_1 19 rfl rfl)
theorem dX1_widest_44 : decode cX1_widest 44 = .ok (.iload_n 3, 1) := dk_29 (dk_at dksX1_widest_1 20 rfl rfl)
theorem dX1_widest_45 : decode cX1_widest 45 = .ok (.invokevirtual 409, 3) := dk_182 1 153 (dk_at dksX1_widest_1 21 rfl rfl)
theorem dX1_widest_48 : decode cX1_widest 48 = .ok (.aload_n 0, 1) := dk_42 (dk_at dksX1_widest_2 0 rfl rfl)
theorem dX1_widest_49 : decode cX1_widest 49 = .ok (.iload_n 2, 1) := dk_28 (dk_at dksX1_widest_2 1 rfl rfl)
theorem dX1_widest_50 : decode cX1_widest 50 = .ok (.invokevirtual 409, 3) := dk_182 1 153 (dk_at dksX1_widest_2 2 rfl rfl)
theorem dX1_widest_53 : decode cX1_widest 53 = .ok (.if_icmp .ge 7, 3) := dk_162 0 7 (dk_at dksX1_widest_2 5 rfl rfl)
theorem dX1_widest_56 : decode cX1_widest 56 = .ok (.iload_n 3, 1) := dk_29 (dk_at dksX1_widest_2 8 rfl rfl)
theorem dX1_widest_57 : decode cX1_widest 57 = .ok (.goto 4, 3) := dk_167 0 4 (dk_at dksX1_widest_2 9 rfl rfl)
theorem dX1_widest_60 : decode cX1_widest 60 = .ok (.iload_n 2, 1) := dk_28 (dk_at dksX1_widest_2 12 rfl rfl)
theorem dX1_widest_61 : decode cX1_widest 61 = .ok (.istore_n 2, 1) := dk_61 (dk_at dksX1_widest_2 13 rfl rfl)
theorem dX1_widest_62 : decode cX1_widest 62 = .ok (.iinc 3 1, 3) := dk_132 3 1 (dk_at dksX1_widest_2 14 rfl rfl)
theorem dX1_widest_65 : decode cX1_widest 65 = .ok (.goto (-49), 3) := dk_167 255 207 (dk_at dksX1_widest_2 17 rfl rfl)
theorem dX1_widest_68 : decode cX1_widest 68 = .ok (.aload_n 0, 1) := dk_42 (dk_at dksX1_widest_2 20 rfl rfl)
theorem dX1_widest_69 : decode cX1_widest 69 = .ok (.iconst 0, 1) := dk_3 (dk_at dksX1_widest_2 21 rfl rfl)
theorem dX1_widest_70 : decode cX1_widest 70 = .ok (.putfield 139, 3) := dk_181 0 139 (dk_at dksX1_widest_3 0 rfl rfl)
theorem dX1_widest_73 : decode cX1_widest 73 = .ok (.aload_n 0, 1) := dk_42 (dk_at dksX1_widest_3 3 rfl rfl)
theorem dX1_widest_74 : decode cX1_widest 74 = .ok (.aload_n 0, 1) := dk_42 (dk_at dksX1_widest_3 4 rfl rfl)
theorem dX1_widest_75 : decode cX1_widest 75 = .ok (.iload_n 1, 1) := dk_27 (dk_at dksX1_widest_3 5 rfl rfl)
theorem dX1_widest_76 : decode cX1_widest 76 = .ok (.invokevirtual 409, 3) := dk_182 1 153 (dk_at dksX1_widest_3 6 rfl rfl)
theorem dX1_widest_79 : decode cX1_widest 79 = .ok (.i2l, 1) := dk_133 (dk_at dksX1_widest_3 9 rfl rfl)
theorem dX1_widest_80 : decode cX1_widest 80 = .ok (.invokevirtual 330, 3) := dk_182 1 74 (dk_at dksX1_widest_3 10 rfl rfl)
theorem dX1_widest_83 : decode cX1_widest 83 = .ok (.aload_n 0, 1) := dk_42 (dk_at dksX1_widest_3 13 rfl rfl)
theorem dX1_widest_84 : decode cX1_widest 84 = .ok (.iload_n 2, 1) := dk_28 (dk_at dksX1_widest_3 14 rfl rfl)
theorem dX1_widest_85 : decode cX1_widest 85 = .ok (.i2l, 1) := dk_133 (dk_at dksX1_widest_3 15 rfl rfl)
theorem dX1_widest_86 : decode cX1_widest 86 = .ok (.invokevirtual 330, 3) := dk_182 1 74 (dk_at dksX1_widest_3 16 rfl rfl)
theorem dX1_widest_89 : decode cX1_widest 89 = .ok (.aload_n 0, 1) := dk_42 (dk_at dksX1_widest_3 19 rfl rfl)
theorem dX1_widest_90 : decode cX1_widest 90 = .ok (.aload_n 0, 1) := dk_42 (dk_at dksX1_widest_3 20 rfl rfl)
theorem dX1_widest_91 : decode cX1_widest 91 = .ok (.iload_n 2, 1) := dk_28 (dk_at dksX1_widest_3 21 rfl rfl)
theorem dX1_widest_92 : decode cX1_widest 92 = .ok (.invokevirtual 409, 3) := dk_182 1 153 (dk_at dksX1_widest_4 0 rfl rfl)
theorem dX1_widest_95 : decode cX1_widest 95 = .ok (.i2l, 1) := dk_133 (dk_at dksX1_widest_4 3 rfl rfl)
theorem dX1_widest_96 : decode cX1_widest 96 = .ok (.invokevirtual 330, 3) := dk_182 1 74 (dk_at dksX1_widest_4 4 rfl rfl)
theorem dX1_widest_99 : decode cX1_widest 99 = .ok (.iload_n 1, 1) := dk_27 (dk_at dksX1_widest_4 7 rfl rfl)
theorem dX1_widest_100 : decode cX1_widest 100 = .ok (.ireturn, 1) := dk_172 (dk_at dksX1_widest_4 8 rfl rfl)
abbrev cX1_wide : ByteArray := prog_1_method_64_code
def yX1_wide : MethodName := ⟨RX1, "wide", "(I)I"⟩
def dkwX1_wide_0 : List UInt8 := [42, 180, 0, 62, 42, 180, 0, 84, 27, 182, 1, 130, 184, 1, 133, 172]
abbrev dktX1_wide_0 : List UInt8 := dkwX1_wide_0 ++ []
theorem dksX1_wide_0 : cX1_wide.data.toList.drop 0 = dktX1_wide_0 := by decide +kernel
theorem dX1_wide_0 : decode cX1_wide 0 = .ok (.aload_n 0, 1) := dk_42 (dk_at dksX1_wide_0 0 rfl rfl)
theorem dX1_wide_1 : decode cX1_wide 1 = .ok (.getfield 62, 3) := dk_180 0 62 (dk_at dksX1_wide_0 1 rfl rfl)
theorem dX1_wide_4 : decode cX1_wide 4 = .ok (.aload_n 0, 1) := dk_42 (dk_at dksX1_wide_0 4 rfl rfl)
theorem dX1_wide_5 : decode cX1_wide 5 = .ok (.getfield 84, 3) := dk_180 0 84 (dk_at dksX1_wide_0 5 rfl rfl)
theorem dX1_wide_8 : decode cX1_wide 8 = .ok (.iload_n 1, 1) := dk_27 (dk_at dksX1_wide_0 8 rfl rfl)
theorem dX1_wide_9 : decode cX1_wide 9 = .ok (.invokevirtual 386, 3) := dk_182 1 130 (dk_at dksX1_wide_0 9 rfl rfl)
theorem dX1_wide_12 : decode cX1_wide 12 = .ok (.invokestatic 389, 3) := dk_184 1 133 (dk_at dksX1_wide_0 12 rfl rfl)
theorem dX1_wide_15 : decode cX1_wide 15 = .ok (.ireturn, 1) := dk_172 (dk_at dksX1_wide_0 15 rfl rfl)
abbrev cX1_watch : ByteArray := prog_1_method_66_code
def yX1_watch : MethodName := ⟨RX1, "watch", "()I"⟩
def dkwX1_watch_6 : List UInt8 := [42, 3, 181, 0, 139, 42, 29, 133, 182, 1, 74, 29, 184, 1, 59, 172]
abbrev dktX1_watch_6 : List UInt8 := dkwX1_watch_6 ++ []
def dkwX1_watch_5 : List UInt8 := [55, 5, 132, 7, 1, 167, 255, 217, 22, 5, 31, 148, 154, 0, 6, 21, 4, 62, 132, 4, 255, 167, 255, 175]
abbrev dktX1_watch_5 : List UInt8 := dkwX1_watch_5 ++ dktX1_watch_6
def dkwX1_watch_4 : List UInt8 := [21, 4, 133, 21, 7, 184, 0, 26, 153, 0, 13, 42, 180, 0, 113, 21, 7, 47, 167, 0, 4, 9, 129]
abbrev dktX1_watch_4 : List UInt8 := dkwX1_watch_4 ++ dktX1_watch_5
def dkwX1_watch_3 : List UInt8 := [164, 0, 6, 167, 0, 61, 9, 55, 5, 3, 54, 7, 21, 7, 42, 180, 0, 150, 162, 0, 36, 22, 5]
abbrev dktX1_watch_3 : List UInt8 := dkwX1_watch_3 ++ dktX1_watch_4
def dkwX1_watch_2 : List UInt8 := [182, 1, 156, 62, 42, 182, 1, 156, 54, 4, 21, 4, 155, 0, 82, 21, 4, 184, 1, 59, 29, 184, 1, 59]
abbrev dktX1_watch_2 : List UInt8 := dkwX1_watch_2 ++ dktX1_watch_3
def dkwX1_watch_1 : List UInt8 := [180, 0, 84, 29, 182, 1, 130, 80, 31, 42, 180, 0, 113, 29, 47, 129, 64, 132, 3, 1, 167, 255, 218, 42]
abbrev dktX1_watch_1 : List UInt8 := dkwX1_watch_1 ++ dktX1_watch_2
def dkwX1_watch_0 : List UInt8 := [9, 64, 3, 62, 29, 42, 180, 0, 150, 162, 0, 36, 42, 180, 0, 113, 29, 42, 180, 0, 62, 42]
abbrev dktX1_watch_0 : List UInt8 := dkwX1_watch_0 ++ dktX1_watch_1
theorem dksX1_watch_0 : cX1_watch.data.toList.drop 0 = dktX1_watch_0 := by decide +kernel
theorem dksX1_watch_1 : cX1_watch.data.toList.drop 22 = dktX1_watch_1 := dk_seg dksX1_watch_0 22 rfl rfl
theorem dksX1_watch_2 : cX1_watch.data.toList.drop 46 = dktX1_watch_2 := dk_seg dksX1_watch_1 24 rfl rfl
theorem dksX1_watch_3 : cX1_watch.data.toList.drop 70 = dktX1_watch_3 := dk_seg dksX1_watch_2 24 rfl rfl
theorem dksX1_watch_4 : cX1_watch.data.toList.drop 93 = dktX1_watch_4 := dk_seg dksX1_watch_3 23 rfl rfl
theorem dksX1_watch_5 : cX1_watch.data.toList.drop 116 = dktX1_watch_5 := dk_seg dksX1_watch_4 23 rfl rfl
theorem dksX1_watch_6 : cX1_watch.data.toList.drop 140 = dktX1_watch_6 := dk_seg dksX1_watch_5 24 rfl rfl
theorem dX1_watch_0 : decode cX1_watch 0 = .ok (.lconst 0, 1) := dk_9 (dk_at dksX1_watch_0 0 rfl rfl)
theorem dX1_watch_1 : decode cX1_watch 1 = .ok (.lstore_n 1, 1) := dk_64 (dk_at dksX1_watch_0 1 rfl rfl)
theorem dX1_watch_2 : decode cX1_watch 2 = .ok (.iconst 0, 1) := dk_3 (dk_at dksX1_watch_0 2 rfl rfl)
theorem dX1_watch_3 : decode cX1_watch 3 = .ok (.istore_n 3, 1) := dk_62 (dk_at dksX1_watch_0 3 rfl rfl)
theorem dX1_watch_4 : decode cX1_watch 4 = .ok (.iload_n 3, 1) := dk_29 (dk_at dksX1_watch_0 4 rfl rfl)
theorem dX1_watch_5 : decode cX1_watch 5 = .ok (.aload_n 0, 1) := dk_42 (dk_at dksX1_watch_0 5 rfl rfl)
theorem dX1_watch_6 : decode cX1_watch 6 = .ok (.getfield 150, 3) := dk_180 0 150 (dk_at dksX1_watch_0 6 rfl rfl)
theorem dX1_watch_9 : decode cX1_watch 9 = .ok (.if_icmp .ge 36, 3) := dk_162 0 36 (dk_at dksX1_watch_0 9 rfl rfl)
theorem dX1_watch_12 : decode cX1_watch 12 = .ok (.aload_n 0, 1) := dk_42 (dk_at dksX1_watch_0 12 rfl rfl)
theorem dX1_watch_13 : decode cX1_watch 13 = .ok (.getfield 113, 3) := dk_180 0 113 (dk_at dksX1_watch_0 13 rfl rfl)
theorem dX1_watch_16 : decode cX1_watch 16 = .ok (.iload_n 3, 1) := dk_29 (dk_at dksX1_watch_0 16 rfl rfl)
theorem dX1_watch_17 : decode cX1_watch 17 = .ok (.aload_n 0, 1) := dk_42 (dk_at dksX1_watch_0 17 rfl rfl)
theorem dX1_watch_18 : decode cX1_watch 18 = .ok (.getfield 62, 3) := dk_180 0 62 (dk_at dksX1_watch_0 18 rfl rfl)
theorem dX1_watch_21 : decode cX1_watch 21 = .ok (.aload_n 0, 1) := dk_42 (dk_at dksX1_watch_0 21 rfl rfl)
theorem dX1_watch_22 : decode cX1_watch 22 = .ok (.getfield 84, 3) := dk_180 0 84 (dk_at dksX1_watch_1 0 rfl rfl)
theorem dX1_watch_25 : decode cX1_watch 25 = .ok (.iload_n 3, 1) := dk_29 (dk_at dksX1_watch_1 3 rfl rfl)
theorem dX1_watch_26 : decode cX1_watch 26 = .ok (.invokevirtual 386, 3) := dk_182 1 130 (dk_at dksX1_watch_1 4 rfl rfl)
theorem dX1_watch_29 : decode cX1_watch 29 = .ok (.lastore, 1) := dk_80 (dk_at dksX1_watch_1 7 rfl rfl)
theorem dX1_watch_30 : decode cX1_watch 30 = .ok (.lload_n 1, 1) := dk_31 (dk_at dksX1_watch_1 8 rfl rfl)
theorem dX1_watch_31 : decode cX1_watch 31 = .ok (.aload_n 0, 1) := dk_42 (dk_at dksX1_watch_1 9 rfl rfl)
theorem dX1_watch_32 : decode cX1_watch 32 = .ok (.getfield 113, 3) := dk_180 0 113 (dk_at dksX1_watch_1 10 rfl rfl)
theorem dX1_watch_35 : decode cX1_watch 35 = .ok (.iload_n 3, 1) := dk_29 (dk_at dksX1_watch_1 13 rfl rfl)
theorem dX1_watch_36 : decode cX1_watch 36 = .ok (.laload, 1) := dk_47 (dk_at dksX1_watch_1 14 rfl rfl)
theorem dX1_watch_37 : decode cX1_watch 37 = .ok (.lor, 1) := dk_129 (dk_at dksX1_watch_1 15 rfl rfl)
theorem dX1_watch_38 : decode cX1_watch 38 = .ok (.lstore_n 1, 1) := dk_64 (dk_at dksX1_watch_1 16 rfl rfl)
theorem dX1_watch_39 : decode cX1_watch 39 = .ok (.iinc 3 1, 3) := dk_132 3 1 (dk_at dksX1_watch_1 17 rfl rfl)
theorem dX1_watch_42 : decode cX1_watch 42 = .ok (.goto (-38), 3) := dk_167 255 218 (dk_at dksX1_watch_1 20 rfl rfl)
theorem dX1_watch_45 : decode cX1_watch 45 = .ok (.aload_n 0, 1) := dk_42 (dk_at dksX1_watch_1 23 rfl rfl)
theorem dX1_watch_46 : decode cX1_watch 46 = .ok (.invokevirtual 412, 3) := dk_182 1 156 (dk_at dksX1_watch_2 0 rfl rfl)
theorem dX1_watch_49 : decode cX1_watch 49 = .ok (.istore_n 3, 1) := dk_62 (dk_at dksX1_watch_2 3 rfl rfl)
theorem dX1_watch_50 : decode cX1_watch 50 = .ok (.aload_n 0, 1) := dk_42 (dk_at dksX1_watch_2 4 rfl rfl)
theorem dX1_watch_51 : decode cX1_watch 51 = .ok (.invokevirtual 412, 3) := dk_182 1 156 (dk_at dksX1_watch_2 5 rfl rfl)
theorem dX1_watch_54 : decode cX1_watch 54 = .ok (.istore 4, 2) := dk_54 4 (dk_at dksX1_watch_2 8 rfl rfl)
theorem dX1_watch_56 : decode cX1_watch 56 = .ok (.iload 4, 2) := dk_21 4 (dk_at dksX1_watch_2 10 rfl rfl)
theorem dX1_watch_58 : decode cX1_watch 58 = .ok (.ifCond .lt 82, 3) := dk_155 0 82 (dk_at dksX1_watch_2 12 rfl rfl)
theorem dX1_watch_61 : decode cX1_watch 61 = .ok (.iload 4, 2) := dk_21 4 (dk_at dksX1_watch_2 15 rfl rfl)
theorem dX1_watch_63 : decode cX1_watch 63 = .ok (.invokestatic 315, 3) := dk_184 1 59 (dk_at dksX1_watch_2 17 rfl rfl)
theorem dX1_watch_66 : decode cX1_watch 66 = .ok (.iload_n 3, 1) := dk_29 (dk_at dksX1_watch_2 20 rfl rfl)
theorem dX1_watch_67 : decode cX1_watch 67 = .ok (.invokestatic 315, 3) := dk_184 1 59 (dk_at dksX1_watch_2 21 rfl rfl)
theorem dX1_watch_70 : decode cX1_watch 70 = .ok (.if_icmp .le 6, 3) := dk_164 0 6 (dk_at dksX1_watch_3 0 rfl rfl)
theorem dX1_watch_73 : decode cX1_watch 73 = .ok (.goto 61, 3) := dk_167 0 61 (dk_at dksX1_watch_3 3 rfl rfl)
theorem dX1_watch_76 : decode cX1_watch 76 = .ok (.lconst 0, 1) := dk_9 (dk_at dksX1_watch_3 6 rfl rfl)
theorem dX1_watch_77 : decode cX1_watch 77 = .ok (.lstore 5, 2) := dk_55 5 (dk_at dksX1_watch_3 7 rfl rfl)
theorem dX1_watch_79 : decode cX1_watch 79 = .ok (.iconst 0, 1) := dk_3 (dk_at dksX1_watch_3 9 rfl rfl)
theorem dX1_watch_80 : decode cX1_watch 80 = .ok (.istore 7, 2) := dk_54 7 (dk_at dksX1_watch_3 10 rfl rfl)
theorem dX1_watch_82 : decode cX1_watch 82 = .ok (.iload 7, 2) := dk_21 7 (dk_at dksX1_watch_3 12 rfl rfl)
theorem dX1_watch_84 : decode cX1_watch 84 = .ok (.aload_n 0, 1) := dk_42 (dk_at dksX1_watch_3 14 rfl rfl)
theorem dX1_watch_85 : decode cX1_watch 85 = .ok (.getfield 150, 3) := dk_180 0 150 (dk_at dksX1_watch_3 15 rfl rfl)
theorem dX1_watch_88 : decode cX1_watch 88 = .ok (.if_icmp .ge 36, 3) := dk_162 0 36 (dk_at dksX1_watch_3 18 rfl rfl)
theorem dX1_watch_91 : decode cX1_watch 91 = .ok (.lload 5, 2) := dk_22 5 (dk_at dksX1_watch_3 21 rfl rfl)
theorem dX1_watch_93 : decode cX1_watch 93 = .ok (.iload 4, 2) := dk_21 4 (dk_at dksX1_watch_4 0 rfl rfl)
theorem dX1_watch_95 : decode cX1_watch 95 = .ok (.i2l, 1) := dk_133 (dk_at dksX1_watch_4 2 rfl rfl)
theorem dX1_watch_96 : decode cX1_watch 96 = .ok (.iload 7, 2) := dk_21 7 (dk_at dksX1_watch_4 3 rfl rfl)
theorem dX1_watch_98 : decode cX1_watch 98 = .ok (.invokestatic 26, 3) := dk_184 0 26 (dk_at dksX1_watch_4 5 rfl rfl)
theorem dX1_watch_101 : decode cX1_watch 101 = .ok (.ifCond .eq 13, 3) := dk_153 0 13 (dk_at dksX1_watch_4 8 rfl rfl)
theorem dX1_watch_104 : decode cX1_watch 104 = .ok (.aload_n 0, 1) := dk_42 (dk_at dksX1_watch_4 11 rfl rfl)
theorem dX1_watch_105 : decode cX1_watch 105 = .ok (.getfield 113, 3) := dk_180 0 113 (dk_at dksX1_watch_4 12 rfl rfl)
theorem dX1_watch_108 : decode cX1_watch 108 = .ok (.iload 7, 2) := dk_21 7 (dk_at dksX1_watch_4 15 rfl rfl)
theorem dX1_watch_110 : decode cX1_watch 110 = .ok (.laload, 1) := dk_47 (dk_at dksX1_watch_4 17 rfl rfl)
theorem dX1_watch_111 : decode cX1_watch 111 = .ok (.goto 4, 3) := dk_167 0 4 (dk_at dksX1_watch_4 18 rfl rfl)
theorem dX1_watch_114 : decode cX1_watch 114 = .ok (.lconst 0, 1) := dk_9 (dk_at dksX1_watch_4 21 rfl rfl)
theorem dX1_watch_115 : decode cX1_watch 115 = .ok (.lor, 1) := dk_129 (dk_at dksX1_watch_4 22 rfl rfl)
theorem dX1_watch_116 : decode cX1_watch 116 = .ok (.lstore 5, 2) := dk_55 5 (dk_at dksX1_watch_5 0 rfl rfl)
theorem dX1_watch_118 : decode cX1_watch 118 = .ok (.iinc 7 1, 3) := dk_132 7 1 (dk_at dksX1_watch_5 2 rfl rfl)
theorem dX1_watch_121 : decode cX1_watch 121 = .ok (.goto (-39), 3) := dk_167 255 217 (dk_at dksX1_watch_5 5 rfl rfl)
theorem dX1_watch_124 : decode cX1_watch 124 = .ok (.lload 5, 2) := dk_22 5 (dk_at dksX1_watch_5 8 rfl rfl)
theorem dX1_watch_126 : decode cX1_watch 126 = .ok (.lload_n 1, 1) := dk_31 (dk_at dksX1_watch_5 10 rfl rfl)
theorem dX1_watch_127 : decode cX1_watch 127 = .ok (.lcmp, 1) := dk_148 (dk_at dksX1_watch_5 11 rfl rfl)
theorem dX1_watch_128 : decode cX1_watch 128 = .ok (.ifCond .ne 6, 3) := dk_154 0 6 (dk_at dksX1_watch_5 12 rfl rfl)
theorem dX1_watch_131 : decode cX1_watch 131 = .ok (.iload 4, 2) := dk_21 4 (dk_at dksX1_watch_5 15 rfl rfl)
theorem dX1_watch_133 : decode cX1_watch 133 = .ok (.istore_n 3, 1) := dk_62 (dk_at dksX1_watch_5 17 rfl rfl)
theorem dX1_watch_134 : decode cX1_watch 134 = .ok (.iinc 4 (-1), 3) := dk_132 4 255 (dk_at dksX1_watch_5 18 rfl rfl)
theorem dX1_watch_137 : decode cX1_watch 137 = .ok (.goto (-81), 3) := dk_167 255 175 (dk_at dksX1_watch_5 21 rfl rfl)
theorem dX1_watch_140 : decode cX1_watch 140 = .ok (.aload_n 0, 1) := dk_42 (dk_at dksX1_watch_6 0 rfl rfl)
theorem dX1_watch_141 : decode cX1_watch 141 = .ok (.iconst 0, 1) := dk_3 (dk_at dksX1_watch_6 1 rfl rfl)
theorem dX1_watch_142 : decode cX1_watch 142 = .ok (.putfield 139, 3) := dk_181 0 139 (dk_at dksX1_watch_6 2 rfl rfl)
theorem dX1_watch_145 : decode cX1_watch 145 = .ok (.aload_n 0, 1) := dk_42 (dk_at dksX1_watch_6 5 rfl rfl)
theorem dX1_watch_146 : decode cX1_watch 146 = .ok (.iload_n 3, 1) := dk_29 (dk_at dksX1_watch_6 6 rfl rfl)
theorem dX1_watch_147 : decode cX1_watch 147 = .ok (.i2l, 1) := dk_133 (dk_at dksX1_watch_6 7 rfl rfl)
theorem dX1_watch_148 : decode cX1_watch 148 = .ok (.invokevirtual 330, 3) := dk_182 1 74 (dk_at dksX1_watch_6 8 rfl rfl)
theorem dX1_watch_151 : decode cX1_watch 151 = .ok (.iload_n 3, 1) := dk_29 (dk_at dksX1_watch_6 11 rfl rfl)
theorem dX1_watch_152 : decode cX1_watch 152 = .ok (.invokestatic 315, 3) := dk_184 1 59 (dk_at dksX1_watch_6 12 rfl rfl)
theorem dX1_watch_155 : decode cX1_watch 155 = .ok (.ireturn, 1) := dk_172 (dk_at dksX1_watch_6 15 rfl rfl)
abbrev cX1_allMen : ByteArray := prog_1_method_13_code
def yX1_allMen : MethodName := ⟨RX1, "allMen", "()I"⟩
def dkwX1_allMen_0 : List UInt8 := [4, 42, 180, 0, 150, 120, 4, 100, 172]
abbrev dktX1_allMen_0 : List UInt8 := dkwX1_allMen_0 ++ []
theorem dksX1_allMen_0 : cX1_allMen.data.toList.drop 0 = dktX1_allMen_0 := by decide +kernel
theorem dX1_allMen_0 : decode cX1_allMen 0 = .ok (.iconst 1, 1) := dk_4 (dk_at dksX1_allMen_0 0 rfl rfl)
theorem dX1_allMen_1 : decode cX1_allMen 1 = .ok (.aload_n 0, 1) := dk_42 (dk_at dksX1_allMen_0 1 rfl rfl)
theorem dX1_allMen_2 : decode cX1_allMen 2 = .ok (.getfield 150, 3) := dk_180 0 150 (dk_at dksX1_allMen_0 2 rfl rfl)
theorem dX1_allMen_5 : decode cX1_allMen 5 = .ok (.ishl, 1) := dk_120 (dk_at dksX1_allMen_0 5 rfl rfl)
theorem dX1_allMen_6 : decode cX1_allMen 6 = .ok (.iconst 1, 1) := dk_4 (dk_at dksX1_allMen_0 6 rfl rfl)
theorem dX1_allMen_7 : decode cX1_allMen 7 = .ok (.isub, 1) := dk_100 (dk_at dksX1_allMen_0 7 rfl rfl)
theorem dX1_allMen_8 : decode cX1_allMen 8 = .ok (.ireturn, 1) := dk_172 (dk_at dksX1_allMen_0 8 rfl rfl)
abbrev cX1_learns : ByteArray := prog_1_method_67_code
def yX1_learns : MethodName := ⟨RX1, "learns", "(II)I"⟩
def dkwX1_learns_4 : List UInt8 := [16, 254, 172]
abbrev dktX1_learns_4 : List UInt8 := dkwX1_learns_4 ++ []
def dkwX1_learns_3 : List UInt8 := [184, 1, 59, 133, 182, 1, 74, 29, 172, 42, 42, 180, 0, 91, 182, 1, 56, 132, 3, 1, 167, 255, 198]
abbrev dktX1_learns_3 : List UInt8 := dkwX1_learns_3 ++ dktX1_learns_4
def dkwX1_learns_2 : List UInt8 := [28, 184, 0, 26, 153, 0, 27, 42, 3, 181, 0, 139, 42, 42, 42, 180, 0, 91, 28, 182, 1, 11]
abbrev dktX1_learns_2 : List UInt8 := dkwX1_learns_2 ++ dktX1_learns_3
def dkwX1_learns_1 : List UInt8 := [180, 0, 84, 182, 1, 42, 3, 62, 29, 16, 99, 163, 0, 58, 42, 180, 0, 91, 180, 0, 225, 27, 46, 133]
abbrev dktX1_learns_1 : List UInt8 := dkwX1_learns_1 ++ dktX1_learns_2
def dkwX1_learns_0 : List UInt8 := [42, 27, 182, 0, 250, 153, 0, 11, 42, 28, 182, 1, 6, 154, 0, 5, 2, 172, 42, 180, 0, 91, 42]
abbrev dktX1_learns_0 : List UInt8 := dkwX1_learns_0 ++ dktX1_learns_1
theorem dksX1_learns_0 : cX1_learns.data.toList.drop 0 = dktX1_learns_0 := by decide +kernel
theorem dksX1_learns_1 : cX1_learns.data.toList.drop 23 = dktX1_learns_1 := dk_seg dksX1_learns_0 23 rfl rfl
theorem dksX1_learns_2 : cX1_learns.data.toList.drop 47 = dktX1_learns_2 := dk_seg dksX1_learns_1 24 rfl rfl
theorem dksX1_learns_3 : cX1_learns.data.toList.drop 69 = dktX1_learns_3 := dk_seg dksX1_learns_2 22 rfl rfl
theorem dksX1_learns_4 : cX1_learns.data.toList.drop 92 = dktX1_learns_4 := dk_seg dksX1_learns_3 23 rfl rfl
theorem dX1_learns_0 : decode cX1_learns 0 = .ok (.aload_n 0, 1) := dk_42 (dk_at dksX1_learns_0 0 rfl rfl)
theorem dX1_learns_1 : decode cX1_learns 1 = .ok (.iload_n 1, 1) := dk_27 (dk_at dksX1_learns_0 1 rfl rfl)
theorem dX1_learns_2 : decode cX1_learns 2 = .ok (.invokevirtual 250, 3) := dk_182 0 250 (dk_at dksX1_learns_0 2 rfl rfl)
theorem dX1_learns_5 : decode cX1_learns 5 = .ok (.ifCond .eq 11, 3) := dk_153 0 11 (dk_at dksX1_learns_0 5 rfl rfl)
theorem dX1_learns_8 : decode cX1_learns 8 = .ok (.aload_n 0, 1) := dk_42 (dk_at dksX1_learns_0 8 rfl rfl)
theorem dX1_learns_9 : decode cX1_learns 9 = .ok (.iload_n 2, 1) := dk_28 (dk_at dksX1_learns_0 9 rfl rfl)
theorem dX1_learns_10 : decode cX1_learns 10 = .ok (.invokevirtual 262, 3) := dk_182 1 6 (dk_at dksX1_learns_0 10 rfl rfl)
theorem dX1_learns_13 : decode cX1_learns 13 = .ok (.ifCond .ne 5, 3) := dk_154 0 5 (dk_at dksX1_learns_0 13 rfl rfl)
theorem dX1_learns_16 : decode cX1_learns 16 = .ok (.iconst (-1), 1) := dk_2 (dk_at dksX1_learns_0 16 rfl rfl)
theorem dX1_learns_17 : decode cX1_learns 17 = .ok (.ireturn, 1) := dk_172 (dk_at dksX1_learns_0 17 rfl rfl)
theorem dX1_learns_18 : decode cX1_learns 18 = .ok (.aload_n 0, 1) := dk_42 (dk_at dksX1_learns_0 18 rfl rfl)
theorem dX1_learns_19 : decode cX1_learns 19 = .ok (.getfield 91, 3) := dk_180 0 91 (dk_at dksX1_learns_0 19 rfl rfl)
theorem dX1_learns_22 : decode cX1_learns 22 = .ok (.aload_n 0, 1) := dk_42 (dk_at dksX1_learns_0 22 rfl rfl)
theorem dX1_learns_23 : decode cX1_learns 23 = .ok (.getfield 84, 3) := dk_180 0 84 (dk_at dksX1_learns_1 0 rfl rfl)
theorem dX1_learns_26 : decode cX1_learns 26 = .ok (.invokevirtual 298, 3) := dk_182 1 42 (dk_at dksX1_learns_1 3 rfl rfl)
theorem dX1_learns_29 : decode cX1_learns 29 = .ok (.iconst 0, 1) := dk_3 (dk_at dksX1_learns_1 6 rfl rfl)
theorem dX1_learns_30 : decode cX1_learns 30 = .ok (.istore_n 3, 1) := dk_62 (dk_at dksX1_learns_1 7 rfl rfl)
theorem dX1_learns_31 : decode cX1_learns 31 = .ok (.iload_n 3, 1) := dk_29 (dk_at dksX1_learns_1 8 rfl rfl)
theorem dX1_learns_32 : decode cX1_learns 32 = .ok (.bipush 99, 2) := dk_16 99 (dk_at dksX1_learns_1 9 rfl rfl)
theorem dX1_learns_34 : decode cX1_learns 34 = .ok (.if_icmp .gt 58, 3) := dk_163 0 58 (dk_at dksX1_learns_1 11 rfl rfl)
theorem dX1_learns_37 : decode cX1_learns 37 = .ok (.aload_n 0, 1) := dk_42 (dk_at dksX1_learns_1 14 rfl rfl)
theorem dX1_learns_38 : decode cX1_learns 38 = .ok (.getfield 91, 3) := dk_180 0 91 (dk_at dksX1_learns_1 15 rfl rfl)
theorem dX1_learns_41 : decode cX1_learns 41 = .ok (.getfield 225, 3) := dk_180 0 225 (dk_at dksX1_learns_1 18 rfl rfl)
theorem dX1_learns_44 : decode cX1_learns 44 = .ok (.iload_n 1, 1) := dk_27 (dk_at dksX1_learns_1 21 rfl rfl)
theorem dX1_learns_45 : decode cX1_learns 45 = .ok (.iaload, 1) := dk_46 (dk_at dksX1_learns_1 22 rfl rfl)
theorem dX1_learns_46 : decode cX1_learns 46 = .ok (.i2l, 1) := dk_133 (dk_at dksX1_learns_1 23 rfl rfl)
theorem dX1_learns_47 : decode cX1_learns 47 = .ok (.iload_n 2, 1) := dk_28 (dk_at dksX1_learns_2 0 rfl rfl)
theorem dX1_learns_48 : decode cX1_learns 48 = .ok (.invokestatic 26, 3) := dk_184 0 26 (dk_at dksX1_learns_2 1 rfl rfl)
theorem dX1_learns_51 : decode cX1_learns 51 = .ok (.ifCond .eq 27, 3) := dk_153 0 27 (dk_at dksX1_learns_2 4 rfl rfl)
theorem dX1_learns_54 : decode cX1_learns 54 = .ok (.aload_n 0, 1) := dk_42 (dk_at dksX1_learns_2 7 rfl rfl)
theorem dX1_learns_55 : decode cX1_learns 55 = .ok (.iconst 0, 1) := dk_3 (dk_at dksX1_learns_2 8 rfl rfl)
theorem dX1_learns_56 : decode cX1_learns 56 = .ok (.putfield 139, 3) := dk_181 0 139 (dk_at dksX1_learns_2 9 rfl rfl)
theorem dX1_learns_59 : decode cX1_learns 59 = .ok (.aload_n 0, 1) := dk_42 (dk_at dksX1_learns_2 12 rfl rfl)
theorem dX1_learns_60 : decode cX1_learns 60 = .ok (.aload_n 0, 1) := dk_42 (dk_at dksX1_learns_2 13 rfl rfl)
theorem dX1_learns_61 : decode cX1_learns 61 = .ok (.aload_n 0, 1) := dk_42 (dk_at dksX1_learns_2 14 rfl rfl)
theorem dX1_learns_62 : decode cX1_learns 62 = .ok (.getfield 91, 3) := dk_180 0 91 (dk_at dksX1_learns_2 15 rfl rfl)
theorem dX1_learns_65 : decode cX1_learns 65 = .ok (.iload_n 2, 1) := dk_28 (dk_at dksX1_learns_2 18 rfl rfl)
theorem dX1_learns_66 : decode cX1_learns 66 = .ok (.invokevirtual 267, 3) := dk_182 1 11 (dk_at dksX1_learns_2 19 rfl rfl)
theorem dX1_learns_69 : decode cX1_learns 69 = .ok (.invokestatic 315, 3) := dk_184 1 59 (dk_at dksX1_learns_3 0 rfl rfl)
theorem dX1_learns_72 : decode cX1_learns 72 = .ok (.i2l, 1) := dk_133 (dk_at dksX1_learns_3 3 rfl rfl)
theorem dX1_learns_73 : decode cX1_learns 73 = .ok (.invokevirtual 330, 3) := dk_182 1 74 (dk_at dksX1_learns_3 4 rfl rfl)
theorem dX1_learns_76 : decode cX1_learns 76 = .ok (.iload_n 3, 1) := dk_29 (dk_at dksX1_learns_3 7 rfl rfl)
theorem dX1_learns_77 : decode cX1_learns 77 = .ok (.ireturn, 1) := dk_172 (dk_at dksX1_learns_3 8 rfl rfl)
theorem dX1_learns_78 : decode cX1_learns 78 = .ok (.aload_n 0, 1) := dk_42 (dk_at dksX1_learns_3 9 rfl rfl)
theorem dX1_learns_79 : decode cX1_learns 79 = .ok (.aload_n 0, 1) := dk_42 (dk_at dksX1_learns_3 10 rfl rfl)
theorem dX1_learns_80 : decode cX1_learns 80 = .ok (.getfield 91, 3) := dk_180 0 91 (dk_at dksX1_learns_3 11 rfl rfl)
theorem dX1_learns_83 : decode cX1_learns 83 = .ok (.invokevirtual 312, 3) := dk_182 1 56 (dk_at dksX1_learns_3 14 rfl rfl)
theorem dX1_learns_86 : decode cX1_learns 86 = .ok (.iinc 3 1, 3) := dk_132 3 1 (dk_at dksX1_learns_3 17 rfl rfl)
theorem dX1_learns_89 : decode cX1_learns 89 = .ok (.goto (-58), 3) := dk_167 255 198 (dk_at dksX1_learns_3 20 rfl rfl)
theorem dX1_learns_92 : decode cX1_learns 92 = .ok (.bipush (-2), 2) := dk_16 254 (dk_at dksX1_learns_4 0 rfl rfl)
theorem dX1_learns_94 : decode cX1_learns 94 = .ok (.ireturn, 1) := dk_172 (dk_at dksX1_learns_4 2 rfl rfl)
abbrev cX1_knowersOf : ByteArray := prog_1_method_32_code
def yX1_knowersOf : MethodName := ⟨RX1, "knowersOf", "(LBonnetValley$Upland;I)I"⟩
def dkwX1_knowersOf_1 : List UInt8 := [184, 0, 26, 153, 0, 10, 4, 21, 4, 120, 167, 0, 4, 3, 128, 62, 132, 4, 1, 167, 255, 218, 29, 172]
abbrev dktX1_knowersOf_1 : List UInt8 := dkwX1_knowersOf_1 ++ []
def dkwX1_knowersOf_0 : List UInt8 := [3, 62, 3, 54, 4, 21, 4, 42, 180, 0, 150, 162, 0, 35, 29, 43, 180, 0, 225, 21, 4, 46, 133, 28]
abbrev dktX1_knowersOf_0 : List UInt8 := dkwX1_knowersOf_0 ++ dktX1_knowersOf_1
theorem dksX1_knowersOf_0 : cX1_knowersOf.data.toList.drop 0 = dktX1_knowersOf_0 := by decide +kernel
theorem dksX1_knowersOf_1 : cX1_knowersOf.data.toList.drop 24 = dktX1_knowersOf_1 := dk_seg dksX1_knowersOf_0 24 rfl rfl
theorem dX1_knowersOf_0 : decode cX1_knowersOf 0 = .ok (.iconst 0, 1) := dk_3 (dk_at dksX1_knowersOf_0 0 rfl rfl)
theorem dX1_knowersOf_1 : decode cX1_knowersOf 1 = .ok (.istore_n 3, 1) := dk_62 (dk_at dksX1_knowersOf_0 1 rfl rfl)
theorem dX1_knowersOf_2 : decode cX1_knowersOf 2 = .ok (.iconst 0, 1) := dk_3 (dk_at dksX1_knowersOf_0 2 rfl rfl)
theorem dX1_knowersOf_3 : decode cX1_knowersOf 3 = .ok (.istore 4, 2) := dk_54 4 (dk_at dksX1_knowersOf_0 3 rfl rfl)
theorem dX1_knowersOf_5 : decode cX1_knowersOf 5 = .ok (.iload 4, 2) := dk_21 4 (dk_at dksX1_knowersOf_0 5 rfl rfl)
theorem dX1_knowersOf_7 : decode cX1_knowersOf 7 = .ok (.aload_n 0, 1) := dk_42 (dk_at dksX1_knowersOf_0 7 rfl rfl)
theorem dX1_knowersOf_8 : decode cX1_knowersOf 8 = .ok (.getfield 150, 3) := dk_180 0 150 (dk_at dksX1_knowersOf_0 8 rfl rfl)
theorem dX1_knowersOf_11 : decode cX1_knowersOf 11 = .ok (.if_icmp .ge 35, 3) := dk_162 0 35 (dk_at dksX1_knowersOf_0 11 rfl rfl)
theorem dX1_knowersOf_14 : decode cX1_knowersOf 14 = .ok (.iload_n 3, 1) := dk_29 (dk_at dksX1_knowersOf_0 14 rfl rfl)
theorem dX1_knowersOf_15 : decode cX1_knowersOf 15 = .ok (.aload_n 1, 1) := dk_43 (dk_at dksX1_knowersOf_0 15 rfl rfl)
theorem dX1_knowersOf_16 : decode cX1_knowersOf 16 = .ok (.getfield 225, 3) := dk_180 0 225 (dk_at dksX1_knowersOf_0 16 rfl rfl)
theorem dX1_knowersOf_19 : decode cX1_knowersOf 19 = .ok (.iload 4, 2) := dk_21 4 (dk_at dksX1_knowersOf_0 19 rfl rfl)
theorem dX1_knowersOf_21 : decode cX1_knowersOf 21 = .ok (.iaload, 1) := dk_46 (dk_at dksX1_knowersOf_0 21 rfl rfl)
theorem dX1_knowersOf_22 : decode cX1_knowersOf 22 = .ok (.i2l, 1) := dk_133 (dk_at dksX1_knowersOf_0 22 rfl rfl)
theorem dX1_knowersOf_23 : decode cX1_knowersOf 23 = .ok (.iload_n 2, 1) := dk_28 (dk_at dksX1_knowersOf_0 23 rfl rfl)
theorem dX1_knowersOf_24 : decode cX1_knowersOf 24 = .ok (.invokestatic 26, 3) := dk_184 0 26 (dk_at dksX1_knowersOf_1 0 rfl rfl)
theorem dX1_knowersOf_27 : decode cX1_knowersOf 27 = .ok (.ifCond .eq 10, 3) := dk_153 0 10 (dk_at dksX1_knowersOf_1 3 rfl rfl)
theorem dX1_knowersOf_30 : decode cX1_knowersOf 30 = .ok (.iconst 1, 1) := dk_4 (dk_at dksX1_knowersOf_1 6 rfl rfl)
theorem dX1_knowersOf_31 : decode cX1_knowersOf 31 = .ok (.iload 4, 2) := dk_21 4 (dk_at dksX1_knowersOf_1 7 rfl rfl)
theorem dX1_knowersOf_33 : decode cX1_knowersOf 33 = .ok (.ishl, 1) := dk_120 (dk_at dksX1_knowersOf_1 9 rfl rfl)
theorem dX1_knowersOf_34 : decode cX1_knowersOf 34 = .ok (.goto 4, 3) := dk_167 0 4 (dk_at dksX1_knowersOf_1 10 rfl rfl)
theorem dX1_knowersOf_37 : decode cX1_knowersOf 37 = .ok (.iconst 0, 1) := dk_3 (dk_at dksX1_knowersOf_1 13 rfl rfl)
theorem dX1_knowersOf_38 : decode cX1_knowersOf 38 = .ok (.ior, 1) := dk_128 (dk_at dksX1_knowersOf_1 14 rfl rfl)
theorem dX1_knowersOf_39 : decode cX1_knowersOf 39 = .ok (.istore_n 3, 1) := dk_62 (dk_at dksX1_knowersOf_1 15 rfl rfl)
theorem dX1_knowersOf_40 : decode cX1_knowersOf 40 = .ok (.iinc 4 1, 3) := dk_132 4 1 (dk_at dksX1_knowersOf_1 16 rfl rfl)
theorem dX1_knowersOf_43 : decode cX1_knowersOf 43 = .ok (.goto (-38), 3) := dk_167 255 218 (dk_at dksX1_knowersOf_1 19 rfl rfl)
theorem dX1_knowersOf_46 : decode cX1_knowersOf 46 = .ok (.iload_n 3, 1) := dk_29 (dk_at dksX1_knowersOf_1 22 rfl rfl)
theorem dX1_knowersOf_47 : decode cX1_knowersOf 47 = .ok (.ireturn, 1) := dk_172 (dk_at dksX1_knowersOf_1 23 rfl rfl)
abbrev cX1_all : ByteArray := prog_1_method_69_code
def yX1_all : MethodName := ⟨RX1, "all", "()I"⟩
def dkwX1_all_2 : List UInt8 := [172, 29, 60, 42, 42, 180, 0, 91, 182, 1, 56, 132, 2, 1, 167, 255, 210, 16, 254, 172]
abbrev dktX1_all_2 : List UInt8 := dkwX1_all_2 ++ []
def dkwX1_all_1 : List UInt8 := [180, 0, 91, 182, 1, 162, 62, 29, 2, 160, 0, 16, 42, 3, 181, 0, 139, 42, 27, 133, 182, 1, 74, 28]
abbrev dktX1_all_1 : List UInt8 := dkwX1_all_1 ++ dktX1_all_2
def dkwX1_all_0 : List UInt8 := [42, 180, 0, 91, 42, 180, 0, 84, 182, 1, 42, 2, 60, 3, 61, 28, 16, 99, 163, 0, 46, 42, 42]
abbrev dktX1_all_0 : List UInt8 := dkwX1_all_0 ++ dktX1_all_1
theorem dksX1_all_0 : cX1_all.data.toList.drop 0 = dktX1_all_0 := by decide +kernel
theorem dksX1_all_1 : cX1_all.data.toList.drop 23 = dktX1_all_1 := dk_seg dksX1_all_0 23 rfl rfl
theorem dksX1_all_2 : cX1_all.data.toList.drop 47 = dktX1_all_2 := dk_seg dksX1_all_1 24 rfl rfl
theorem dX1_all_0 : decode cX1_all 0 = .ok (.aload_n 0, 1) := dk_42 (dk_at dksX1_all_0 0 rfl rfl)
theorem dX1_all_1 : decode cX1_all 1 = .ok (.getfield 91, 3) := dk_180 0 91 (dk_at dksX1_all_0 1 rfl rfl)
theorem dX1_all_4 : decode cX1_all 4 = .ok (.aload_n 0, 1) := dk_42 (dk_at dksX1_all_0 4 rfl rfl)
theorem dX1_all_5 : decode cX1_all 5 = .ok (.getfield 84, 3) := dk_180 0 84 (dk_at dksX1_all_0 5 rfl rfl)
theorem dX1_all_8 : decode cX1_all 8 = .ok (.invokevirtual 298, 3) := dk_182 1 42 (dk_at dksX1_all_0 8 rfl rfl)
theorem dX1_all_11 : decode cX1_all 11 = .ok (.iconst (-1), 1) := dk_2 (dk_at dksX1_all_0 11 rfl rfl)
theorem dX1_all_12 : decode cX1_all 12 = .ok (.istore_n 1, 1) := dk_60 (dk_at dksX1_all_0 12 rfl rfl)
theorem dX1_all_13 : decode cX1_all 13 = .ok (.iconst 0, 1) := dk_3 (dk_at dksX1_all_0 13 rfl rfl)
theorem dX1_all_14 : decode cX1_all 14 = .ok (.istore_n 2, 1) := dk_61 (dk_at dksX1_all_0 14 rfl rfl)
theorem dX1_all_15 : decode cX1_all 15 = .ok (.iload_n 2, 1) := dk_28 (dk_at dksX1_all_0 15 rfl rfl)
theorem dX1_all_16 : decode cX1_all 16 = .ok (.bipush 99, 2) := dk_16 99 (dk_at dksX1_all_0 16 rfl rfl)
theorem dX1_all_18 : decode cX1_all 18 = .ok (.if_icmp .gt 46, 3) := dk_163 0 46 (dk_at dksX1_all_0 18 rfl rfl)
theorem dX1_all_21 : decode cX1_all 21 = .ok (.aload_n 0, 1) := dk_42 (dk_at dksX1_all_0 21 rfl rfl)
theorem dX1_all_22 : decode cX1_all 22 = .ok (.aload_n 0, 1) := dk_42 (dk_at dksX1_all_0 22 rfl rfl)
theorem dX1_all_23 : decode cX1_all 23 = .ok (.getfield 91, 3) := dk_180 0 91 (dk_at dksX1_all_1 0 rfl rfl)
theorem dX1_all_26 : decode cX1_all 26 = .ok (.invokevirtual 418, 3) := dk_182 1 162 (dk_at dksX1_all_1 3 rfl rfl)
theorem dX1_all_29 : decode cX1_all 29 = .ok (.istore_n 3, 1) := dk_62 (dk_at dksX1_all_1 6 rfl rfl)
theorem dX1_all_30 : decode cX1_all 30 = .ok (.iload_n 3, 1) := dk_29 (dk_at dksX1_all_1 7 rfl rfl)
theorem dX1_all_31 : decode cX1_all 31 = .ok (.iconst (-1), 1) := dk_2 (dk_at dksX1_all_1 8 rfl rfl)
theorem dX1_all_32 : decode cX1_all 32 = .ok (.if_icmp .ne 16, 3) := dk_160 0 16 (dk_at dksX1_all_1 9 rfl rfl)
theorem dX1_all_35 : decode cX1_all 35 = .ok (.aload_n 0, 1) := dk_42 (dk_at dksX1_all_1 12 rfl rfl)
theorem dX1_all_36 : decode cX1_all 36 = .ok (.iconst 0, 1) := dk_3 (dk_at dksX1_all_1 13 rfl rfl)
theorem dX1_all_37 : decode cX1_all 37 = .ok (.putfield 139, 3) := dk_181 0 139 (dk_at dksX1_all_1 14 rfl rfl)
theorem dX1_all_40 : decode cX1_all 40 = .ok (.aload_n 0, 1) := dk_42 (dk_at dksX1_all_1 17 rfl rfl)
theorem dX1_all_41 : decode cX1_all 41 = .ok (.iload_n 1, 1) := dk_27 (dk_at dksX1_all_1 18 rfl rfl)
theorem dX1_all_42 : decode cX1_all 42 = .ok (.i2l, 1) := dk_133 (dk_at dksX1_all_1 19 rfl rfl)
theorem dX1_all_43 : decode cX1_all 43 = .ok (.invokevirtual 330, 3) := dk_182 1 74 (dk_at dksX1_all_1 20 rfl rfl)
theorem dX1_all_46 : decode cX1_all 46 = .ok (.iload_n 2, 1) := dk_28 (dk_at dksX1_all_1 23 rfl rfl)
theorem dX1_all_47 : decode cX1_all 47 = .ok (.ireturn, 1) := dk_172 (dk_at dksX1_all_2 0 rfl rfl)
theorem dX1_all_48 : decode cX1_all 48 = .ok (.iload_n 3, 1) := dk_29 (dk_at dksX1_all_2 1 rfl rfl)
theorem dX1_all_49 : decode cX1_all 49 = .ok (.istore_n 1, 1) := dk_60 (dk_at dksX1_all_2 2 rfl rfl)
theorem dX1_all_50 : decode cX1_all 50 = .ok (.aload_n 0, 1) := dk_42 (dk_at dksX1_all_2 3 rfl rfl)
theorem dX1_all_51 : decode cX1_all 51 = .ok (.aload_n 0, 1) := dk_42 (dk_at dksX1_all_2 4 rfl rfl)
theorem dX1_all_52 : decode cX1_all 52 = .ok (.getfield 91, 3) := dk_180 0 91 (dk_at dksX1_all_2 5 rfl rfl)
theorem dX1_all_55 : decode cX1_all 55 = .ok (.invokevirtual 312, 3) := dk_182 1 56 (dk_at dksX1_all_2 8 rfl rfl)
theorem dX1_all_58 : decode cX1_all 58 = .ok (.iinc 2 1, 3) := dk_132 2 1 (dk_at dksX1_all_2 11 rfl rfl)
theorem dX1_all_61 : decode cX1_all 61 = .ok (.goto (-46), 3) := dk_167 255 210 (dk_at dksX1_all_2 14 rfl rfl)
theorem dX1_all_64 : decode cX1_all 64 = .ok (.bipush (-2), 2) := dk_16 254 (dk_at dksX1_all_2 17 rfl rfl)
theorem dX1_all_66 : decode cX1_all 66 = .ok (.ireturn, 1) := dk_172 (dk_at dksX1_all_2 19 rfl rfl)
abbrev cX1_lacking : ByteArray := prog_1_method_68_code
def yX1_lacking : MethodName := ⟨RX1, "lacking", "(LBonnetValley$Upland;)I"⟩
def dkwX1_lacking_1 : List UInt8 := [172, 132, 2, 1, 167, 255, 230, 2, 172]
abbrev dktX1_lacking_1 : List UInt8 := dkwX1_lacking_1 ++ []
def dkwX1_lacking_0 : List UInt8 := [3, 61, 28, 42, 180, 0, 150, 162, 0, 24, 43, 180, 0, 225, 28, 46, 42, 182, 1, 159, 159, 0, 5, 28]
abbrev dktX1_lacking_0 : List UInt8 := dkwX1_lacking_0 ++ dktX1_lacking_1
theorem dksX1_lacking_0 : cX1_lacking.data.toList.drop 0 = dktX1_lacking_0 := by decide +kernel
theorem dksX1_lacking_1 : cX1_lacking.data.toList.drop 24 = dktX1_lacking_1 := dk_seg dksX1_lacking_0 24 rfl rfl
theorem dX1_lacking_0 : decode cX1_lacking 0 = .ok (.iconst 0, 1) := dk_3 (dk_at dksX1_lacking_0 0 rfl rfl)
theorem dX1_lacking_1 : decode cX1_lacking 1 = .ok (.istore_n 2, 1) := dk_61 (dk_at dksX1_lacking_0 1 rfl rfl)
theorem dX1_lacking_2 : decode cX1_lacking 2 = .ok (.iload_n 2, 1) := dk_28 (dk_at dksX1_lacking_0 2 rfl rfl)
theorem dX1_lacking_3 : decode cX1_lacking 3 = .ok (.aload_n 0, 1) := dk_42 (dk_at dksX1_lacking_0 3 rfl rfl)
theorem dX1_lacking_4 : decode cX1_lacking 4 = .ok (.getfield 150, 3) := dk_180 0 150 (dk_at dksX1_lacking_0 4 rfl rfl)
theorem dX1_lacking_7 : decode cX1_lacking 7 = .ok (.if_icmp .ge 24, 3) := dk_162 0 24 (dk_at dksX1_lacking_0 7 rfl rfl)
theorem dX1_lacking_10 : decode cX1_lacking 10 = .ok (.aload_n 1, 1) := dk_43 (dk_at dksX1_lacking_0 10 rfl rfl)
theorem dX1_lacking_11 : decode cX1_lacking 11 = .ok (.getfield 225, 3) := dk_180 0 225 (dk_at dksX1_lacking_0 11 rfl rfl)
theorem dX1_lacking_14 : decode cX1_lacking 14 = .ok (.iload_n 2, 1) := dk_28 (dk_at dksX1_lacking_0 14 rfl rfl)
theorem dX1_lacking_15 : decode cX1_lacking 15 = .ok (.iaload, 1) := dk_46 (dk_at dksX1_lacking_0 15 rfl rfl)
theorem dX1_lacking_16 : decode cX1_lacking 16 = .ok (.aload_n 0, 1) := dk_42 (dk_at dksX1_lacking_0 16 rfl rfl)
theorem dX1_lacking_17 : decode cX1_lacking 17 = .ok (.invokevirtual 415, 3) := dk_182 1 159 (dk_at dksX1_lacking_0 17 rfl rfl)
theorem dX1_lacking_20 : decode cX1_lacking 20 = .ok (.if_icmp .eq 5, 3) := dk_159 0 5 (dk_at dksX1_lacking_0 20 rfl rfl)
theorem dX1_lacking_23 : decode cX1_lacking 23 = .ok (.iload_n 2, 1) := dk_28 (dk_at dksX1_lacking_0 23 rfl rfl)
theorem dX1_lacking_24 : decode cX1_lacking 24 = .ok (.ireturn, 1) := dk_172 (dk_at dksX1_lacking_1 0 rfl rfl)
theorem dX1_lacking_25 : decode cX1_lacking 25 = .ok (.iinc 2 1, 3) := dk_132 2 1 (dk_at dksX1_lacking_1 1 rfl rfl)
theorem dX1_lacking_28 : decode cX1_lacking 28 = .ok (.goto (-26), 3) := dk_167 255 230 (dk_at dksX1_lacking_1 4 rfl rfl)
theorem dX1_lacking_31 : decode cX1_lacking 31 = .ok (.iconst (-1), 1) := dk_2 (dk_at dksX1_lacking_1 7 rfl rfl)
theorem dX1_lacking_32 : decode cX1_lacking 32 = .ok (.ireturn, 1) := dk_172 (dk_at dksX1_lacking_1 8 rfl rfl)
abbrev cX1_allThings : ByteArray := prog_1_method_14_code
def yX1_allThings : MethodName := ⟨RX1, "allThings", "()I"⟩
def dkwX1_allThings_0 : List UInt8 := [4, 42, 180, 0, 153, 120, 4, 100, 172]
abbrev dktX1_allThings_0 : List UInt8 := dkwX1_allThings_0 ++ []
theorem dksX1_allThings_0 : cX1_allThings.data.toList.drop 0 = dktX1_allThings_0 := by decide +kernel
theorem dX1_allThings_0 : decode cX1_allThings 0 = .ok (.iconst 1, 1) := dk_4 (dk_at dksX1_allThings_0 0 rfl rfl)
theorem dX1_allThings_1 : decode cX1_allThings 1 = .ok (.aload_n 0, 1) := dk_42 (dk_at dksX1_allThings_0 1 rfl rfl)
theorem dX1_allThings_2 : decode cX1_allThings 2 = .ok (.getfield 153, 3) := dk_180 0 153 (dk_at dksX1_allThings_0 2 rfl rfl)
theorem dX1_allThings_5 : decode cX1_allThings 5 = .ok (.ishl, 1) := dk_120 (dk_at dksX1_allThings_0 5 rfl rfl)
theorem dX1_allThings_6 : decode cX1_allThings 6 = .ok (.iconst 1, 1) := dk_4 (dk_at dksX1_allThings_0 6 rfl rfl)
theorem dX1_allThings_7 : decode cX1_allThings 7 = .ok (.isub, 1) := dk_100 (dk_at dksX1_allThings_0 7 rfl rfl)
theorem dX1_allThings_8 : decode cX1_allThings 8 = .ok (.ireturn, 1) := dk_172 (dk_at dksX1_allThings_0 8 rfl rfl)
abbrev cX1_ahead : ByteArray := prog_1_method_70_code
def yX1_ahead : MethodName := ⟨RX1, "ahead", "(I)I"⟩
def dkwX1_ahead_3 : List UInt8 := [42, 180, 0, 91, 182, 1, 67, 172]
abbrev dktX1_ahead_3 : List UInt8 := dkwX1_ahead_3 ++ []
def dkwX1_ahead_2 : List UInt8 := [162, 0, 23, 42, 42, 180, 0, 91, 180, 0, 225, 28, 46, 133, 182, 1, 74, 132, 2, 1, 167, 255, 231, 42]
abbrev dktX1_ahead_2 : List UInt8 := dkwX1_ahead_2 ++ dktX1_ahead_3
def dkwX1_ahead_1 : List UInt8 := [182, 1, 42, 42, 42, 180, 0, 91, 27, 182, 1, 70, 42, 3, 181, 0, 139, 3, 61, 28, 42, 180, 0, 150]
abbrev dktX1_ahead_1 : List UInt8 := dkwX1_ahead_1 ++ dktX1_ahead_2
def dkwX1_ahead_0 : List UInt8 := [27, 133, 9, 20, 1, 165, 184, 0, 146, 154, 0, 5, 2, 172, 42, 180, 0, 91, 42, 180, 0, 84]
abbrev dktX1_ahead_0 : List UInt8 := dkwX1_ahead_0 ++ dktX1_ahead_1
theorem dksX1_ahead_0 : cX1_ahead.data.toList.drop 0 = dktX1_ahead_0 := by decide +kernel
theorem dksX1_ahead_1 : cX1_ahead.data.toList.drop 22 = dktX1_ahead_1 := dk_seg dksX1_ahead_0 22 rfl rfl
theorem dksX1_ahead_2 : cX1_ahead.data.toList.drop 46 = dktX1_ahead_2 := dk_seg dksX1_ahead_1 24 rfl rfl
theorem dksX1_ahead_3 : cX1_ahead.data.toList.drop 70 = dktX1_ahead_3 := dk_seg dksX1_ahead_2 24 rfl rfl
theorem dX1_ahead_0 : decode cX1_ahead 0 = .ok (.iload_n 1, 1) := dk_27 (dk_at dksX1_ahead_0 0 rfl rfl)
theorem dX1_ahead_1 : decode cX1_ahead 1 = .ok (.i2l, 1) := dk_133 (dk_at dksX1_ahead_0 1 rfl rfl)
theorem dX1_ahead_2 : decode cX1_ahead 2 = .ok (.lconst 0, 1) := dk_9 (dk_at dksX1_ahead_0 2 rfl rfl)
theorem dX1_ahead_3 : decode cX1_ahead 3 = .ok (.ldc2_w 421, 3) := dk_20 1 165 (dk_at dksX1_ahead_0 3 rfl rfl)
theorem dX1_ahead_6 : decode cX1_ahead 6 = .ok (.invokestatic 146, 3) := dk_184 0 146 (dk_at dksX1_ahead_0 6 rfl rfl)
theorem dX1_ahead_9 : decode cX1_ahead 9 = .ok (.ifCond .ne 5, 3) := dk_154 0 5 (dk_at dksX1_ahead_0 9 rfl rfl)
theorem dX1_ahead_12 : decode cX1_ahead 12 = .ok (.iconst (-1), 1) := dk_2 (dk_at dksX1_ahead_0 12 rfl rfl)
theorem dX1_ahead_13 : decode cX1_ahead 13 = .ok (.ireturn, 1) := dk_172 (dk_at dksX1_ahead_0 13 rfl rfl)
theorem dX1_ahead_14 : decode cX1_ahead 14 = .ok (.aload_n 0, 1) := dk_42 (dk_at dksX1_ahead_0 14 rfl rfl)
theorem dX1_ahead_15 : decode cX1_ahead 15 = .ok (.getfield 91, 3) := dk_180 0 91 (dk_at dksX1_ahead_0 15 rfl rfl)
theorem dX1_ahead_18 : decode cX1_ahead 18 = .ok (.aload_n 0, 1) := dk_42 (dk_at dksX1_ahead_0 18 rfl rfl)
theorem dX1_ahead_19 : decode cX1_ahead 19 = .ok (.getfield 84, 3) := dk_180 0 84 (dk_at dksX1_ahead_0 19 rfl rfl)
theorem dX1_ahead_22 : decode cX1_ahead 22 = .ok (.invokevirtual 298, 3) := dk_182 1 42 (dk_at dksX1_ahead_1 0 rfl rfl)
theorem dX1_ahead_25 : decode cX1_ahead 25 = .ok (.aload_n 0, 1) := dk_42 (dk_at dksX1_ahead_1 3 rfl rfl)
theorem dX1_ahead_26 : decode cX1_ahead 26 = .ok (.aload_n 0, 1) := dk_42 (dk_at dksX1_ahead_1 4 rfl rfl)
theorem dX1_ahead_27 : decode cX1_ahead 27 = .ok (.getfield 91, 3) := dk_180 0 91 (dk_at dksX1_ahead_1 5 rfl rfl)
theorem dX1_ahead_30 : decode cX1_ahead 30 = .ok (.iload_n 1, 1) := dk_27 (dk_at dksX1_ahead_1 8 rfl rfl)
theorem dX1_ahead_31 : decode cX1_ahead 31 = .ok (.invokevirtual 326, 3) := dk_182 1 70 (dk_at dksX1_ahead_1 9 rfl rfl)
theorem dX1_ahead_34 : decode cX1_ahead 34 = .ok (.aload_n 0, 1) := dk_42 (dk_at dksX1_ahead_1 12 rfl rfl)
theorem dX1_ahead_35 : decode cX1_ahead 35 = .ok (.iconst 0, 1) := dk_3 (dk_at dksX1_ahead_1 13 rfl rfl)
theorem dX1_ahead_36 : decode cX1_ahead 36 = .ok (.putfield 139, 3) := dk_181 0 139 (dk_at dksX1_ahead_1 14 rfl rfl)
theorem dX1_ahead_39 : decode cX1_ahead 39 = .ok (.iconst 0, 1) := dk_3 (dk_at dksX1_ahead_1 17 rfl rfl)
theorem dX1_ahead_40 : decode cX1_ahead 40 = .ok (.istore_n 2, 1) := dk_61 (dk_at dksX1_ahead_1 18 rfl rfl)
theorem dX1_ahead_41 : decode cX1_ahead 41 = .ok (.iload_n 2, 1) := dk_28 (dk_at dksX1_ahead_1 19 rfl rfl)
theorem dX1_ahead_42 : decode cX1_ahead 42 = .ok (.aload_n 0, 1) := dk_42 (dk_at dksX1_ahead_1 20 rfl rfl)
theorem dX1_ahead_43 : decode cX1_ahead 43 = .ok (.getfield 150, 3) := dk_180 0 150 (dk_at dksX1_ahead_1 21 rfl rfl)
theorem dX1_ahead_46 : decode cX1_ahead 46 = .ok (.if_icmp .ge 23, 3) := dk_162 0 23 (dk_at dksX1_ahead_2 0 rfl rfl)
theorem dX1_ahead_49 : decode cX1_ahead 49 = .ok (.aload_n 0, 1) := dk_42 (dk_at dksX1_ahead_2 3 rfl rfl)
theorem dX1_ahead_50 : decode cX1_ahead 50 = .ok (.aload_n 0, 1) := dk_42 (dk_at dksX1_ahead_2 4 rfl rfl)
theorem dX1_ahead_51 : decode cX1_ahead 51 = .ok (.getfield 91, 3) := dk_180 0 91 (dk_at dksX1_ahead_2 5 rfl rfl)
theorem dX1_ahead_54 : decode cX1_ahead 54 = .ok (.getfield 225, 3) := dk_180 0 225 (dk_at dksX1_ahead_2 8 rfl rfl)
theorem dX1_ahead_57 : decode cX1_ahead 57 = .ok (.iload_n 2, 1) := dk_28 (dk_at dksX1_ahead_2 11 rfl rfl)
theorem dX1_ahead_58 : decode cX1_ahead 58 = .ok (.iaload, 1) := dk_46 (dk_at dksX1_ahead_2 12 rfl rfl)
theorem dX1_ahead_59 : decode cX1_ahead 59 = .ok (.i2l, 1) := dk_133 (dk_at dksX1_ahead_2 13 rfl rfl)
theorem dX1_ahead_60 : decode cX1_ahead 60 = .ok (.invokevirtual 330, 3) := dk_182 1 74 (dk_at dksX1_ahead_2 14 rfl rfl)
theorem dX1_ahead_63 : decode cX1_ahead 63 = .ok (.iinc 2 1, 3) := dk_132 2 1 (dk_at dksX1_ahead_2 17 rfl rfl)
theorem dX1_ahead_66 : decode cX1_ahead 66 = .ok (.goto (-25), 3) := dk_167 255 231 (dk_at dksX1_ahead_2 20 rfl rfl)
theorem dX1_ahead_69 : decode cX1_ahead 69 = .ok (.aload_n 0, 1) := dk_42 (dk_at dksX1_ahead_2 23 rfl rfl)
theorem dX1_ahead_70 : decode cX1_ahead 70 = .ok (.aload_n 0, 1) := dk_42 (dk_at dksX1_ahead_3 0 rfl rfl)
theorem dX1_ahead_71 : decode cX1_ahead 71 = .ok (.getfield 91, 3) := dk_180 0 91 (dk_at dksX1_ahead_3 1 rfl rfl)
theorem dX1_ahead_74 : decode cX1_ahead 74 = .ok (.invokevirtual 323, 3) := dk_182 1 67 (dk_at dksX1_ahead_3 4 rfl rfl)
theorem dX1_ahead_77 : decode cX1_ahead 77 = .ok (.ireturn, 1) := dk_172 (dk_at dksX1_ahead_3 7 rfl rfl)
abbrev cX1_gossip : ByteArray := prog_1_method_71_code
def yX1_gossip : MethodName := ⟨RX1, "gossip", "(I)I"⟩
def dkwX1_gossip_5 : List UInt8 := [182, 1, 74, 28, 172]
abbrev dktX1_gossip_5 : List UInt8 := dkwX1_gossip_5 ++ []
def dkwX1_gossip_4 : List UInt8 := [28, 160, 0, 6, 167, 0, 12, 21, 4, 61, 132, 3, 1, 167, 255, 164, 42, 3, 181, 0, 139, 42, 29, 133]
abbrev dktX1_gossip_4 : List UInt8 := dkwX1_gossip_4 ++ dktX1_gossip_5
def dkwX1_gossip_3 : List UInt8 := [21, 6, 120, 167, 0, 4, 3, 128, 54, 4, 132, 6, 1, 167, 255, 206, 132, 5, 1, 167, 255, 188, 21, 4]
abbrev dktX1_gossip_3 : List UInt8 := dkwX1_gossip_3 ++ dktX1_gossip_4
def dkwX1_gossip_2 : List UInt8 := [21, 5, 184, 0, 26, 153, 0, 25, 42, 42, 180, 0, 84, 21, 5, 21, 6, 182, 1, 53, 153, 0, 10, 4]
abbrev dktX1_gossip_2 : List UInt8 := dkwX1_gossip_2 ++ dktX1_gossip_3
def dkwX1_gossip_1 : List UInt8 := [42, 180, 0, 150, 162, 0, 65, 3, 54, 6, 21, 6, 42, 180, 0, 150, 162, 0, 47, 21, 4, 28, 133]
abbrev dktX1_gossip_1 : List UInt8 := dkwX1_gossip_1 ++ dktX1_gossip_2
def dkwX1_gossip_0 : List UInt8 := [42, 27, 182, 0, 250, 154, 0, 5, 2, 172, 4, 27, 120, 61, 3, 62, 28, 54, 4, 3, 54, 5, 21, 5]
abbrev dktX1_gossip_0 : List UInt8 := dkwX1_gossip_0 ++ dktX1_gossip_1
theorem dksX1_gossip_0 : cX1_gossip.data.toList.drop 0 = dktX1_gossip_0 := by decide +kernel
theorem dksX1_gossip_1 : cX1_gossip.data.toList.drop 24 = dktX1_gossip_1 := dk_seg dksX1_gossip_0 24 rfl rfl
theorem dksX1_gossip_2 : cX1_gossip.data.toList.drop 47 = dktX1_gossip_2 := dk_seg dksX1_gossip_1 23 rfl rfl
theorem dksX1_gossip_3 : cX1_gossip.data.toList.drop 71 = dktX1_gossip_3 := dk_seg dksX1_gossip_2 24 rfl rfl
theorem dksX1_gossip_4 : cX1_gossip.data.toList.drop 95 = dktX1_gossip_4 := dk_seg dksX1_gossip_3 24 rfl rfl
theorem dksX1_gossip_5 : cX1_gossip.data.toList.drop 119 = dktX1_gossip_5 := dk_seg dksX1_gossip_4 24 rfl rfl
theorem dX1_gossip_0 : decode cX1_gossip 0 = .ok (.aload_n 0, 1) := dk_42 (dk_at dksX1_gossip_0 0 rfl rfl)
theorem dX1_gossip_1 : decode cX1_gossip 1 = .ok (.iload_n 1, 1) := dk_27 (dk_at dksX1_gossip_0 1 rfl rfl)
theorem dX1_gossip_2 : decode cX1_gossip 2 = .ok (.invokevirtual 250, 3) := dk_182 0 250 (dk_at dksX1_gossip_0 2 rfl rfl)
theorem dX1_gossip_5 : decode cX1_gossip 5 = .ok (.ifCond .ne 5, 3) := dk_154 0 5 (dk_at dksX1_gossip_0 5 rfl rfl)
theorem dX1_gossip_8 : decode cX1_gossip 8 = .ok (.iconst (-1), 1) := dk_2 (dk_at dksX1_gossip_0 8 rfl rfl)
theorem dX1_gossip_9 : decode cX1_gossip 9 = .ok (.ireturn, 1) := dk_172 (dk_at dksX1_gossip_0 9 rfl rfl)
theorem dX1_gossip_10 : decode cX1_gossip 10 = .ok (.iconst 1, 1) := dk_4 (dk_at dksX1_gossip_0 10 rfl rfl)
theorem dX1_gossip_11 : decode cX1_gossip 11 = .ok (.iload_n 1, 1) := dk_27 (dk_at dksX1_gossip_0 11 rfl rfl)
theorem dX1_gossip_12 : decode cX1_gossip 12 = .ok (.ishl, 1) := dk_120 (dk_at dksX1_gossip_0 12 rfl rfl)
theorem dX1_gossip_13 : decode cX1_gossip 13 = .ok (.istore_n 2, 1) := dk_61 (dk_at dksX1_gossip_0 13 rfl rfl)
theorem dX1_gossip_14 : decode cX1_gossip 14 = .ok (.iconst 0, 1) := dk_3 (dk_at dksX1_gossip_0 14 rfl rfl)
theorem dX1_gossip_15 : decode cX1_gossip 15 = .ok (.istore_n 3, 1) := dk_62 (dk_at dksX1_gossip_0 15 rfl rfl)
theorem dX1_gossip_16 : decode cX1_gossip 16 = .ok (.iload_n 2, 1) := dk_28 (dk_at dksX1_gossip_0 16 rfl rfl)
theorem dX1_gossip_17 : decode cX1_gossip 17 = .ok (.istore 4, 2) := dk_54 4 (dk_at dksX1_gossip_0 17 rfl rfl)
theorem dX1_gossip_19 : decode cX1_gossip 19 = .ok (.iconst 0, 1) := dk_3 (dk_at dksX1_gossip_0 19 rfl rfl)
theorem dX1_gossip_20 : decode cX1_gossip 20 = .ok (.istore 5, 2) := dk_54 5 (dk_at dksX1_gossip_0 20 rfl rfl)
theorem dX1_gossip_22 : decode cX1_gossip 22 = .ok (.iload 5, 2) := dk_21 5 (dk_at dksX1_gossip_0 22 rfl rfl)
theorem dX1_gossip_24 : decode cX1_gossip 24 = .ok (.aload_n 0, 1) := dk_42 (dk_at dksX1_gossip_1 0 rfl rfl)
theorem dX1_gossip_25 : decode cX1_gossip 25 = .ok (.getfield 150, 3) := dk_180 0 150 (dk_at dksX1_gossip_1 1 rfl rfl)
theorem dX1_gossip_28 : decode cX1_gossip 28 = .ok (.if_icmp .ge 65, 3) := dk_162 0 65 (dk_at dksX1_gossip_1 4 rfl rfl)
theorem dX1_gossip_31 : decode cX1_gossip 31 = .ok (.iconst 0, 1) := dk_3 (dk_at dksX1_gossip_1 7 rfl rfl)
theorem dX1_gossip_32 : decode cX1_gossip 32 = .ok (.istore 6, 2) := dk_54 6 (dk_at dksX1_gossip_1 8 rfl rfl)
theorem dX1_gossip_34 : decode cX1_gossip 34 = .ok (.iload 6, 2) := dk_21 6 (dk_at dksX1_gossip_1 10 rfl rfl)
theorem dX1_gossip_36 : decode cX1_gossip 36 = .ok (.aload_n 0, 1) := dk_42 (dk_at dksX1_gossip_1 12 rfl rfl)
theorem dX1_gossip_37 : decode cX1_gossip 37 = .ok (.getfield 150, 3) := dk_180 0 150 (dk_at dksX1_gossip_1 13 rfl rfl)
theorem dX1_gossip_40 : decode cX1_gossip 40 = .ok (.if_icmp .ge 47, 3) := dk_162 0 47 (dk_at dksX1_gossip_1 16 rfl rfl)
theorem dX1_gossip_43 : decode cX1_gossip 43 = .ok (.iload 4, 2) := dk_21 4 (dk_at dksX1_gossip_1 19 rfl rfl)
theorem dX1_gossip_45 : decode cX1_gossip 45 = .ok (.iload_n 2, 1) := dk_28 (dk_at dksX1_gossip_1 21 rfl rfl)
theorem dX1_gossip_46 : decode cX1_gossip 46 = .ok (.i2l, 1) := dk_133 (dk_at dksX1_gossip_1 22 rfl rfl)
theorem dX1_gossip_47 : decode cX1_gossip 47 = .ok (.iload 5, 2) := dk_21 5 (dk_at dksX1_gossip_2 0 rfl rfl)
theorem dX1_gossip_49 : decode cX1_gossip 49 = .ok (.invokestatic 26, 3) := dk_184 0 26 (dk_at dksX1_gossip_2 2 rfl rfl)
theorem dX1_gossip_52 : decode cX1_gossip 52 = .ok (.ifCond .eq 25, 3) := dk_153 0 25 (dk_at dksX1_gossip_2 5 rfl rfl)
theorem dX1_gossip_55 : decode cX1_gossip 55 = .ok (.aload_n 0, 1) := dk_42 (dk_at dksX1_gossip_2 8 rfl rfl)
theorem dX1_gossip_56 : decode cX1_gossip 56 = .ok (.aload_n 0, 1) := dk_42 (dk_at dksX1_gossip_2 9 rfl rfl)
theorem dX1_gossip_57 : decode cX1_gossip 57 = .ok (.getfield 84, 3) := dk_180 0 84 (dk_at dksX1_gossip_2 10 rfl rfl)
theorem dX1_gossip_60 : decode cX1_gossip 60 = .ok (.iload 5, 2) := dk_21 5 (dk_at dksX1_gossip_2 13 rfl rfl)
theorem dX1_gossip_62 : decode cX1_gossip 62 = .ok (.iload 6, 2) := dk_21 6 (dk_at dksX1_gossip_2 15 rfl rfl)
theorem dX1_gossip_64 : decode cX1_gossip 64 = .ok (.invokevirtual 309, 3) := dk_182 1 53 (dk_at dksX1_gossip_2 17 rfl rfl)
theorem dX1_gossip_67 : decode cX1_gossip 67 = .ok (.ifCond .eq 10, 3) := dk_153 0 10 (dk_at dksX1_gossip_2 20 rfl rfl)
theorem dX1_gossip_70 : decode cX1_gossip 70 = .ok (.iconst 1, 1) := dk_4 (dk_at dksX1_gossip_2 23 rfl rfl)
theorem dX1_gossip_71 : decode cX1_gossip 71 = .ok (.iload 6, 2) := dk_21 6 (dk_at dksX1_gossip_3 0 rfl rfl)
theorem dX1_gossip_73 : decode cX1_gossip 73 = .ok (.ishl, 1) := dk_120 (dk_at dksX1_gossip_3 2 rfl rfl)
theorem dX1_gossip_74 : decode cX1_gossip 74 = .ok (.goto 4, 3) := dk_167 0 4 (dk_at dksX1_gossip_3 3 rfl rfl)
theorem dX1_gossip_77 : decode cX1_gossip 77 = .ok (.iconst 0, 1) := dk_3 (dk_at dksX1_gossip_3 6 rfl rfl)
theorem dX1_gossip_78 : decode cX1_gossip 78 = .ok (.ior, 1) := dk_128 (dk_at dksX1_gossip_3 7 rfl rfl)
theorem dX1_gossip_79 : decode cX1_gossip 79 = .ok (.istore 4, 2) := dk_54 4 (dk_at dksX1_gossip_3 8 rfl rfl)
theorem dX1_gossip_81 : decode cX1_gossip 81 = .ok (.iinc 6 1, 3) := dk_132 6 1 (dk_at dksX1_gossip_3 10 rfl rfl)
theorem dX1_gossip_84 : decode cX1_gossip 84 = .ok (.goto (-50), 3) := dk_167 255 206 (dk_at dksX1_gossip_3 13 rfl rfl)
theorem dX1_gossip_87 : decode cX1_gossip 87 = .ok (.iinc 5 1, 3) := dk_132 5 1 (dk_at dksX1_gossip_3 16 rfl rfl)
theorem dX1_gossip_90 : decode cX1_gossip 90 = .ok (.goto (-68), 3) := dk_167 255 188 (dk_at dksX1_gossip_3 19 rfl rfl)
theorem dX1_gossip_93 : decode cX1_gossip 93 = .ok (.iload 4, 2) := dk_21 4 (dk_at dksX1_gossip_3 22 rfl rfl)
theorem dX1_gossip_95 : decode cX1_gossip 95 = .ok (.iload_n 2, 1) := dk_28 (dk_at dksX1_gossip_4 0 rfl rfl)
theorem dX1_gossip_96 : decode cX1_gossip 96 = .ok (.if_icmp .ne 6, 3) := dk_160 0 6 (dk_at dksX1_gossip_4 1 rfl rfl)
theorem dX1_gossip_99 : decode cX1_gossip 99 = .ok (.goto 12, 3) := dk_167 0 12 (dk_at dksX1_gossip_4 4 rfl rfl)
theorem dX1_gossip_102 : decode cX1_gossip 102 = .ok (.iload 4, 2) := dk_21 4 (dk_at dksX1_gossip_4 7 rfl rfl)
theorem dX1_gossip_104 : decode cX1_gossip 104 = .ok (.istore_n 2, 1) := dk_61 (dk_at dksX1_gossip_4 9 rfl rfl)
theorem dX1_gossip_105 : decode cX1_gossip 105 = .ok (.iinc 3 1, 3) := dk_132 3 1 (dk_at dksX1_gossip_4 10 rfl rfl)
theorem dX1_gossip_108 : decode cX1_gossip 108 = .ok (.goto (-92), 3) := dk_167 255 164 (dk_at dksX1_gossip_4 13 rfl rfl)
theorem dX1_gossip_111 : decode cX1_gossip 111 = .ok (.aload_n 0, 1) := dk_42 (dk_at dksX1_gossip_4 16 rfl rfl)
theorem dX1_gossip_112 : decode cX1_gossip 112 = .ok (.iconst 0, 1) := dk_3 (dk_at dksX1_gossip_4 17 rfl rfl)
theorem dX1_gossip_113 : decode cX1_gossip 113 = .ok (.putfield 139, 3) := dk_181 0 139 (dk_at dksX1_gossip_4 18 rfl rfl)
theorem dX1_gossip_116 : decode cX1_gossip 116 = .ok (.aload_n 0, 1) := dk_42 (dk_at dksX1_gossip_4 21 rfl rfl)
theorem dX1_gossip_117 : decode cX1_gossip 117 = .ok (.iload_n 3, 1) := dk_29 (dk_at dksX1_gossip_4 22 rfl rfl)
theorem dX1_gossip_118 : decode cX1_gossip 118 = .ok (.i2l, 1) := dk_133 (dk_at dksX1_gossip_4 23 rfl rfl)
theorem dX1_gossip_119 : decode cX1_gossip 119 = .ok (.invokevirtual 330, 3) := dk_182 1 74 (dk_at dksX1_gossip_5 0 rfl rfl)
theorem dX1_gossip_122 : decode cX1_gossip 122 = .ok (.iload_n 2, 1) := dk_28 (dk_at dksX1_gossip_5 3 rfl rfl)
theorem dX1_gossip_123 : decode cX1_gossip 123 = .ok (.ireturn, 1) := dk_172 (dk_at dksX1_gossip_5 4 rfl rfl)
abbrev cX1_eighths : ByteArray := prog_1_method_72_code
def yX1_eighths : MethodName := ⟨RX1, "eighths", "(II)I"⟩
def dkwX1_eighths_5 : List UInt8 := [182, 1, 74, 42, 180, 0, 84, 180, 0, 219, 27, 46, 29, 184, 1, 82, 172]
abbrev dktX1_eighths_5 : List UInt8 := dkwX1_eighths_5 ++ []
def dkwX1_eighths_4 : List UInt8 := [132, 4, 1, 167, 255, 184, 29, 2, 160, 0, 6, 16, 254, 172, 42, 3, 181, 0, 139, 42, 29, 133]
abbrev dktX1_eighths_4 : List UInt8 := dkwX1_eighths_4 ++ dktX1_eighths_5
def dkwX1_eighths_3 : List UInt8 := [21, 4, 184, 1, 82, 42, 180, 0, 84, 180, 0, 219, 27, 46, 29, 184, 1, 82, 162, 0, 6, 21, 4, 62]
abbrev dktX1_eighths_3 : List UInt8 := dkwX1_eighths_3 ++ dktX1_eighths_4
def dkwX1_eighths_2 : List UInt8 := [182, 1, 171, 154, 0, 6, 167, 0, 41, 29, 2, 159, 0, 33, 42, 180, 0, 84, 180, 0, 219, 27, 46]
abbrev dktX1_eighths_2 : List UInt8 := dkwX1_eighths_2 ++ dktX1_eighths_3
def dkwX1_eighths_1 : List UInt8 := [21, 4, 16, 8, 162, 0, 71, 42, 180, 0, 69, 21, 4, 182, 1, 167, 42, 180, 0, 84, 27, 28]
abbrev dktX1_eighths_1 : List UInt8 := dkwX1_eighths_1 ++ dktX1_eighths_2
def dkwX1_eighths_0 : List UInt8 := [42, 27, 182, 0, 250, 153, 0, 11, 42, 28, 182, 1, 102, 154, 0, 5, 2, 172, 2, 62, 3, 54, 4]
abbrev dktX1_eighths_0 : List UInt8 := dkwX1_eighths_0 ++ dktX1_eighths_1
theorem dksX1_eighths_0 : cX1_eighths.data.toList.drop 0 = dktX1_eighths_0 := by decide +kernel
theorem dksX1_eighths_1 : cX1_eighths.data.toList.drop 23 = dktX1_eighths_1 := dk_seg dksX1_eighths_0 23 rfl rfl
theorem dksX1_eighths_2 : cX1_eighths.data.toList.drop 45 = dktX1_eighths_2 := dk_seg dksX1_eighths_1 22 rfl rfl
theorem dksX1_eighths_3 : cX1_eighths.data.toList.drop 68 = dktX1_eighths_3 := dk_seg dksX1_eighths_2 23 rfl rfl
theorem dksX1_eighths_4 : cX1_eighths.data.toList.drop 92 = dktX1_eighths_4 := dk_seg dksX1_eighths_3 24 rfl rfl
theorem dksX1_eighths_5 : cX1_eighths.data.toList.drop 114 = dktX1_eighths_5 := dk_seg dksX1_eighths_4 22 rfl rfl
theorem dX1_eighths_0 : decode cX1_eighths 0 = .ok (.aload_n 0, 1) := dk_42 (dk_at dksX1_eighths_0 0 rfl rfl)
theorem dX1_eighths_1 : decode cX1_eighths 1 = .ok (.iload_n 1, 1) := dk_27 (dk_at dksX1_eighths_0 1 rfl rfl)
theorem dX1_eighths_2 : decode cX1_eighths 2 = .ok (.invokevirtual 250, 3) := dk_182 0 250 (dk_at dksX1_eighths_0 2 rfl rfl)
theorem dX1_eighths_5 : decode cX1_eighths 5 = .ok (.ifCond .eq 11, 3) := dk_153 0 11 (dk_at dksX1_eighths_0 5 rfl rfl)
theorem dX1_eighths_8 : decode cX1_eighths 8 = .ok (.aload_n 0, 1) := dk_42 (dk_at dksX1_eighths_0 8 rfl rfl)
theorem dX1_eighths_9 : decode cX1_eighths 9 = .ok (.iload_n 2, 1) := dk_28 (dk_at dksX1_eighths_0 9 rfl rfl)
theorem dX1_eighths_10 : decode cX1_eighths 10 = .ok (.invokevirtual 358, 3) := dk_182 1 102 (dk_at dksX1_eighths_0 10 rfl rfl)
theorem dX1_eighths_13 : decode cX1_eighths 13 = .ok (.ifCond .ne 5, 3) := dk_154 0 5 (dk_at dksX1_eighths_0 13 rfl rfl)
theorem dX1_eighths_16 : decode cX1_eighths 16 = .ok (.iconst (-1), 1) := dk_2 (dk_at dksX1_eighths_0 16 rfl rfl)
theorem dX1_eighths_17 : decode cX1_eighths 17 = .ok (.ireturn, 1) := dk_172 (dk_at dksX1_eighths_0 17 rfl rfl)
theorem dX1_eighths_18 : decode cX1_eighths 18 = .ok (.iconst (-1), 1) := dk_2 (dk_at dksX1_eighths_0 18 rfl rfl)
theorem dX1_eighths_19 : decode cX1_eighths 19 = .ok (.istore_n 3, 1) := dk_62 (dk_at dksX1_eighths_0 19 rfl rfl)
theorem dX1_eighths_20 : decode cX1_eighths 20 = .ok (.iconst 0, 1) := dk_3 (dk_at dksX1_eighths_0 20 rfl rfl)
theorem dX1_eighths_21 : decode cX1_eighths 21 = .ok (.istore 4, 2) := dk_54 4 (dk_at dksX1_eighths_0 21 rfl rfl)
theorem dX1_eighths_23 : decode cX1_eighths 23 = .ok (.iload 4, 2) := dk_21 4 (dk_at dksX1_eighths_1 0 rfl rfl)
theorem dX1_eighths_25 : decode cX1_eighths 25 = .ok (.bipush 8, 2) := dk_16 8 (dk_at dksX1_eighths_1 2 rfl rfl)
theorem dX1_eighths_27 : decode cX1_eighths 27 = .ok (.if_icmp .ge 71, 3) := dk_162 0 71 (dk_at dksX1_eighths_1 4 rfl rfl)
theorem dX1_eighths_30 : decode cX1_eighths 30 = .ok (.aload_n 0, 1) := dk_42 (dk_at dksX1_eighths_1 7 rfl rfl)
theorem dX1_eighths_31 : decode cX1_eighths 31 = .ok (.getfield 69, 3) := dk_180 0 69 (dk_at dksX1_eighths_1 8 rfl rfl)
theorem dX1_eighths_34 : decode cX1_eighths 34 = .ok (.iload 4, 2) := dk_21 4 (dk_at dksX1_eighths_1 11 rfl rfl)
theorem dX1_eighths_36 : decode cX1_eighths 36 = .ok (.invokevirtual 423, 3) := dk_182 1 167 (dk_at dksX1_eighths_1 13 rfl rfl)
theorem dX1_eighths_39 : decode cX1_eighths 39 = .ok (.aload_n 0, 1) := dk_42 (dk_at dksX1_eighths_1 16 rfl rfl)
theorem dX1_eighths_40 : decode cX1_eighths 40 = .ok (.getfield 84, 3) := dk_180 0 84 (dk_at dksX1_eighths_1 17 rfl rfl)
theorem dX1_eighths_43 : decode cX1_eighths 43 = .ok (.iload_n 1, 1) := dk_27 (dk_at dksX1_eighths_1 20 rfl rfl)
theorem dX1_eighths_44 : decode cX1_eighths 44 = .ok (.iload_n 2, 1) := dk_28 (dk_at dksX1_eighths_1 21 rfl rfl)
theorem dX1_eighths_45 : decode cX1_eighths 45 = .ok (.invokevirtual 427, 3) := dk_182 1 171 (dk_at dksX1_eighths_2 0 rfl rfl)
theorem dX1_eighths_48 : decode cX1_eighths 48 = .ok (.ifCond .ne 6, 3) := dk_154 0 6 (dk_at dksX1_eighths_2 3 rfl rfl)
theorem dX1_eighths_51 : decode cX1_eighths 51 = .ok (.goto 41, 3) := dk_167 0 41 (dk_at dksX1_eighths_2 6 rfl rfl)
theorem dX1_eighths_54 : decode cX1_eighths 54 = .ok (.iload_n 3, 1) := dk_29 (dk_at dksX1_eighths_2 9 rfl rfl)
theorem dX1_eighths_55 : decode cX1_eighths 55 = .ok (.iconst (-1), 1) := dk_2 (dk_at dksX1_eighths_2 10 rfl rfl)
theorem dX1_eighths_56 : decode cX1_eighths 56 = .ok (.if_icmp .eq 33, 3) := dk_159 0 33 (dk_at dksX1_eighths_2 11 rfl rfl)
theorem dX1_eighths_59 : decode cX1_eighths 59 = .ok (.aload_n 0, 1) := dk_42 (dk_at dksX1_eighths_2 14 rfl rfl)
theorem dX1_eighths_60 : decode cX1_eighths 60 = .ok (.getfield 84, 3) := dk_180 0 84 (dk_at dksX1_eighths_2 15 rfl rfl)
theorem dX1_eighths_63 : decode cX1_eighths 63 = .ok (.getfield 219, 3) := dk_180 0 219 (dk_at dksX1_eighths_2 18 rfl rfl)
theorem dX1_eighths_66 : decode cX1_eighths 66 = .ok (.iload_n 1, 1) := dk_27 (dk_at dksX1_eighths_2 21 rfl rfl)
theorem dX1_eighths_67 : decode cX1_eighths 67 = .ok (.iaload, 1) := dk_46 (dk_at dksX1_eighths_2 22 rfl rfl)
theorem dX1_eighths_68 : decode cX1_eighths 68 = .ok (.iload 4, 2) := dk_21 4 (dk_at dksX1_eighths_3 0 rfl rfl)
theorem dX1_eighths_70 : decode cX1_eighths 70 = .ok (.invokestatic 338, 3) := dk_184 1 82 (dk_at dksX1_eighths_3 2 rfl rfl)
theorem dX1_eighths_73 : decode cX1_eighths 73 = .ok (.aload_n 0, 1) := dk_42 (dk_at dksX1_eighths_3 5 rfl rfl)
theorem dX1_eighths_74 : decode cX1_eighths 74 = .ok (.getfield 84, 3) := dk_180 0 84 (dk_at dksX1_eighths_3 6 rfl rfl)
theorem dX1_eighths_77 : decode cX1_eighths 77 = .ok (.getfield 219, 3) := dk_180 0 219 (dk_at dksX1_eighths_3 9 rfl rfl)
theorem dX1_eighths_80 : decode cX1_eighths 80 = .ok (.iload_n 1, 1) := dk_27 (dk_at dksX1_eighths_3 12 rfl rfl)
theorem dX1_eighths_81 : decode cX1_eighths 81 = .ok (.iaload, 1) := dk_46 (dk_at dksX1_eighths_3 13 rfl rfl)
theorem dX1_eighths_82 : decode cX1_eighths 82 = .ok (.iload_n 3, 1) := dk_29 (dk_at dksX1_eighths_3 14 rfl rfl)
theorem dX1_eighths_83 : decode cX1_eighths 83 = .ok (.invokestatic 338, 3) := dk_184 1 82 (dk_at dksX1_eighths_3 15 rfl rfl)
theorem dX1_eighths_86 : decode cX1_eighths 86 = .ok (.if_icmp .ge 6, 3) := dk_162 0 6 (dk_at dksX1_eighths_3 18 rfl rfl)
theorem dX1_eighths_89 : decode cX1_eighths 89 = .ok (.iload 4, 2) := dk_21 4 (dk_at dksX1_eighths_3 21 rfl rfl)
theorem dX1_eighths_91 : decode cX1_eighths 91 = .ok (.istore_n 3, 1) := dk_62 (dk_at dksX1_eighths_3 23 rfl rfl)
theorem dX1_eighths_92 : decode cX1_eighths 92 = .ok (.iinc 4 1, 3) := dk_132 4 1 (dk_at dksX1_eighths_4 0 rfl rfl)
theorem dX1_eighths_95 : decode cX1_eighths 95 = .ok (.goto (-72), 3) := dk_167 255 184 (dk_at dksX1_eighths_4 3 rfl rfl)
theorem dX1_eighths_98 : decode cX1_eighths 98 = .ok (.iload_n 3, 1) := dk_29 (dk_at dksX1_eighths_4 6 rfl rfl)
theorem dX1_eighths_99 : decode cX1_eighths 99 = .ok (.iconst (-1), 1) := dk_2 (dk_at dksX1_eighths_4 7 rfl rfl)
theorem dX1_eighths_100 : decode cX1_eighths 100 = .ok (.if_icmp .ne 6, 3) := dk_160 0 6 (dk_at dksX1_eighths_4 8 rfl rfl)
theorem dX1_eighths_103 : decode cX1_eighths 103 = .ok (.bipush (-2), 2) := dk_16 254 (dk_at dksX1_eighths_4 11 rfl rfl)
theorem dX1_eighths_105 : decode cX1_eighths 105 = .ok (.ireturn, 1) := dk_172 (dk_at dksX1_eighths_4 13 rfl rfl)
theorem dX1_eighths_106 : decode cX1_eighths 106 = .ok (.aload_n 0, 1) := dk_42 (dk_at dksX1_eighths_4 14 rfl rfl)
theorem dX1_eighths_107 : decode cX1_eighths 107 = .ok (.iconst 0, 1) := dk_3 (dk_at dksX1_eighths_4 15 rfl rfl)
theorem dX1_eighths_108 : decode cX1_eighths 108 = .ok (.putfield 139, 3) := dk_181 0 139 (dk_at dksX1_eighths_4 16 rfl rfl)
theorem dX1_eighths_111 : decode cX1_eighths 111 = .ok (.aload_n 0, 1) := dk_42 (dk_at dksX1_eighths_4 19 rfl rfl)
theorem dX1_eighths_112 : decode cX1_eighths 112 = .ok (.iload_n 3, 1) := dk_29 (dk_at dksX1_eighths_4 20 rfl rfl)
theorem dX1_eighths_113 : decode cX1_eighths 113 = .ok (.i2l, 1) := dk_133 (dk_at dksX1_eighths_4 21 rfl rfl)
theorem dX1_eighths_114 : decode cX1_eighths 114 = .ok (.invokevirtual 330, 3) := dk_182 1 74 (dk_at dksX1_eighths_5 0 rfl rfl)
theorem dX1_eighths_117 : decode cX1_eighths 117 = .ok (.aload_n 0, 1) := dk_42 (dk_at dksX1_eighths_5 3 rfl rfl)
theorem dX1_eighths_118 : decode cX1_eighths 118 = .ok (.getfield 84, 3) := dk_180 0 84 (dk_at dksX1_eighths_5 4 rfl rfl)
theorem dX1_eighths_121 : decode cX1_eighths 121 = .ok (.getfield 219, 3) := dk_180 0 219 (dk_at dksX1_eighths_5 7 rfl rfl)
theorem dX1_eighths_124 : decode cX1_eighths 124 = .ok (.iload_n 1, 1) := dk_27 (dk_at dksX1_eighths_5 10 rfl rfl)
theorem dX1_eighths_125 : decode cX1_eighths 125 = .ok (.iaload, 1) := dk_46 (dk_at dksX1_eighths_5 11 rfl rfl)
theorem dX1_eighths_126 : decode cX1_eighths 126 = .ok (.iload_n 3, 1) := dk_29 (dk_at dksX1_eighths_5 12 rfl rfl)
theorem dX1_eighths_127 : decode cX1_eighths 127 = .ok (.invokestatic 338, 3) := dk_184 1 82 (dk_at dksX1_eighths_5 13 rfl rfl)
theorem dX1_eighths_130 : decode cX1_eighths 130 = .ok (.ireturn, 1) := dk_172 (dk_at dksX1_eighths_5 16 rfl rfl)
abbrev cX1_turned : ByteArray := prog_1_method_74_code
def yX1_turned : MethodName := ⟨RX1, "turned", "()I"⟩
def dkwX1_turned_13 : List UInt8 := [172]
abbrev dktX1_turned_13 : List UInt8 := dkwX1_turned_13 ++ []
def dkwX1_turned_12 : List UInt8 := [42, 180, 0, 118, 28, 50, 29, 46, 128, 60, 132, 2, 1, 167, 255, 183, 42, 180, 0, 121, 3, 50, 3, 46]
abbrev dktX1_turned_12 : List UInt8 := dkwX1_turned_12 ++ dktX1_turned_13
def dkwX1_turned_11 : List UInt8 := [42, 180, 0, 121, 28, 50, 27, 46, 159, 0, 9, 132, 3, 1, 167, 255, 216, 42, 29, 133, 182, 1, 74, 27]
abbrev dktX1_turned_11 : List UInt8 := dkwX1_turned_11 ++ dktX1_turned_12
def dkwX1_turned_10 : List UInt8 := [29, 182, 1, 174, 42, 180, 0, 121, 28, 4, 96, 50, 27, 42, 180, 0, 118, 28, 50, 29, 46, 128, 46, 96]
abbrev dktX1_turned_10 : List UInt8 := dkwX1_turned_10 ++ dktX1_turned_11
def dkwX1_turned_9 : List UInt8 := [16, 254, 172, 3, 60, 42, 3, 181, 0, 139, 3, 61, 28, 42, 180, 0, 150, 162, 0, 71, 3, 62, 42, 28]
abbrev dktX1_turned_9 : List UInt8 := dkwX1_turned_9 ++ dktX1_turned_10
def dkwX1_turned_8 : List UInt8 := [167, 255, 175, 132, 1, 255, 167, 255, 163, 42, 180, 0, 121, 3, 50, 3, 46, 19, 1, 173, 161, 0, 6]
abbrev dktX1_turned_8 : List UInt8 := dkwX1_turned_8 ++ dktX1_turned_9
def dkwX1_turned_7 : List UInt8 := [42, 180, 0, 118, 27, 50, 29, 46, 128, 46, 96, 184, 0, 9, 79, 132, 3, 1, 167, 255, 202, 132, 2, 1]
abbrev dktX1_turned_7 : List UInt8 := dkwX1_turned_7 ++ dktX1_turned_8
def dkwX1_turned_6 : List UInt8 := [28, 42, 180, 0, 121, 27, 50, 28, 46, 42, 27, 29, 182, 1, 174, 42, 180, 0, 121, 27, 4, 96, 50, 28]
abbrev dktX1_turned_6 : List UInt8 := dkwX1_turned_6 ++ dktX1_turned_7
def dkwX1_turned_5 : List UInt8 := [180, 0, 121, 27, 50, 28, 19, 1, 173, 79, 3, 62, 29, 16, 8, 162, 0, 54, 42, 180, 0, 121, 27, 50]
abbrev dktX1_turned_5 : List UInt8 := dkwX1_turned_5 ++ dktX1_turned_6
def dkwX1_turned_4 : List UInt8 := [42, 180, 0, 150, 4, 100, 60, 27, 155, 0, 95, 3, 61, 28, 42, 182, 1, 159, 163, 0, 79, 42]
abbrev dktX1_turned_4 : List UInt8 := dkwX1_turned_4 ++ dktX1_turned_5
def dkwX1_turned_3 : List UInt8 := [50, 27, 27, 42, 182, 1, 159, 160, 0, 7, 3, 167, 0, 6, 19, 1, 173, 79, 132, 1, 1, 167, 255, 219]
abbrev dktX1_turned_3 : List UInt8 := dkwX1_turned_3 ++ dktX1_turned_4
def dkwX1_turned_2 : List UInt8 := [132, 1, 1, 167, 255, 207, 3, 60, 27, 42, 182, 1, 159, 163, 0, 35, 42, 180, 0, 121, 42, 180, 0, 150]
abbrev dktX1_turned_2 : List UInt8 := dkwX1_turned_2 ++ dktX1_turned_3
def dkwX1_turned_1 : List UInt8 := [28, 42, 180, 0, 69, 28, 182, 1, 167, 42, 180, 0, 84, 27, 182, 1, 172, 79, 132, 2, 1, 167, 255, 223]
abbrev dktX1_turned_1 : List UInt8 := dkwX1_turned_1 ++ dktX1_turned_2
def dkwX1_turned_0 : List UInt8 := [3, 60, 27, 42, 180, 0, 150, 162, 0, 47, 3, 61, 28, 16, 8, 162, 0, 33, 42, 180, 0, 118, 27, 50]
abbrev dktX1_turned_0 : List UInt8 := dkwX1_turned_0 ++ dktX1_turned_1
theorem dksX1_turned_0 : cX1_turned.data.toList.drop 0 = dktX1_turned_0 := by decide +kernel
theorem dksX1_turned_1 : cX1_turned.data.toList.drop 24 = dktX1_turned_1 := dk_seg dksX1_turned_0 24 rfl rfl
theorem dksX1_turned_2 : cX1_turned.data.toList.drop 48 = dktX1_turned_2 := dk_seg dksX1_turned_1 24 rfl rfl
theorem dksX1_turned_3 : cX1_turned.data.toList.drop 72 = dktX1_turned_3 := dk_seg dksX1_turned_2 24 rfl rfl
theorem dksX1_turned_4 : cX1_turned.data.toList.drop 96 = dktX1_turned_4 := dk_seg dksX1_turned_3 24 rfl rfl
theorem dksX1_turned_5 : cX1_turned.data.toList.drop 118 = dktX1_turned_5 := dk_seg dksX1_turned_4 22 rfl rfl
theorem dksX1_turned_6 : cX1_turned.data.toList.drop 142 = dktX1_turned_6 := dk_seg dksX1_turned_5 24 rfl rfl
theorem dksX1_turned_7 : cX1_turned.data.toList.drop 166 = dktX1_turned_7 := dk_seg dksX1_turned_6 24 rfl rfl
theorem dksX1_turned_8 : cX1_turned.data.toList.drop 190 = dktX1_turned_8 := dk_seg dksX1_turned_7 24 rfl rfl
theorem dksX1_turned_9 : cX1_turned.data.toList.drop 213 = dktX1_turned_9 := dk_seg dksX1_turned_8 23 rfl rfl
theorem dksX1_turned_10 : cX1_turned.data.toList.drop 237 = dktX1_turned_10 := dk_seg dksX1_turned_9 24 rfl rfl
theorem dksX1_turned_11 : cX1_turned.data.toList.drop 261 = dktX1_turned_11 := dk_seg dksX1_turned_10 24 rfl rfl
theorem dksX1_turned_12 : cX1_turned.data.toList.drop 285 = dktX1_turned_12 := dk_seg dksX1_turned_11 24 rfl rfl
theorem dksX1_turned_13 : cX1_turned.data.toList.drop 309 = dktX1_turned_13 := dk_seg dksX1_turned_12 24 rfl rfl
theorem dX1_turned_0 : decode cX1_turned 0 = .ok (.iconst 0, 1) := dk_3 (dk_at dksX1_turned_0 0 rfl rfl)
theorem dX1_turned_1 : decode cX1_turned 1 = .ok (.istore_n 1, 1) := dk_60 (dk_at dksX1_turned_0 1 rfl rfl)
theorem dX1_turned_2 : decode cX1_turned 2 = .ok (.iload_n 1, 1) := dk_27 (dk_at dksX1_turned_0 2 rfl rfl)
theorem dX1_turned_3 : decode cX1_turned 3 = .ok (.aload_n 0, 1) := dk_42 (dk_at dksX1_turned_0 3 rfl rfl)
theorem dX1_turned_4 : decode cX1_turned 4 = .ok (.getfield 150, 3) := dk_180 0 150 (dk_at dksX1_turned_0 4 rfl rfl)
theorem dX1_turned_7 : decode cX1_turned 7 = .ok (.if_icmp .ge 47, 3) := dk_162 0 47 (dk_at dksX1_turned_0 7 rfl rfl)
theorem dX1_turned_10 : decode cX1_turned 10 = .ok (.iconst 0, 1) := dk_3 (dk_at dksX1_turned_0 10 rfl rfl)
theorem dX1_turned_11 : decode cX1_turned 11 = .ok (.istore_n 2, 1) := dk_61 (dk_at dksX1_turned_0 11 rfl rfl)
theorem dX1_turned_12 : decode cX1_turned 12 = .ok (.iload_n 2, 1) := dk_28 (dk_at dksX1_turned_0 12 rfl rfl)
theorem dX1_turned_13 : decode cX1_turned 13 = .ok (.bipush 8, 2) := dk_16 8 (dk_at dksX1_turned_0 13 rfl rfl)
theorem dX1_turned_15 : decode cX1_turned 15 = .ok (.if_icmp .ge 33, 3) := dk_162 0 33 (dk_at dksX1_turned_0 15 rfl rfl)
theorem dX1_turned_18 : decode cX1_turned 18 = .ok (.aload_n 0, 1) := dk_42 (dk_at dksX1_turned_0 18 rfl rfl)
theorem dX1_turned_19 : decode cX1_turned 19 = .ok (.getfield 118, 3) := dk_180 0 118 (dk_at dksX1_turned_0 19 rfl rfl)
theorem dX1_turned_22 : decode cX1_turned 22 = .ok (.iload_n 1, 1) := dk_27 (dk_at dksX1_turned_0 22 rfl rfl)
theorem dX1_turned_23 : decode cX1_turned 23 = .ok (.aaload, 1) := dk_50 (dk_at dksX1_turned_0 23 rfl rfl)
theorem dX1_turned_24 : decode cX1_turned 24 = .ok (.iload_n 2, 1) := dk_28 (dk_at dksX1_turned_1 0 rfl rfl)
theorem dX1_turned_25 : decode cX1_turned 25 = .ok (.aload_n 0, 1) := dk_42 (dk_at dksX1_turned_1 1 rfl rfl)
theorem dX1_turned_26 : decode cX1_turned 26 = .ok (.getfield 69, 3) := dk_180 0 69 (dk_at dksX1_turned_1 2 rfl rfl)
theorem dX1_turned_29 : decode cX1_turned 29 = .ok (.iload_n 2, 1) := dk_28 (dk_at dksX1_turned_1 5 rfl rfl)
theorem dX1_turned_30 : decode cX1_turned 30 = .ok (.invokevirtual 423, 3) := dk_182 1 167 (dk_at dksX1_turned_1 6 rfl rfl)
theorem dX1_turned_33 : decode cX1_turned 33 = .ok (.aload_n 0, 1) := dk_42 (dk_at dksX1_turned_1 9 rfl rfl)
theorem dX1_turned_34 : decode cX1_turned 34 = .ok (.getfield 84, 3) := dk_180 0 84 (dk_at dksX1_turned_1 10 rfl rfl)
theorem dX1_turned_37 : decode cX1_turned 37 = .ok (.iload_n 1, 1) := dk_27 (dk_at dksX1_turned_1 13 rfl rfl)
theorem dX1_turned_38 : decode cX1_turned 38 = .ok (.invokevirtual 428, 3) := dk_182 1 172 (dk_at dksX1_turned_1 14 rfl rfl)
theorem dX1_turned_41 : decode cX1_turned 41 = .ok (.iastore, 1) := dk_79 (dk_at dksX1_turned_1 17 rfl rfl)
theorem dX1_turned_42 : decode cX1_turned 42 = .ok (.iinc 2 1, 3) := dk_132 2 1 (dk_at dksX1_turned_1 18 rfl rfl)
theorem dX1_turned_45 : decode cX1_turned 45 = .ok (.goto (-33), 3) := dk_167 255 223 (dk_at dksX1_turned_1 21 rfl rfl)
theorem dX1_turned_48 : decode cX1_turned 48 = .ok (.iinc 1 1, 3) := dk_132 1 1 (dk_at dksX1_turned_2 0 rfl rfl)
theorem dX1_turned_51 : decode cX1_turned 51 = .ok (.goto (-49), 3) := dk_167 255 207 (dk_at dksX1_turned_2 3 rfl rfl)
theorem dX1_turned_54 : decode cX1_turned 54 = .ok (.iconst 0, 1) := dk_3 (dk_at dksX1_turned_2 6 rfl rfl)
theorem dX1_turned_55 : decode cX1_turned 55 = .ok (.istore_n 1, 1) := dk_60 (dk_at dksX1_turned_2 7 rfl rfl)
theorem dX1_turned_56 : decode cX1_turned 56 = .ok (.iload_n 1, 1) := dk_27 (dk_at dksX1_turned_2 8 rfl rfl)
theorem dX1_turned_57 : decode cX1_turned 57 = .ok (.aload_n 0, 1) := dk_42 (dk_at dksX1_turned_2 9 rfl rfl)
theorem dX1_turned_58 : decode cX1_turned 58 = .ok (.invokevirtual 415, 3) := dk_182 1 159 (dk_at dksX1_turned_2 10 rfl rfl)
theorem dX1_turned_61 : decode cX1_turned 61 = .ok (.if_icmp .gt 35, 3) := dk_163 0 35 (dk_at dksX1_turned_2 13 rfl rfl)
theorem dX1_turned_64 : decode cX1_turned 64 = .ok (.aload_n 0, 1) := dk_42 (dk_at dksX1_turned_2 16 rfl rfl)
theorem dX1_turned_65 : decode cX1_turned 65 = .ok (.getfield 121, 3) := dk_180 0 121 (dk_at dksX1_turned_2 17 rfl rfl)
theorem dX1_turned_68 : decode cX1_turned 68 = .ok (.aload_n 0, 1) := dk_42 (dk_at dksX1_turned_2 20 rfl rfl)
theorem dX1_turned_69 : decode cX1_turned 69 = .ok (.getfield 150, 3) := dk_180 0 150 (dk_at dksX1_turned_2 21 rfl rfl)
theorem dX1_turned_72 : decode cX1_turned 72 = .ok (.aaload, 1) := dk_50 (dk_at dksX1_turned_3 0 rfl rfl)
theorem dX1_turned_73 : decode cX1_turned 73 = .ok (.iload_n 1, 1) := dk_27 (dk_at dksX1_turned_3 1 rfl rfl)
theorem dX1_turned_74 : decode cX1_turned 74 = .ok (.iload_n 1, 1) := dk_27 (dk_at dksX1_turned_3 2 rfl rfl)
theorem dX1_turned_75 : decode cX1_turned 75 = .ok (.aload_n 0, 1) := dk_42 (dk_at dksX1_turned_3 3 rfl rfl)
theorem dX1_turned_76 : decode cX1_turned 76 = .ok (.invokevirtual 415, 3) := dk_182 1 159 (dk_at dksX1_turned_3 4 rfl rfl)
theorem dX1_turned_79 : decode cX1_turned 79 = .ok (.if_icmp .ne 7, 3) := dk_160 0 7 (dk_at dksX1_turned_3 7 rfl rfl)
theorem dX1_turned_82 : decode cX1_turned 82 = .ok (.iconst 0, 1) := dk_3 (dk_at dksX1_turned_3 10 rfl rfl)
theorem dX1_turned_83 : decode cX1_turned 83 = .ok (.goto 6, 3) := dk_167 0 6 (dk_at dksX1_turned_3 11 rfl rfl)
theorem dX1_turned_86 : decode cX1_turned 86 = .ok (.ldc_w 429, 3) := dk_19 1 173 (dk_at dksX1_turned_3 14 rfl rfl)
theorem dX1_turned_89 : decode cX1_turned 89 = .ok (.iastore, 1) := dk_79 (dk_at dksX1_turned_3 17 rfl rfl)
theorem dX1_turned_90 : decode cX1_turned 90 = .ok (.iinc 1 1, 3) := dk_132 1 1 (dk_at dksX1_turned_3 18 rfl rfl)
theorem dX1_turned_93 : decode cX1_turned 93 = .ok (.goto (-37), 3) := dk_167 255 219 (dk_at dksX1_turned_3 21 rfl rfl)
theorem dX1_turned_96 : decode cX1_turned 96 = .ok (.aload_n 0, 1) := dk_42 (dk_at dksX1_turned_4 0 rfl rfl)
theorem dX1_turned_97 : decode cX1_turned 97 = .ok (.getfield 150, 3) := dk_180 0 150 (dk_at dksX1_turned_4 1 rfl rfl)
theorem dX1_turned_100 : decode cX1_turned 100 = .ok (.iconst 1, 1) := dk_4 (dk_at dksX1_turned_4 4 rfl rfl)
theorem dX1_turned_101 : decode cX1_turned 101 = .ok (.isub, 1) := dk_100 (dk_at dksX1_turned_4 5 rfl rfl)
theorem dX1_turned_102 : decode cX1_turned 102 = .ok (.istore_n 1, 1) := dk_60 (dk_at dksX1_turned_4 6 rfl rfl)
theorem dX1_turned_103 : decode cX1_turned 103 = .ok (.iload_n 1, 1) := dk_27 (dk_at dksX1_turned_4 7 rfl rfl)
theorem dX1_turned_104 : decode cX1_turned 104 = .ok (.ifCond .lt 95, 3) := dk_155 0 95 (dk_at dksX1_turned_4 8 rfl rfl)
theorem dX1_turned_107 : decode cX1_turned 107 = .ok (.iconst 0, 1) := dk_3 (dk_at dksX1_turned_4 11 rfl rfl)
theorem dX1_turned_108 : decode cX1_turned 108 = .ok (.istore_n 2, 1) := dk_61 (dk_at dksX1_turned_4 12 rfl rfl)
theorem dX1_turned_109 : decode cX1_turned 109 = .ok (.iload_n 2, 1) := dk_28 (dk_at dksX1_turned_4 13 rfl rfl)
theorem dX1_turned_110 : decode cX1_turned 110 = .ok (.aload_n 0, 1) := dk_42 (dk_at dksX1_turned_4 14 rfl rfl)
theorem dX1_turned_111 : decode cX1_turned 111 = .ok (.invokevirtual 415, 3) := dk_182 1 159 (dk_at dksX1_turned_4 15 rfl rfl)
theorem dX1_turned_114 : decode cX1_turned 114 = .ok (.if_icmp .gt 79, 3) := dk_163 0 79 (dk_at dksX1_turned_4 18 rfl rfl)
theorem dX1_turned_117 : decode cX1_turned 117 = .ok (.aload_n 0, 1) := dk_42 (dk_at dksX1_turned_4 21 rfl rfl)
theorem dX1_turned_118 : decode cX1_turned 118 = .ok (.getfield 121, 3) := dk_180 0 121 (dk_at dksX1_turned_5 0 rfl rfl)
theorem dX1_turned_121 : decode cX1_turned 121 = .ok (.iload_n 1, 1) := dk_27 (dk_at dksX1_turned_5 3 rfl rfl)
theorem dX1_turned_122 : decode cX1_turned 122 = .ok (.aaload, 1) := dk_50 (dk_at dksX1_turned_5 4 rfl rfl)
theorem dX1_turned_123 : decode cX1_turned 123 = .ok (.iload_n 2, 1) := dk_28 (dk_at dksX1_turned_5 5 rfl rfl)
theorem dX1_turned_124 : decode cX1_turned 124 = .ok (.ldc_w 429, 3) := dk_19 1 173 (dk_at dksX1_turned_5 6 rfl rfl)
theorem dX1_turned_127 : decode cX1_turned 127 = .ok (.iastore, 1) := dk_79 (dk_at dksX1_turned_5 9 rfl rfl)
theorem dX1_turned_128 : decode cX1_turned 128 = .ok (.iconst 0, 1) := dk_3 (dk_at dksX1_turned_5 10 rfl rfl)
theorem dX1_turned_129 : decode cX1_turned 129 = .ok (.istore_n 3, 1) := dk_62 (dk_at dksX1_turned_5 11 rfl rfl)
theorem dX1_turned_130 : decode cX1_turned 130 = .ok (.iload_n 3, 1) := dk_29 (dk_at dksX1_turned_5 12 rfl rfl)
theorem dX1_turned_131 : decode cX1_turned 131 = .ok (.bipush 8, 2) := dk_16 8 (dk_at dksX1_turned_5 13 rfl rfl)
theorem dX1_turned_133 : decode cX1_turned 133 = .ok (.if_icmp .ge 54, 3) := dk_162 0 54 (dk_at dksX1_turned_5 15 rfl rfl)
theorem dX1_turned_136 : decode cX1_turned 136 = .ok (.aload_n 0, 1) := dk_42 (dk_at dksX1_turned_5 18 rfl rfl)
theorem dX1_turned_137 : decode cX1_turned 137 = .ok (.getfield 121, 3) := dk_180 0 121 (dk_at dksX1_turned_5 19 rfl rfl)
theorem dX1_turned_140 : decode cX1_turned 140 = .ok (.iload_n 1, 1) := dk_27 (dk_at dksX1_turned_5 22 rfl rfl)
theorem dX1_turned_141 : decode cX1_turned 141 = .ok (.aaload, 1) := dk_50 (dk_at dksX1_turned_5 23 rfl rfl)
theorem dX1_turned_142 : decode cX1_turned 142 = .ok (.iload_n 2, 1) := dk_28 (dk_at dksX1_turned_6 0 rfl rfl)
theorem dX1_turned_143 : decode cX1_turned 143 = .ok (.aload_n 0, 1) := dk_42 (dk_at dksX1_turned_6 1 rfl rfl)
theorem dX1_turned_144 : decode cX1_turned 144 = .ok (.getfield 121, 3) := dk_180 0 121 (dk_at dksX1_turned_6 2 rfl rfl)
theorem dX1_turned_147 : decode cX1_turned 147 = .ok (.iload_n 1, 1) := dk_27 (dk_at dksX1_turned_6 5 rfl rfl)
theorem dX1_turned_148 : decode cX1_turned 148 = .ok (.aaload, 1) := dk_50 (dk_at dksX1_turned_6 6 rfl rfl)
theorem dX1_turned_149 : decode cX1_turned 149 = .ok (.iload_n 2, 1) := dk_28 (dk_at dksX1_turned_6 7 rfl rfl)
theorem dX1_turned_150 : decode cX1_turned 150 = .ok (.iaload, 1) := dk_46 (dk_at dksX1_turned_6 8 rfl rfl)
theorem dX1_turned_151 : decode cX1_turned 151 = .ok (.aload_n 0, 1) := dk_42 (dk_at dksX1_turned_6 9 rfl rfl)
theorem dX1_turned_152 : decode cX1_turned 152 = .ok (.iload_n 1, 1) := dk_27 (dk_at dksX1_turned_6 10 rfl rfl)
theorem dX1_turned_153 : decode cX1_turned 153 = .ok (.iload_n 3, 1) := dk_29 (dk_at dksX1_turned_6 11 rfl rfl)
theorem dX1_turned_154 : decode cX1_turned 154 = .ok (.invokevirtual 430, 3) := dk_182 1 174 (dk_at dksX1_turned_6 12 rfl rfl)
theorem dX1_turned_157 : decode cX1_turned 157 = .ok (.aload_n 0, 1) := dk_42 (dk_at dksX1_turned_6 15 rfl rfl)
theorem dX1_turned_158 : decode cX1_turned 158 = .ok (.getfield 121, 3) := dk_180 0 121 (dk_at dksX1_turned_6 16 rfl rfl)
theorem dX1_turned_161 : decode cX1_turned 161 = .ok (.iload_n 1, 1) := dk_27 (dk_at dksX1_turned_6 19 rfl rfl)
theorem dX1_turned_162 : decode cX1_turned 162 = .ok (.iconst 1, 1) := dk_4 (dk_at dksX1_turned_6 20 rfl rfl)
theorem dX1_turned_163 : decode cX1_turned 163 = .ok (.iadd, 1) := dk_96 (dk_at dksX1_turned_6 21 rfl rfl)
theorem dX1_turned_164 : decode cX1_turned 164 = .ok (.aaload, 1) := dk_50 (dk_at dksX1_turned_6 22 rfl rfl)
theorem dX1_turned_165 : decode cX1_turned 165 = .ok (.iload_n 2, 1) := dk_28 (dk_at dksX1_turned_6 23 rfl rfl)
theorem dX1_turned_166 : decode cX1_turned 166 = .ok (.aload_n 0, 1) := dk_42 (dk_at dksX1_turned_7 0 rfl rfl)
theorem dX1_turned_167 : decode cX1_turned 167 = .ok (.getfield 118, 3) := dk_180 0 118 (dk_at dksX1_turned_7 1 rfl rfl)
theorem dX1_turned_170 : decode cX1_turned 170 = .ok (.iload_n 1, 1) := dk_27 (dk_at dksX1_turned_7 4 rfl rfl)
theorem dX1_turned_171 : decode cX1_turned 171 = .ok (.aaload, 1) := dk_50 (dk_at dksX1_turned_7 5 rfl rfl)
theorem dX1_turned_172 : decode cX1_turned 172 = .ok (.iload_n 3, 1) := dk_29 (dk_at dksX1_turned_7 6 rfl rfl)
theorem dX1_turned_173 : decode cX1_turned 173 = .ok (.iaload, 1) := dk_46 (dk_at dksX1_turned_7 7 rfl rfl)
theorem dX1_turned_174 : decode cX1_turned 174 = .ok (.ior, 1) := dk_128 (dk_at dksX1_turned_7 8 rfl rfl)
theorem dX1_turned_175 : decode cX1_turned 175 = .ok (.iaload, 1) := dk_46 (dk_at dksX1_turned_7 9 rfl rfl)
theorem dX1_turned_176 : decode cX1_turned 176 = .ok (.iadd, 1) := dk_96 (dk_at dksX1_turned_7 10 rfl rfl)
theorem dX1_turned_177 : decode cX1_turned 177 = .ok (.invokestatic 9, 3) := dk_184 0 9 (dk_at dksX1_turned_7 11 rfl rfl)
theorem dX1_turned_180 : decode cX1_turned 180 = .ok (.iastore, 1) := dk_79 (dk_at dksX1_turned_7 14 rfl rfl)
theorem dX1_turned_181 : decode cX1_turned 181 = .ok (.iinc 3 1, 3) := dk_132 3 1 (dk_at dksX1_turned_7 15 rfl rfl)
theorem dX1_turned_184 : decode cX1_turned 184 = .ok (.goto (-54), 3) := dk_167 255 202 (dk_at dksX1_turned_7 18 rfl rfl)
theorem dX1_turned_187 : decode cX1_turned 187 = .ok (.iinc 2 1, 3) := dk_132 2 1 (dk_at dksX1_turned_7 21 rfl rfl)
theorem dX1_turned_190 : decode cX1_turned 190 = .ok (.goto (-81), 3) := dk_167 255 175 (dk_at dksX1_turned_8 0 rfl rfl)
theorem dX1_turned_193 : decode cX1_turned 193 = .ok (.iinc 1 (-1), 3) := dk_132 1 255 (dk_at dksX1_turned_8 3 rfl rfl)
theorem dX1_turned_196 : decode cX1_turned 196 = .ok (.goto (-93), 3) := dk_167 255 163 (dk_at dksX1_turned_8 6 rfl rfl)
theorem dX1_turned_199 : decode cX1_turned 199 = .ok (.aload_n 0, 1) := dk_42 (dk_at dksX1_turned_8 9 rfl rfl)
theorem dX1_turned_200 : decode cX1_turned 200 = .ok (.getfield 121, 3) := dk_180 0 121 (dk_at dksX1_turned_8 10 rfl rfl)
theorem dX1_turned_203 : decode cX1_turned 203 = .ok (.iconst 0, 1) := dk_3 (dk_at dksX1_turned_8 13 rfl rfl)
theorem dX1_turned_204 : decode cX1_turned 204 = .ok (.aaload, 1) := dk_50 (dk_at dksX1_turned_8 14 rfl rfl)
theorem dX1_turned_205 : decode cX1_turned 205 = .ok (.iconst 0, 1) := dk_3 (dk_at dksX1_turned_8 15 rfl rfl)
theorem dX1_turned_206 : decode cX1_turned 206 = .ok (.iaload, 1) := dk_46 (dk_at dksX1_turned_8 16 rfl rfl)
theorem dX1_turned_207 : decode cX1_turned 207 = .ok (.ldc_w 429, 3) := dk_19 1 173 (dk_at dksX1_turned_8 17 rfl rfl)
theorem dX1_turned_210 : decode cX1_turned 210 = .ok (.if_icmp .lt 6, 3) := dk_161 0 6 (dk_at dksX1_turned_8 20 rfl rfl)
theorem dX1_turned_213 : decode cX1_turned 213 = .ok (.bipush (-2), 2) := dk_16 254 (dk_at dksX1_turned_9 0 rfl rfl)
theorem dX1_turned_215 : decode cX1_turned 215 = .ok (.ireturn, 1) := dk_172 (dk_at dksX1_turned_9 2 rfl rfl)
theorem dX1_turned_216 : decode cX1_turned 216 = .ok (.iconst 0, 1) := dk_3 (dk_at dksX1_turned_9 3 rfl rfl)
theorem dX1_turned_217 : decode cX1_turned 217 = .ok (.istore_n 1, 1) := dk_60 (dk_at dksX1_turned_9 4 rfl rfl)
theorem dX1_turned_218 : decode cX1_turned 218 = .ok (.aload_n 0, 1) := dk_42 (dk_at dksX1_turned_9 5 rfl rfl)
theorem dX1_turned_219 : decode cX1_turned 219 = .ok (.iconst 0, 1) := dk_3 (dk_at dksX1_turned_9 6 rfl rfl)
theorem dX1_turned_220 : decode cX1_turned 220 = .ok (.putfield 139, 3) := dk_181 0 139 (dk_at dksX1_turned_9 7 rfl rfl)
theorem dX1_turned_223 : decode cX1_turned 223 = .ok (.iconst 0, 1) := dk_3 (dk_at dksX1_turned_9 10 rfl rfl)
theorem dX1_turned_224 : decode cX1_turned 224 = .ok (.istore_n 2, 1) := dk_61 (dk_at dksX1_turned_9 11 rfl rfl)
theorem dX1_turned_225 : decode cX1_turned 225 = .ok (.iload_n 2, 1) := dk_28 (dk_at dksX1_turned_9 12 rfl rfl)
theorem dX1_turned_226 : decode cX1_turned 226 = .ok (.aload_n 0, 1) := dk_42 (dk_at dksX1_turned_9 13 rfl rfl)
theorem dX1_turned_227 : decode cX1_turned 227 = .ok (.getfield 150, 3) := dk_180 0 150 (dk_at dksX1_turned_9 14 rfl rfl)
theorem dX1_turned_230 : decode cX1_turned 230 = .ok (.if_icmp .ge 71, 3) := dk_162 0 71 (dk_at dksX1_turned_9 17 rfl rfl)
theorem dX1_turned_233 : decode cX1_turned 233 = .ok (.iconst 0, 1) := dk_3 (dk_at dksX1_turned_9 20 rfl rfl)
theorem dX1_turned_234 : decode cX1_turned 234 = .ok (.istore_n 3, 1) := dk_62 (dk_at dksX1_turned_9 21 rfl rfl)
theorem dX1_turned_235 : decode cX1_turned 235 = .ok (.aload_n 0, 1) := dk_42 (dk_at dksX1_turned_9 22 rfl rfl)
theorem dX1_turned_236 : decode cX1_turned 236 = .ok (.iload_n 2, 1) := dk_28 (dk_at dksX1_turned_9 23 rfl rfl)
theorem dX1_turned_237 : decode cX1_turned 237 = .ok (.iload_n 3, 1) := dk_29 (dk_at dksX1_turned_10 0 rfl rfl)
theorem dX1_turned_238 : decode cX1_turned 238 = .ok (.invokevirtual 430, 3) := dk_182 1 174 (dk_at dksX1_turned_10 1 rfl rfl)
theorem dX1_turned_241 : decode cX1_turned 241 = .ok (.aload_n 0, 1) := dk_42 (dk_at dksX1_turned_10 4 rfl rfl)
theorem dX1_turned_242 : decode cX1_turned 242 = .ok (.getfield 121, 3) := dk_180 0 121 (dk_at dksX1_turned_10 5 rfl rfl)
theorem dX1_turned_245 : decode cX1_turned 245 = .ok (.iload_n 2, 1) := dk_28 (dk_at dksX1_turned_10 8 rfl rfl)
theorem dX1_turned_246 : decode cX1_turned 246 = .ok (.iconst 1, 1) := dk_4 (dk_at dksX1_turned_10 9 rfl rfl)
theorem dX1_turned_247 : decode cX1_turned 247 = .ok (.iadd, 1) := dk_96 (dk_at dksX1_turned_10 10 rfl rfl)
theorem dX1_turned_248 : decode cX1_turned 248 = .ok (.aaload, 1) := dk_50 (dk_at dksX1_turned_10 11 rfl rfl)
theorem dX1_turned_249 : decode cX1_turned 249 = .ok (.iload_n 1, 1) := dk_27 (dk_at dksX1_turned_10 12 rfl rfl)
theorem dX1_turned_250 : decode cX1_turned 250 = .ok (.aload_n 0, 1) := dk_42 (dk_at dksX1_turned_10 13 rfl rfl)
theorem dX1_turned_251 : decode cX1_turned 251 = .ok (.getfield 118, 3) := dk_180 0 118 (dk_at dksX1_turned_10 14 rfl rfl)
theorem dX1_turned_254 : decode cX1_turned 254 = .ok (.iload_n 2, 1) := dk_28 (dk_at dksX1_turned_10 17 rfl rfl)
theorem dX1_turned_255 : decode cX1_turned 255 = .ok (.aaload, 1) := dk_50 (dk_at dksX1_turned_10 18 rfl rfl)
theorem dX1_turned_256 : decode cX1_turned 256 = .ok (.iload_n 3, 1) := dk_29 (dk_at dksX1_turned_10 19 rfl rfl)
theorem dX1_turned_257 : decode cX1_turned 257 = .ok (.iaload, 1) := dk_46 (dk_at dksX1_turned_10 20 rfl rfl)
theorem dX1_turned_258 : decode cX1_turned 258 = .ok (.ior, 1) := dk_128 (dk_at dksX1_turned_10 21 rfl rfl)
theorem dX1_turned_259 : decode cX1_turned 259 = .ok (.iaload, 1) := dk_46 (dk_at dksX1_turned_10 22 rfl rfl)
theorem dX1_turned_260 : decode cX1_turned 260 = .ok (.iadd, 1) := dk_96 (dk_at dksX1_turned_10 23 rfl rfl)
theorem dX1_turned_261 : decode cX1_turned 261 = .ok (.aload_n 0, 1) := dk_42 (dk_at dksX1_turned_11 0 rfl rfl)
theorem dX1_turned_262 : decode cX1_turned 262 = .ok (.getfield 121, 3) := dk_180 0 121 (dk_at dksX1_turned_11 1 rfl rfl)
theorem dX1_turned_265 : decode cX1_turned 265 = .ok (.iload_n 2, 1) := dk_28 (dk_at dksX1_turned_11 4 rfl rfl)
theorem dX1_turned_266 : decode cX1_turned 266 = .ok (.aaload, 1) := dk_50 (dk_at dksX1_turned_11 5 rfl rfl)
theorem dX1_turned_267 : decode cX1_turned 267 = .ok (.iload_n 1, 1) := dk_27 (dk_at dksX1_turned_11 6 rfl rfl)
theorem dX1_turned_268 : decode cX1_turned 268 = .ok (.iaload, 1) := dk_46 (dk_at dksX1_turned_11 7 rfl rfl)
theorem dX1_turned_269 : decode cX1_turned 269 = .ok (.if_icmp .eq 9, 3) := dk_159 0 9 (dk_at dksX1_turned_11 8 rfl rfl)
theorem dX1_turned_272 : decode cX1_turned 272 = .ok (.iinc 3 1, 3) := dk_132 3 1 (dk_at dksX1_turned_11 11 rfl rfl)
theorem dX1_turned_275 : decode cX1_turned 275 = .ok (.goto (-40), 3) := dk_167 255 216 (dk_at dksX1_turned_11 14 rfl rfl)
theorem dX1_turned_278 : decode cX1_turned 278 = .ok (.aload_n 0, 1) := dk_42 (dk_at dksX1_turned_11 17 rfl rfl)
theorem dX1_turned_279 : decode cX1_turned 279 = .ok (.iload_n 3, 1) := dk_29 (dk_at dksX1_turned_11 18 rfl rfl)
theorem dX1_turned_280 : decode cX1_turned 280 = .ok (.i2l, 1) := dk_133 (dk_at dksX1_turned_11 19 rfl rfl)
theorem dX1_turned_281 : decode cX1_turned 281 = .ok (.invokevirtual 330, 3) := dk_182 1 74 (dk_at dksX1_turned_11 20 rfl rfl)
theorem dX1_turned_284 : decode cX1_turned 284 = .ok (.iload_n 1, 1) := dk_27 (dk_at dksX1_turned_11 23 rfl rfl)
theorem dX1_turned_285 : decode cX1_turned 285 = .ok (.aload_n 0, 1) := dk_42 (dk_at dksX1_turned_12 0 rfl rfl)
theorem dX1_turned_286 : decode cX1_turned 286 = .ok (.getfield 118, 3) := dk_180 0 118 (dk_at dksX1_turned_12 1 rfl rfl)
theorem dX1_turned_289 : decode cX1_turned 289 = .ok (.iload_n 2, 1) := dk_28 (dk_at dksX1_turned_12 4 rfl rfl)
theorem dX1_turned_290 : decode cX1_turned 290 = .ok (.aaload, 1) := dk_50 (dk_at dksX1_turned_12 5 rfl rfl)
theorem dX1_turned_291 : decode cX1_turned 291 = .ok (.iload_n 3, 1) := dk_29 (dk_at dksX1_turned_12 6 rfl rfl)
theorem dX1_turned_292 : decode cX1_turned 292 = .ok (.iaload, 1) := dk_46 (dk_at dksX1_turned_12 7 rfl rfl)
theorem dX1_turned_293 : decode cX1_turned 293 = .ok (.ior, 1) := dk_128 (dk_at dksX1_turned_12 8 rfl rfl)
theorem dX1_turned_294 : decode cX1_turned 294 = .ok (.istore_n 1, 1) := dk_60 (dk_at dksX1_turned_12 9 rfl rfl)
theorem dX1_turned_295 : decode cX1_turned 295 = .ok (.iinc 2 1, 3) := dk_132 2 1 (dk_at dksX1_turned_12 10 rfl rfl)
theorem dX1_turned_298 : decode cX1_turned 298 = .ok (.goto (-73), 3) := dk_167 255 183 (dk_at dksX1_turned_12 13 rfl rfl)
theorem dX1_turned_301 : decode cX1_turned 301 = .ok (.aload_n 0, 1) := dk_42 (dk_at dksX1_turned_12 16 rfl rfl)
theorem dX1_turned_302 : decode cX1_turned 302 = .ok (.getfield 121, 3) := dk_180 0 121 (dk_at dksX1_turned_12 17 rfl rfl)
theorem dX1_turned_305 : decode cX1_turned 305 = .ok (.iconst 0, 1) := dk_3 (dk_at dksX1_turned_12 20 rfl rfl)
theorem dX1_turned_306 : decode cX1_turned 306 = .ok (.aaload, 1) := dk_50 (dk_at dksX1_turned_12 21 rfl rfl)
theorem dX1_turned_307 : decode cX1_turned 307 = .ok (.iconst 0, 1) := dk_3 (dk_at dksX1_turned_12 22 rfl rfl)
theorem dX1_turned_308 : decode cX1_turned 308 = .ok (.iaload, 1) := dk_46 (dk_at dksX1_turned_12 23 rfl rfl)
theorem dX1_turned_309 : decode cX1_turned 309 = .ok (.ireturn, 1) := dk_172 (dk_at dksX1_turned_13 0 rfl rfl)
abbrev cX1_cost : ByteArray := prog_1_method_73_code
def yX1_cost : MethodName := ⟨RX1, "cost", "(II)I"⟩
def dkwX1_cost_0 : List UInt8 := [28, 42, 180, 0, 84, 180, 0, 219, 27, 46, 160, 0, 7, 3, 167, 0, 4, 4, 172]
abbrev dktX1_cost_0 : List UInt8 := dkwX1_cost_0 ++ []
theorem dksX1_cost_0 : cX1_cost.data.toList.drop 0 = dktX1_cost_0 := by decide +kernel
theorem dX1_cost_0 : decode cX1_cost 0 = .ok (.iload_n 2, 1) := dk_28 (dk_at dksX1_cost_0 0 rfl rfl)
theorem dX1_cost_1 : decode cX1_cost 1 = .ok (.aload_n 0, 1) := dk_42 (dk_at dksX1_cost_0 1 rfl rfl)
theorem dX1_cost_2 : decode cX1_cost 2 = .ok (.getfield 84, 3) := dk_180 0 84 (dk_at dksX1_cost_0 2 rfl rfl)
theorem dX1_cost_5 : decode cX1_cost 5 = .ok (.getfield 219, 3) := dk_180 0 219 (dk_at dksX1_cost_0 5 rfl rfl)
theorem dX1_cost_8 : decode cX1_cost 8 = .ok (.iload_n 1, 1) := dk_27 (dk_at dksX1_cost_0 8 rfl rfl)
theorem dX1_cost_9 : decode cX1_cost 9 = .ok (.iaload, 1) := dk_46 (dk_at dksX1_cost_0 9 rfl rfl)
theorem dX1_cost_10 : decode cX1_cost 10 = .ok (.if_icmp .ne 7, 3) := dk_160 0 7 (dk_at dksX1_cost_0 10 rfl rfl)
theorem dX1_cost_13 : decode cX1_cost 13 = .ok (.iconst 0, 1) := dk_3 (dk_at dksX1_cost_0 13 rfl rfl)
theorem dX1_cost_14 : decode cX1_cost 14 = .ok (.goto 4, 3) := dk_167 0 4 (dk_at dksX1_cost_0 14 rfl rfl)
theorem dX1_cost_17 : decode cX1_cost 17 = .ok (.iconst 1, 1) := dk_4 (dk_at dksX1_cost_0 17 rfl rfl)
theorem dX1_cost_18 : decode cX1_cost 18 = .ok (.ireturn, 1) := dk_172 (dk_at dksX1_cost_0 18 rfl rfl)
abbrev cX1_best : ByteArray := prog_1_method_75_code
def yX1_best : MethodName := ⟨RX1, "best", "(I)I"⟩
def dkwX1_best_4 : List UInt8 := [182, 1, 74, 28, 172]
abbrev dktX1_best_4 : List UInt8 := dkwX1_best_4 ++ []
def dkwX1_best_3 : List UInt8 := [167, 0, 9, 21, 4, 61, 21, 5, 62, 132, 4, 1, 167, 255, 206, 42, 3, 181, 0, 139, 42, 29, 133]
abbrev dktX1_best_3 : List UInt8 := dkwX1_best_3 ++ dktX1_best_4
def dkwX1_best_2 : List UInt8 := [42, 180, 0, 84, 27, 182, 1, 172, 54, 5, 21, 5, 184, 1, 59, 29, 184, 1, 59, 163, 0, 6]
abbrev dktX1_best_2 : List UInt8 := dkwX1_best_2 ++ dktX1_best_3
def dkwX1_best_1 : List UInt8 := [27, 182, 1, 172, 62, 4, 54, 4, 21, 4, 16, 8, 162, 0, 49, 42, 180, 0, 69, 21, 4, 182, 1, 167]
abbrev dktX1_best_1 : List UInt8 := dkwX1_best_1 ++ dktX1_best_2
def dkwX1_best_0 : List UInt8 := [42, 27, 182, 0, 250, 154, 0, 5, 2, 172, 3, 61, 42, 180, 0, 69, 3, 182, 1, 167, 42, 180, 0, 84]
abbrev dktX1_best_0 : List UInt8 := dkwX1_best_0 ++ dktX1_best_1
theorem dksX1_best_0 : cX1_best.data.toList.drop 0 = dktX1_best_0 := by decide +kernel
theorem dksX1_best_1 : cX1_best.data.toList.drop 24 = dktX1_best_1 := dk_seg dksX1_best_0 24 rfl rfl
theorem dksX1_best_2 : cX1_best.data.toList.drop 48 = dktX1_best_2 := dk_seg dksX1_best_1 24 rfl rfl
theorem dksX1_best_3 : cX1_best.data.toList.drop 70 = dktX1_best_3 := dk_seg dksX1_best_2 22 rfl rfl
theorem dksX1_best_4 : cX1_best.data.toList.drop 93 = dktX1_best_4 := dk_seg dksX1_best_3 23 rfl rfl
theorem dX1_best_0 : decode cX1_best 0 = .ok (.aload_n 0, 1) := dk_42 (dk_at dksX1_best_0 0 rfl rfl)
theorem dX1_best_1 : decode cX1_best 1 = .ok (.iload_n 1, 1) := dk_27 (dk_at dksX1_best_0 1 rfl rfl)
theorem dX1_best_2 : decode cX1_best 2 = .ok (.invokevirtual 250, 3) := dk_182 0 250 (dk_at dksX1_best_0 2 rfl rfl)
theorem dX1_best_5 : decode cX1_best 5 = .ok (.ifCond .ne 5, 3) := dk_154 0 5 (dk_at dksX1_best_0 5 rfl rfl)
theorem dX1_best_8 : decode cX1_best 8 = .ok (.iconst (-1), 1) := dk_2 (dk_at dksX1_best_0 8 rfl rfl)
theorem dX1_best_9 : decode cX1_best 9 = .ok (.ireturn, 1) := dk_172 (dk_at dksX1_best_0 9 rfl rfl)
theorem dX1_best_10 : decode cX1_best 10 = .ok (.iconst 0, 1) := dk_3 (dk_at dksX1_best_0 10 rfl rfl)
theorem dX1_best_11 : decode cX1_best 11 = .ok (.istore_n 2, 1) := dk_61 (dk_at dksX1_best_0 11 rfl rfl)
theorem dX1_best_12 : decode cX1_best 12 = .ok (.aload_n 0, 1) := dk_42 (dk_at dksX1_best_0 12 rfl rfl)
theorem dX1_best_13 : decode cX1_best 13 = .ok (.getfield 69, 3) := dk_180 0 69 (dk_at dksX1_best_0 13 rfl rfl)
theorem dX1_best_16 : decode cX1_best 16 = .ok (.iconst 0, 1) := dk_3 (dk_at dksX1_best_0 16 rfl rfl)
theorem dX1_best_17 : decode cX1_best 17 = .ok (.invokevirtual 423, 3) := dk_182 1 167 (dk_at dksX1_best_0 17 rfl rfl)
theorem dX1_best_20 : decode cX1_best 20 = .ok (.aload_n 0, 1) := dk_42 (dk_at dksX1_best_0 20 rfl rfl)
theorem dX1_best_21 : decode cX1_best 21 = .ok (.getfield 84, 3) := dk_180 0 84 (dk_at dksX1_best_0 21 rfl rfl)
theorem dX1_best_24 : decode cX1_best 24 = .ok (.iload_n 1, 1) := dk_27 (dk_at dksX1_best_1 0 rfl rfl)
theorem dX1_best_25 : decode cX1_best 25 = .ok (.invokevirtual 428, 3) := dk_182 1 172 (dk_at dksX1_best_1 1 rfl rfl)
theorem dX1_best_28 : decode cX1_best 28 = .ok (.istore_n 3, 1) := dk_62 (dk_at dksX1_best_1 4 rfl rfl)
theorem dX1_best_29 : decode cX1_best 29 = .ok (.iconst 1, 1) := dk_4 (dk_at dksX1_best_1 5 rfl rfl)
theorem dX1_best_30 : decode cX1_best 30 = .ok (.istore 4, 2) := dk_54 4 (dk_at dksX1_best_1 6 rfl rfl)
theorem dX1_best_32 : decode cX1_best 32 = .ok (.iload 4, 2) := dk_21 4 (dk_at dksX1_best_1 8 rfl rfl)
theorem dX1_best_34 : decode cX1_best 34 = .ok (.bipush 8, 2) := dk_16 8 (dk_at dksX1_best_1 10 rfl rfl)
theorem dX1_best_36 : decode cX1_best 36 = .ok (.if_icmp .ge 49, 3) := dk_162 0 49 (dk_at dksX1_best_1 12 rfl rfl)
theorem dX1_best_39 : decode cX1_best 39 = .ok (.aload_n 0, 1) := dk_42 (dk_at dksX1_best_1 15 rfl rfl)
theorem dX1_best_40 : decode cX1_best 40 = .ok (.getfield 69, 3) := dk_180 0 69 (dk_at dksX1_best_1 16 rfl rfl)
theorem dX1_best_43 : decode cX1_best 43 = .ok (.iload 4, 2) := dk_21 4 (dk_at dksX1_best_1 19 rfl rfl)
theorem dX1_best_45 : decode cX1_best 45 = .ok (.invokevirtual 423, 3) := dk_182 1 167 (dk_at dksX1_best_1 21 rfl rfl)
theorem dX1_best_48 : decode cX1_best 48 = .ok (.aload_n 0, 1) := dk_42 (dk_at dksX1_best_2 0 rfl rfl)
theorem dX1_best_49 : decode cX1_best 49 = .ok (.getfield 84, 3) := dk_180 0 84 (dk_at dksX1_best_2 1 rfl rfl)
theorem dX1_best_52 : decode cX1_best 52 = .ok (.iload_n 1, 1) := dk_27 (dk_at dksX1_best_2 4 rfl rfl)
theorem dX1_best_53 : decode cX1_best 53 = .ok (.invokevirtual 428, 3) := dk_182 1 172 (dk_at dksX1_best_2 5 rfl rfl)
theorem dX1_best_56 : decode cX1_best 56 = .ok (.istore 5, 2) := dk_54 5 (dk_at dksX1_best_2 8 rfl rfl)
theorem dX1_best_58 : decode cX1_best 58 = .ok (.iload 5, 2) := dk_21 5 (dk_at dksX1_best_2 10 rfl rfl)
theorem dX1_best_60 : decode cX1_best 60 = .ok (.invokestatic 315, 3) := dk_184 1 59 (dk_at dksX1_best_2 12 rfl rfl)
theorem dX1_best_63 : decode cX1_best 63 = .ok (.iload_n 3, 1) := dk_29 (dk_at dksX1_best_2 15 rfl rfl)
theorem dX1_best_64 : decode cX1_best 64 = .ok (.invokestatic 315, 3) := dk_184 1 59 (dk_at dksX1_best_2 16 rfl rfl)
theorem dX1_best_67 : decode cX1_best 67 = .ok (.if_icmp .gt 6, 3) := dk_163 0 6 (dk_at dksX1_best_2 19 rfl rfl)
theorem dX1_best_70 : decode cX1_best 70 = .ok (.goto 9, 3) := dk_167 0 9 (dk_at dksX1_best_3 0 rfl rfl)
theorem dX1_best_73 : decode cX1_best 73 = .ok (.iload 4, 2) := dk_21 4 (dk_at dksX1_best_3 3 rfl rfl)
theorem dX1_best_75 : decode cX1_best 75 = .ok (.istore_n 2, 1) := dk_61 (dk_at dksX1_best_3 5 rfl rfl)
theorem dX1_best_76 : decode cX1_best 76 = .ok (.iload 5, 2) := dk_21 5 (dk_at dksX1_best_3 6 rfl rfl)
theorem dX1_best_78 : decode cX1_best 78 = .ok (.istore_n 3, 1) := dk_62 (dk_at dksX1_best_3 8 rfl rfl)
theorem dX1_best_79 : decode cX1_best 79 = .ok (.iinc 4 1, 3) := dk_132 4 1 (dk_at dksX1_best_3 9 rfl rfl)
theorem dX1_best_82 : decode cX1_best 82 = .ok (.goto (-50), 3) := dk_167 255 206 (dk_at dksX1_best_3 12 rfl rfl)
theorem dX1_best_85 : decode cX1_best 85 = .ok (.aload_n 0, 1) := dk_42 (dk_at dksX1_best_3 15 rfl rfl)
theorem dX1_best_86 : decode cX1_best 86 = .ok (.iconst 0, 1) := dk_3 (dk_at dksX1_best_3 16 rfl rfl)
theorem dX1_best_87 : decode cX1_best 87 = .ok (.putfield 139, 3) := dk_181 0 139 (dk_at dksX1_best_3 17 rfl rfl)
theorem dX1_best_90 : decode cX1_best 90 = .ok (.aload_n 0, 1) := dk_42 (dk_at dksX1_best_3 20 rfl rfl)
theorem dX1_best_91 : decode cX1_best 91 = .ok (.iload_n 3, 1) := dk_29 (dk_at dksX1_best_3 21 rfl rfl)
theorem dX1_best_92 : decode cX1_best 92 = .ok (.i2l, 1) := dk_133 (dk_at dksX1_best_3 22 rfl rfl)
theorem dX1_best_93 : decode cX1_best 93 = .ok (.invokevirtual 330, 3) := dk_182 1 74 (dk_at dksX1_best_4 0 rfl rfl)
theorem dX1_best_96 : decode cX1_best 96 = .ok (.iload_n 2, 1) := dk_28 (dk_at dksX1_best_4 3 rfl rfl)
theorem dX1_best_97 : decode cX1_best 97 = .ok (.ireturn, 1) := dk_172 (dk_at dksX1_best_4 4 rfl rfl)
abbrev cX1_bears : ByteArray := prog_1_method_76_code
def yX1_bears : MethodName := ⟨RX1, "bears", "(II)I"⟩
def dkwX1_bears_3 : List UInt8 := [167, 255, 204, 16, 254, 172]
abbrev dktX1_bears_3 : List UInt8 := dkwX1_bears_3 ++ []
def dkwX1_bears_2 : List UInt8 := [3, 181, 0, 139, 42, 42, 42, 180, 0, 84, 27, 29, 182, 1, 181, 133, 182, 1, 74, 29, 172, 132, 3, 255]
abbrev dktX1_bears_2 : List UInt8 := dkwX1_bears_2 ++ dktX1_bears_3
def dkwX1_bears_1 : List UInt8 := [42, 180, 0, 76, 29, 182, 1, 177, 42, 180, 0, 84, 27, 28, 182, 1, 180, 154, 0, 6, 167, 0, 25, 42]
abbrev dktX1_bears_1 : List UInt8 := dkwX1_bears_1 ++ dktX1_bears_2
def dkwX1_bears_0 : List UInt8 := [42, 27, 182, 0, 250, 153, 0, 11, 42, 28, 182, 1, 102, 154, 0, 5, 2, 172, 7, 62, 29, 155, 0, 54]
abbrev dktX1_bears_0 : List UInt8 := dkwX1_bears_0 ++ dktX1_bears_1
theorem dksX1_bears_0 : cX1_bears.data.toList.drop 0 = dktX1_bears_0 := by decide +kernel
theorem dksX1_bears_1 : cX1_bears.data.toList.drop 24 = dktX1_bears_1 := dk_seg dksX1_bears_0 24 rfl rfl
theorem dksX1_bears_2 : cX1_bears.data.toList.drop 48 = dktX1_bears_2 := dk_seg dksX1_bears_1 24 rfl rfl
theorem dksX1_bears_3 : cX1_bears.data.toList.drop 72 = dktX1_bears_3 := dk_seg dksX1_bears_2 24 rfl rfl
theorem dX1_bears_0 : decode cX1_bears 0 = .ok (.aload_n 0, 1) := dk_42 (dk_at dksX1_bears_0 0 rfl rfl)
theorem dX1_bears_1 : decode cX1_bears 1 = .ok (.iload_n 1, 1) := dk_27 (dk_at dksX1_bears_0 1 rfl rfl)
theorem dX1_bears_2 : decode cX1_bears 2 = .ok (.invokevirtual 250, 3) := dk_182 0 250 (dk_at dksX1_bears_0 2 rfl rfl)
theorem dX1_bears_5 : decode cX1_bears 5 = .ok (.ifCond .eq 11, 3) := dk_153 0 11 (dk_at dksX1_bears_0 5 rfl rfl)
theorem dX1_bears_8 : decode cX1_bears 8 = .ok (.aload_n 0, 1) := dk_42 (dk_at dksX1_bears_0 8 rfl rfl)
theorem dX1_bears_9 : decode cX1_bears 9 = .ok (.iload_n 2, 1) := dk_28 (dk_at dksX1_bears_0 9 rfl rfl)
theorem dX1_bears_10 : decode cX1_bears 10 = .ok (.invokevirtual 358, 3) := dk_182 1 102 (dk_at dksX1_bears_0 10 rfl rfl)
theorem dX1_bears_13 : decode cX1_bears 13 = .ok (.ifCond .ne 5, 3) := dk_154 0 5 (dk_at dksX1_bears_0 13 rfl rfl)
theorem dX1_bears_16 : decode cX1_bears 16 = .ok (.iconst (-1), 1) := dk_2 (dk_at dksX1_bears_0 16 rfl rfl)
theorem dX1_bears_17 : decode cX1_bears 17 = .ok (.ireturn, 1) := dk_172 (dk_at dksX1_bears_0 17 rfl rfl)
theorem dX1_bears_18 : decode cX1_bears 18 = .ok (.iconst 4, 1) := dk_7 (dk_at dksX1_bears_0 18 rfl rfl)
theorem dX1_bears_19 : decode cX1_bears 19 = .ok (.istore_n 3, 1) := dk_62 (dk_at dksX1_bears_0 19 rfl rfl)
theorem dX1_bears_20 : decode cX1_bears 20 = .ok (.iload_n 3, 1) := dk_29 (dk_at dksX1_bears_0 20 rfl rfl)
theorem dX1_bears_21 : decode cX1_bears 21 = .ok (.ifCond .lt 54, 3) := dk_155 0 54 (dk_at dksX1_bears_0 21 rfl rfl)
theorem dX1_bears_24 : decode cX1_bears 24 = .ok (.aload_n 0, 1) := dk_42 (dk_at dksX1_bears_1 0 rfl rfl)
theorem dX1_bears_25 : decode cX1_bears 25 = .ok (.getfield 76, 3) := dk_180 0 76 (dk_at dksX1_bears_1 1 rfl rfl)
theorem dX1_bears_28 : decode cX1_bears 28 = .ok (.iload_n 3, 1) := dk_29 (dk_at dksX1_bears_1 4 rfl rfl)
theorem dX1_bears_29 : decode cX1_bears 29 = .ok (.invokevirtual 433, 3) := dk_182 1 177 (dk_at dksX1_bears_1 5 rfl rfl)
theorem dX1_bears_32 : decode cX1_bears 32 = .ok (.aload_n 0, 1) := dk_42 (dk_at dksX1_bears_1 8 rfl rfl)
theorem dX1_bears_33 : decode cX1_bears 33 = .ok (.getfield 84, 3) := dk_180 0 84 (dk_at dksX1_bears_1 9 rfl rfl)
theorem dX1_bears_36 : decode cX1_bears 36 = .ok (.iload_n 1, 1) := dk_27 (dk_at dksX1_bears_1 12 rfl rfl)
theorem dX1_bears_37 : decode cX1_bears 37 = .ok (.iload_n 2, 1) := dk_28 (dk_at dksX1_bears_1 13 rfl rfl)
theorem dX1_bears_38 : decode cX1_bears 38 = .ok (.invokevirtual 436, 3) := dk_182 1 180 (dk_at dksX1_bears_1 14 rfl rfl)
theorem dX1_bears_41 : decode cX1_bears 41 = .ok (.ifCond .ne 6, 3) := dk_154 0 6 (dk_at dksX1_bears_1 17 rfl rfl)
theorem dX1_bears_44 : decode cX1_bears 44 = .ok (.goto 25, 3) := dk_167 0 25 (dk_at dksX1_bears_1 20 rfl rfl)
theorem dX1_bears_47 : decode cX1_bears 47 = .ok (.aload_n 0, 1) := dk_42 (dk_at dksX1_bears_1 23 rfl rfl)
theorem dX1_bears_48 : decode cX1_bears 48 = .ok (.iconst 0, 1) := dk_3 (dk_at dksX1_bears_2 0 rfl rfl)
theorem dX1_bears_49 : decode cX1_bears 49 = .ok (.putfield 139, 3) := dk_181 0 139 (dk_at dksX1_bears_2 1 rfl rfl)
theorem dX1_bears_52 : decode cX1_bears 52 = .ok (.aload_n 0, 1) := dk_42 (dk_at dksX1_bears_2 4 rfl rfl)
theorem dX1_bears_53 : decode cX1_bears 53 = .ok (.aload_n 0, 1) := dk_42 (dk_at dksX1_bears_2 5 rfl rfl)
theorem dX1_bears_54 : decode cX1_bears 54 = .ok (.aload_n 0, 1) := dk_42 (dk_at dksX1_bears_2 6 rfl rfl)
theorem dX1_bears_55 : decode cX1_bears 55 = .ok (.getfield 84, 3) := dk_180 0 84 (dk_at dksX1_bears_2 7 rfl rfl)
theorem dX1_bears_58 : decode cX1_bears 58 = .ok (.iload_n 1, 1) := dk_27 (dk_at dksX1_bears_2 10 rfl rfl)
theorem dX1_bears_59 : decode cX1_bears 59 = .ok (.iload_n 3, 1) := dk_29 (dk_at dksX1_bears_2 11 rfl rfl)
theorem dX1_bears_60 : decode cX1_bears 60 = .ok (.invokevirtual 437, 3) := dk_182 1 181 (dk_at dksX1_bears_2 12 rfl rfl)
theorem dX1_bears_63 : decode cX1_bears 63 = .ok (.i2l, 1) := dk_133 (dk_at dksX1_bears_2 15 rfl rfl)
theorem dX1_bears_64 : decode cX1_bears 64 = .ok (.invokevirtual 330, 3) := dk_182 1 74 (dk_at dksX1_bears_2 16 rfl rfl)
theorem dX1_bears_67 : decode cX1_bears 67 = .ok (.iload_n 3, 1) := dk_29 (dk_at dksX1_bears_2 19 rfl rfl)
theorem dX1_bears_68 : decode cX1_bears 68 = .ok (.ireturn, 1) := dk_172 (dk_at dksX1_bears_2 20 rfl rfl)
theorem dX1_bears_69 : decode cX1_bears 69 = .ok (.iinc 3 (-1), 3) := dk_132 3 255 (dk_at dksX1_bears_2 21 rfl rfl)
theorem dX1_bears_72 : decode cX1_bears 72 = .ok (.goto (-52), 3) := dk_167 255 204 (dk_at dksX1_bears_3 0 rfl rfl)
theorem dX1_bears_75 : decode cX1_bears 75 = .ok (.bipush (-2), 2) := dk_16 254 (dk_at dksX1_bears_3 3 rfl rfl)
theorem dX1_bears_77 : decode cX1_bears 77 = .ok (.ireturn, 1) := dk_172 (dk_at dksX1_bears_3 5 rfl rfl)
abbrev cX1_back : ByteArray := prog_1_method_79_code
def yX1_back : MethodName := ⟨RX1, "back", "(II)I"⟩
def dkwX1_back_3 : List UInt8 := [161, 0, 6, 16, 254, 172, 42, 27, 28, 182, 1, 194, 42, 180, 0, 124, 27, 46, 172]
abbrev dktX1_back_3 : List UInt8 := dkwX1_back_3 ++ []
def dkwX1_back_2 : List UInt8 := [180, 0, 84, 182, 1, 149, 20, 0, 156, 131, 127, 182, 1, 190, 42, 180, 0, 124, 27, 46, 19, 1, 173]
abbrev dktX1_back_2 : List UInt8 := dkwX1_back_2 ++ dktX1_back_3
def dkwX1_back_1 : List UInt8 := [154, 0, 11, 42, 28, 182, 0, 209, 153, 0, 6, 16, 254, 172, 42, 27, 28, 42, 182, 1, 145, 42, 42]
abbrev dktX1_back_1 : List UInt8 := dkwX1_back_1 ++ dktX1_back_2
def dkwX1_back_0 : List UInt8 := [42, 27, 182, 1, 102, 153, 0, 11, 42, 28, 182, 1, 102, 154, 0, 5, 2, 172, 42, 27, 182, 0, 209]
abbrev dktX1_back_0 : List UInt8 := dkwX1_back_0 ++ dktX1_back_1
theorem dksX1_back_0 : cX1_back.data.toList.drop 0 = dktX1_back_0 := by decide +kernel
theorem dksX1_back_1 : cX1_back.data.toList.drop 23 = dktX1_back_1 := dk_seg dksX1_back_0 23 rfl rfl
theorem dksX1_back_2 : cX1_back.data.toList.drop 46 = dktX1_back_2 := dk_seg dksX1_back_1 23 rfl rfl
theorem dksX1_back_3 : cX1_back.data.toList.drop 69 = dktX1_back_3 := dk_seg dksX1_back_2 23 rfl rfl
theorem dX1_back_0 : decode cX1_back 0 = .ok (.aload_n 0, 1) := dk_42 (dk_at dksX1_back_0 0 rfl rfl)
theorem dX1_back_1 : decode cX1_back 1 = .ok (.iload_n 1, 1) := dk_27 (dk_at dksX1_back_0 1 rfl rfl)
theorem dX1_back_2 : decode cX1_back 2 = .ok (.invokevirtual 358, 3) := dk_182 1 102 (dk_at dksX1_back_0 2 rfl rfl)
theorem dX1_back_5 : decode cX1_back 5 = .ok (.ifCond .eq 11, 3) := dk_153 0 11 (dk_at dksX1_back_0 5 rfl rfl)
theorem dX1_back_8 : decode cX1_back 8 = .ok (.aload_n 0, 1) := dk_42 (dk_at dksX1_back_0 8 rfl rfl)
theorem dX1_back_9 : decode cX1_back 9 = .ok (.iload_n 2, 1) := dk_28 (dk_at dksX1_back_0 9 rfl rfl)
theorem dX1_back_10 : decode cX1_back 10 = .ok (.invokevirtual 358, 3) := dk_182 1 102 (dk_at dksX1_back_0 10 rfl rfl)
theorem dX1_back_13 : decode cX1_back 13 = .ok (.ifCond .ne 5, 3) := dk_154 0 5 (dk_at dksX1_back_0 13 rfl rfl)
theorem dX1_back_16 : decode cX1_back 16 = .ok (.iconst (-1), 1) := dk_2 (dk_at dksX1_back_0 16 rfl rfl)
theorem dX1_back_17 : decode cX1_back 17 = .ok (.ireturn, 1) := dk_172 (dk_at dksX1_back_0 17 rfl rfl)
theorem dX1_back_18 : decode cX1_back 18 = .ok (.aload_n 0, 1) := dk_42 (dk_at dksX1_back_0 18 rfl rfl)
theorem dX1_back_19 : decode cX1_back 19 = .ok (.iload_n 1, 1) := dk_27 (dk_at dksX1_back_0 19 rfl rfl)
theorem dX1_back_20 : decode cX1_back 20 = .ok (.invokevirtual 209, 3) := dk_182 0 209 (dk_at dksX1_back_0 20 rfl rfl)
theorem dX1_back_23 : decode cX1_back 23 = .ok (.ifCond .ne 11, 3) := dk_154 0 11 (dk_at dksX1_back_1 0 rfl rfl)
theorem dX1_back_26 : decode cX1_back 26 = .ok (.aload_n 0, 1) := dk_42 (dk_at dksX1_back_1 3 rfl rfl)
theorem dX1_back_27 : decode cX1_back 27 = .ok (.iload_n 2, 1) := dk_28 (dk_at dksX1_back_1 4 rfl rfl)
theorem dX1_back_28 : decode cX1_back 28 = .ok (.invokevirtual 209, 3) := dk_182 0 209 (dk_at dksX1_back_1 5 rfl rfl)
theorem dX1_back_31 : decode cX1_back 31 = .ok (.ifCond .eq 6, 3) := dk_153 0 6 (dk_at dksX1_back_1 8 rfl rfl)
theorem dX1_back_34 : decode cX1_back 34 = .ok (.bipush (-2), 2) := dk_16 254 (dk_at dksX1_back_1 11 rfl rfl)
theorem dX1_back_36 : decode cX1_back 36 = .ok (.ireturn, 1) := dk_172 (dk_at dksX1_back_1 13 rfl rfl)
theorem dX1_back_37 : decode cX1_back 37 = .ok (.aload_n 0, 1) := dk_42 (dk_at dksX1_back_1 14 rfl rfl)
theorem dX1_back_38 : decode cX1_back 38 = .ok (.iload_n 1, 1) := dk_27 (dk_at dksX1_back_1 15 rfl rfl)
theorem dX1_back_39 : decode cX1_back 39 = .ok (.iload_n 2, 1) := dk_28 (dk_at dksX1_back_1 16 rfl rfl)
theorem dX1_back_40 : decode cX1_back 40 = .ok (.aload_n 0, 1) := dk_42 (dk_at dksX1_back_1 17 rfl rfl)
theorem dX1_back_41 : decode cX1_back 41 = .ok (.invokevirtual 401, 3) := dk_182 1 145 (dk_at dksX1_back_1 18 rfl rfl)
theorem dX1_back_44 : decode cX1_back 44 = .ok (.aload_n 0, 1) := dk_42 (dk_at dksX1_back_1 21 rfl rfl)
theorem dX1_back_45 : decode cX1_back 45 = .ok (.aload_n 0, 1) := dk_42 (dk_at dksX1_back_1 22 rfl rfl)
theorem dX1_back_46 : decode cX1_back 46 = .ok (.getfield 84, 3) := dk_180 0 84 (dk_at dksX1_back_2 0 rfl rfl)
theorem dX1_back_49 : decode cX1_back 49 = .ok (.invokevirtual 405, 3) := dk_182 1 149 (dk_at dksX1_back_2 3 rfl rfl)
theorem dX1_back_52 : decode cX1_back 52 = .ok (.ldc2_w 156, 3) := dk_20 0 156 (dk_at dksX1_back_2 6 rfl rfl)
theorem dX1_back_55 : decode cX1_back 55 = .ok (.lxor, 1) := dk_131 (dk_at dksX1_back_2 9 rfl rfl)
theorem dX1_back_56 : decode cX1_back 56 = .ok (.land, 1) := dk_127 (dk_at dksX1_back_2 10 rfl rfl)
theorem dX1_back_57 : decode cX1_back 57 = .ok (.invokevirtual 446, 3) := dk_182 1 190 (dk_at dksX1_back_2 11 rfl rfl)
theorem dX1_back_60 : decode cX1_back 60 = .ok (.aload_n 0, 1) := dk_42 (dk_at dksX1_back_2 14 rfl rfl)
theorem dX1_back_61 : decode cX1_back 61 = .ok (.getfield 124, 3) := dk_180 0 124 (dk_at dksX1_back_2 15 rfl rfl)
theorem dX1_back_64 : decode cX1_back 64 = .ok (.iload_n 1, 1) := dk_27 (dk_at dksX1_back_2 18 rfl rfl)
theorem dX1_back_65 : decode cX1_back 65 = .ok (.iaload, 1) := dk_46 (dk_at dksX1_back_2 19 rfl rfl)
theorem dX1_back_66 : decode cX1_back 66 = .ok (.ldc_w 429, 3) := dk_19 1 173 (dk_at dksX1_back_2 20 rfl rfl)
theorem dX1_back_69 : decode cX1_back 69 = .ok (.if_icmp .lt 6, 3) := dk_161 0 6 (dk_at dksX1_back_3 0 rfl rfl)
theorem dX1_back_72 : decode cX1_back 72 = .ok (.bipush (-2), 2) := dk_16 254 (dk_at dksX1_back_3 3 rfl rfl)
theorem dX1_back_74 : decode cX1_back 74 = .ok (.ireturn, 1) := dk_172 (dk_at dksX1_back_3 5 rfl rfl)
theorem dX1_back_75 : decode cX1_back 75 = .ok (.aload_n 0, 1) := dk_42 (dk_at dksX1_back_3 6 rfl rfl)
theorem dX1_back_76 : decode cX1_back 76 = .ok (.iload_n 1, 1) := dk_27 (dk_at dksX1_back_3 7 rfl rfl)
theorem dX1_back_77 : decode cX1_back 77 = .ok (.iload_n 2, 1) := dk_28 (dk_at dksX1_back_3 8 rfl rfl)
theorem dX1_back_78 : decode cX1_back 78 = .ok (.invokevirtual 450, 3) := dk_182 1 194 (dk_at dksX1_back_3 9 rfl rfl)
theorem dX1_back_81 : decode cX1_back 81 = .ok (.aload_n 0, 1) := dk_42 (dk_at dksX1_back_3 12 rfl rfl)
theorem dX1_back_82 : decode cX1_back 82 = .ok (.getfield 124, 3) := dk_180 0 124 (dk_at dksX1_back_3 13 rfl rfl)
theorem dX1_back_85 : decode cX1_back 85 = .ok (.iload_n 1, 1) := dk_27 (dk_at dksX1_back_3 16 rfl rfl)
theorem dX1_back_86 : decode cX1_back 86 = .ok (.iaload, 1) := dk_46 (dk_at dksX1_back_3 17 rfl rfl)
theorem dX1_back_87 : decode cX1_back 87 = .ok (.ireturn, 1) := dk_172 (dk_at dksX1_back_3 18 rfl rfl)
abbrev cX1_lay : ByteArray := prog_1_method_77_code
def yX1_lay : MethodName := ⟨RX1, "lay", "(IIJ)V"⟩
def dkwX1_lay_5 : List UInt8 := [184, 0, 9, 79, 132, 7, 1, 167, 255, 202, 132, 6, 1, 167, 255, 157, 132, 5, 1, 167, 255, 139, 177]
abbrev dktX1_lay_5 : List UInt8 := dkwX1_lay_5 ++ []
def dkwX1_lay_4 : List UInt8 := [21, 6, 42, 180, 0, 124, 21, 6, 46, 42, 180, 0, 124, 42, 21, 6, 21, 7, 182, 1, 91, 46, 4, 96]
abbrev dktX1_lay_4 : List UInt8 := dkwX1_lay_4 ++ dktX1_lay_5
def dkwX1_lay_3 : List UInt8 := [21, 7, 16, 8, 162, 0, 53, 42, 21, 6, 21, 7, 182, 1, 91, 2, 159, 0, 35, 42, 180, 0, 124]
abbrev dktX1_lay_3 : List UInt8 := dkwX1_lay_3 ++ dktX1_lay_4
def dkwX1_lay_2 : List UInt8 := [154, 0, 81, 21, 6, 27, 159, 0, 15, 33, 21, 6, 184, 0, 26, 154, 0, 6, 167, 0, 63, 3, 54, 7]
abbrev dktX1_lay_2 : List UInt8 := dkwX1_lay_2 ++ dktX1_lay_3
def dkwX1_lay_1 : List UInt8 := [182, 0, 142, 162, 0, 114, 3, 54, 6, 21, 6, 42, 182, 0, 142, 162, 0, 96, 42, 21, 6, 182, 0, 209]
abbrev dktX1_lay_1 : List UInt8 := dkwX1_lay_1 ++ dktX1_lay_2
def dkwX1_lay_0 : List UInt8 := [42, 180, 0, 124, 19, 1, 173, 184, 1, 184, 42, 180, 0, 124, 28, 3, 79, 3, 54, 5, 21, 5, 42]
abbrev dktX1_lay_0 : List UInt8 := dkwX1_lay_0 ++ dktX1_lay_1
theorem dksX1_lay_0 : cX1_lay.data.toList.drop 0 = dktX1_lay_0 := by decide +kernel
theorem dksX1_lay_1 : cX1_lay.data.toList.drop 23 = dktX1_lay_1 := dk_seg dksX1_lay_0 23 rfl rfl
theorem dksX1_lay_2 : cX1_lay.data.toList.drop 47 = dktX1_lay_2 := dk_seg dksX1_lay_1 24 rfl rfl
theorem dksX1_lay_3 : cX1_lay.data.toList.drop 71 = dktX1_lay_3 := dk_seg dksX1_lay_2 24 rfl rfl
theorem dksX1_lay_4 : cX1_lay.data.toList.drop 94 = dktX1_lay_4 := dk_seg dksX1_lay_3 23 rfl rfl
theorem dksX1_lay_5 : cX1_lay.data.toList.drop 118 = dktX1_lay_5 := dk_seg dksX1_lay_4 24 rfl rfl
theorem dX1_lay_0 : decode cX1_lay 0 = .ok (.aload_n 0, 1) := dk_42 (dk_at dksX1_lay_0 0 rfl rfl)
theorem dX1_lay_1 : decode cX1_lay 1 = .ok (.getfield 124, 3) := dk_180 0 124 (dk_at dksX1_lay_0 1 rfl rfl)
theorem dX1_lay_4 : decode cX1_lay 4 = .ok (.ldc_w 429, 3) := dk_19 1 173 (dk_at dksX1_lay_0 4 rfl rfl)
theorem dX1_lay_7 : decode cX1_lay 7 = .ok (.invokestatic 440, 3) := dk_184 1 184 (dk_at dksX1_lay_0 7 rfl rfl)
theorem dX1_lay_10 : decode cX1_lay 10 = .ok (.aload_n 0, 1) := dk_42 (dk_at dksX1_lay_0 10 rfl rfl)
theorem dX1_lay_11 : decode cX1_lay 11 = .ok (.getfield 124, 3) := dk_180 0 124 (dk_at dksX1_lay_0 11 rfl rfl)
theorem dX1_lay_14 : decode cX1_lay 14 = .ok (.iload_n 2, 1) := dk_28 (dk_at dksX1_lay_0 14 rfl rfl)
theorem dX1_lay_15 : decode cX1_lay 15 = .ok (.iconst 0, 1) := dk_3 (dk_at dksX1_lay_0 15 rfl rfl)
theorem dX1_lay_16 : decode cX1_lay 16 = .ok (.iastore, 1) := dk_79 (dk_at dksX1_lay_0 16 rfl rfl)
theorem dX1_lay_17 : decode cX1_lay 17 = .ok (.iconst 0, 1) := dk_3 (dk_at dksX1_lay_0 17 rfl rfl)
theorem dX1_lay_18 : decode cX1_lay 18 = .ok (.istore 5, 2) := dk_54 5 (dk_at dksX1_lay_0 18 rfl rfl)
theorem dX1_lay_20 : decode cX1_lay 20 = .ok (.iload 5, 2) := dk_21 5 (dk_at dksX1_lay_0 20 rfl rfl)
theorem dX1_lay_22 : decode cX1_lay 22 = .ok (.aload_n 0, 1) := dk_42 (dk_at dksX1_lay_0 22 rfl rfl)
theorem dX1_lay_23 : decode cX1_lay 23 = .ok (.invokevirtual 142, 3) := dk_182 0 142 (dk_at dksX1_lay_1 0 rfl rfl)
theorem dX1_lay_26 : decode cX1_lay 26 = .ok (.if_icmp .ge 114, 3) := dk_162 0 114 (dk_at dksX1_lay_1 3 rfl rfl)
theorem dX1_lay_29 : decode cX1_lay 29 = .ok (.iconst 0, 1) := dk_3 (dk_at dksX1_lay_1 6 rfl rfl)
theorem dX1_lay_30 : decode cX1_lay 30 = .ok (.istore 6, 2) := dk_54 6 (dk_at dksX1_lay_1 7 rfl rfl)
theorem dX1_lay_32 : decode cX1_lay 32 = .ok (.iload 6, 2) := dk_21 6 (dk_at dksX1_lay_1 9 rfl rfl)
theorem dX1_lay_34 : decode cX1_lay 34 = .ok (.aload_n 0, 1) := dk_42 (dk_at dksX1_lay_1 11 rfl rfl)
theorem dX1_lay_35 : decode cX1_lay 35 = .ok (.invokevirtual 142, 3) := dk_182 0 142 (dk_at dksX1_lay_1 12 rfl rfl)
theorem dX1_lay_38 : decode cX1_lay 38 = .ok (.if_icmp .ge 96, 3) := dk_162 0 96 (dk_at dksX1_lay_1 15 rfl rfl)
theorem dX1_lay_41 : decode cX1_lay 41 = .ok (.aload_n 0, 1) := dk_42 (dk_at dksX1_lay_1 18 rfl rfl)
theorem dX1_lay_42 : decode cX1_lay 42 = .ok (.iload 6, 2) := dk_21 6 (dk_at dksX1_lay_1 19 rfl rfl)
theorem dX1_lay_44 : decode cX1_lay 44 = .ok (.invokevirtual 209, 3) := dk_182 0 209 (dk_at dksX1_lay_1 21 rfl rfl)
theorem dX1_lay_47 : decode cX1_lay 47 = .ok (.ifCond .ne 81, 3) := dk_154 0 81 (dk_at dksX1_lay_2 0 rfl rfl)
theorem dX1_lay_50 : decode cX1_lay 50 = .ok (.iload 6, 2) := dk_21 6 (dk_at dksX1_lay_2 3 rfl rfl)
theorem dX1_lay_52 : decode cX1_lay 52 = .ok (.iload_n 1, 1) := dk_27 (dk_at dksX1_lay_2 5 rfl rfl)
theorem dX1_lay_53 : decode cX1_lay 53 = .ok (.if_icmp .eq 15, 3) := dk_159 0 15 (dk_at dksX1_lay_2 6 rfl rfl)
theorem dX1_lay_56 : decode cX1_lay 56 = .ok (.lload_n 3, 1) := dk_33 (dk_at dksX1_lay_2 9 rfl rfl)
theorem dX1_lay_57 : decode cX1_lay 57 = .ok (.iload 6, 2) := dk_21 6 (dk_at dksX1_lay_2 10 rfl rfl)
theorem dX1_lay_59 : decode cX1_lay 59 = .ok (.invokestatic 26, 3) := dk_184 0 26 (dk_at dksX1_lay_2 12 rfl rfl)
theorem dX1_lay_62 : decode cX1_lay 62 = .ok (.ifCond .ne 6, 3) := dk_154 0 6 (dk_at dksX1_lay_2 15 rfl rfl)
theorem dX1_lay_65 : decode cX1_lay 65 = .ok (.goto 63, 3) := dk_167 0 63 (dk_at dksX1_lay_2 18 rfl rfl)
theorem dX1_lay_68 : decode cX1_lay 68 = .ok (.iconst 0, 1) := dk_3 (dk_at dksX1_lay_2 21 rfl rfl)
theorem dX1_lay_69 : decode cX1_lay 69 = .ok (.istore 7, 2) := dk_54 7 (dk_at dksX1_lay_2 22 rfl rfl)
theorem dX1_lay_71 : decode cX1_lay 71 = .ok (.iload 7, 2) := dk_21 7 (dk_at dksX1_lay_3 0 rfl rfl)
theorem dX1_lay_73 : decode cX1_lay 73 = .ok (.bipush 8, 2) := dk_16 8 (dk_at dksX1_lay_3 2 rfl rfl)
theorem dX1_lay_75 : decode cX1_lay 75 = .ok (.if_icmp .ge 53, 3) := dk_162 0 53 (dk_at dksX1_lay_3 4 rfl rfl)
theorem dX1_lay_78 : decode cX1_lay 78 = .ok (.aload_n 0, 1) := dk_42 (dk_at dksX1_lay_3 7 rfl rfl)
theorem dX1_lay_79 : decode cX1_lay 79 = .ok (.iload 6, 2) := dk_21 6 (dk_at dksX1_lay_3 8 rfl rfl)
theorem dX1_lay_81 : decode cX1_lay 81 = .ok (.iload 7, 2) := dk_21 7 (dk_at dksX1_lay_3 10 rfl rfl)
theorem dX1_lay_83 : decode cX1_lay 83 = .ok (.invokevirtual 347, 3) := dk_182 1 91 (dk_at dksX1_lay_3 12 rfl rfl)
theorem dX1_lay_86 : decode cX1_lay 86 = .ok (.iconst (-1), 1) := dk_2 (dk_at dksX1_lay_3 15 rfl rfl)
theorem dX1_lay_87 : decode cX1_lay 87 = .ok (.if_icmp .eq 35, 3) := dk_159 0 35 (dk_at dksX1_lay_3 16 rfl rfl)
theorem dX1_lay_90 : decode cX1_lay 90 = .ok (.aload_n 0, 1) := dk_42 (dk_at dksX1_lay_3 19 rfl rfl)
theorem dX1_lay_91 : decode cX1_lay 91 = .ok (.getfield 124, 3) := dk_180 0 124 (dk_at dksX1_lay_3 20 rfl rfl)
theorem dX1_lay_94 : decode cX1_lay 94 = .ok (.iload 6, 2) := dk_21 6 (dk_at dksX1_lay_4 0 rfl rfl)
theorem dX1_lay_96 : decode cX1_lay 96 = .ok (.aload_n 0, 1) := dk_42 (dk_at dksX1_lay_4 2 rfl rfl)
theorem dX1_lay_97 : decode cX1_lay 97 = .ok (.getfield 124, 3) := dk_180 0 124 (dk_at dksX1_lay_4 3 rfl rfl)
theorem dX1_lay_100 : decode cX1_lay 100 = .ok (.iload 6, 2) := dk_21 6 (dk_at dksX1_lay_4 6 rfl rfl)
theorem dX1_lay_102 : decode cX1_lay 102 = .ok (.iaload, 1) := dk_46 (dk_at dksX1_lay_4 8 rfl rfl)
theorem dX1_lay_103 : decode cX1_lay 103 = .ok (.aload_n 0, 1) := dk_42 (dk_at dksX1_lay_4 9 rfl rfl)
theorem dX1_lay_104 : decode cX1_lay 104 = .ok (.getfield 124, 3) := dk_180 0 124 (dk_at dksX1_lay_4 10 rfl rfl)
theorem dX1_lay_107 : decode cX1_lay 107 = .ok (.aload_n 0, 1) := dk_42 (dk_at dksX1_lay_4 13 rfl rfl)
theorem dX1_lay_108 : decode cX1_lay 108 = .ok (.iload 6, 2) := dk_21 6 (dk_at dksX1_lay_4 14 rfl rfl)
theorem dX1_lay_110 : decode cX1_lay 110 = .ok (.iload 7, 2) := dk_21 7 (dk_at dksX1_lay_4 16 rfl rfl)
theorem dX1_lay_112 : decode cX1_lay 112 = .ok (.invokevirtual 347, 3) := dk_182 1 91 (dk_at dksX1_lay_4 18 rfl rfl)
theorem dX1_lay_115 : decode cX1_lay 115 = .ok (.iaload, 1) := dk_46 (dk_at dksX1_lay_4 21 rfl rfl)
theorem dX1_lay_116 : decode cX1_lay 116 = .ok (.iconst 1, 1) := dk_4 (dk_at dksX1_lay_4 22 rfl rfl)
theorem dX1_lay_117 : decode cX1_lay 117 = .ok (.iadd, 1) := dk_96 (dk_at dksX1_lay_4 23 rfl rfl)
theorem dX1_lay_118 : decode cX1_lay 118 = .ok (.invokestatic 9, 3) := dk_184 0 9 (dk_at dksX1_lay_5 0 rfl rfl)
theorem dX1_lay_121 : decode cX1_lay 121 = .ok (.iastore, 1) := dk_79 (dk_at dksX1_lay_5 3 rfl rfl)
theorem dX1_lay_122 : decode cX1_lay 122 = .ok (.iinc 7 1, 3) := dk_132 7 1 (dk_at dksX1_lay_5 4 rfl rfl)
theorem dX1_lay_125 : decode cX1_lay 125 = .ok (.goto (-54), 3) := dk_167 255 202 (dk_at dksX1_lay_5 7 rfl rfl)
theorem dX1_lay_128 : decode cX1_lay 128 = .ok (.iinc 6 1, 3) := dk_132 6 1 (dk_at dksX1_lay_5 10 rfl rfl)
theorem dX1_lay_131 : decode cX1_lay 131 = .ok (.goto (-99), 3) := dk_167 255 157 (dk_at dksX1_lay_5 13 rfl rfl)
theorem dX1_lay_134 : decode cX1_lay 134 = .ok (.iinc 5 1, 3) := dk_132 5 1 (dk_at dksX1_lay_5 16 rfl rfl)
theorem dX1_lay_137 : decode cX1_lay 137 = .ok (.goto (-117), 3) := dk_167 255 139 (dk_at dksX1_lay_5 19 rfl rfl)
theorem dX1_lay_140 : decode cX1_lay 140 = .ok (.return_, 1) := dk_177 (dk_at dksX1_lay_5 22 rfl rfl)
abbrev cX1_tellWay : ByteArray := prog_1_method_78_code
def yX1_tellWay : MethodName := ⟨RX1, "tellWay", "(II)V"⟩
def dkwX1_tellWay_3 : List UInt8 := [184, 0, 9, 54, 4, 132, 5, 1, 167, 255, 204, 21, 4, 62, 42, 29, 133, 182, 1, 74, 167, 255, 179, 177]
abbrev dktX1_tellWay_3 : List UInt8 := dkwX1_tellWay_3 ++ []
def dkwX1_tellWay_2 : List UInt8 := [42, 180, 0, 124, 21, 6, 46, 42, 180, 0, 124, 29, 46, 4, 100, 160, 0, 12, 21, 4, 21, 6]
abbrev dktX1_tellWay_2 : List UInt8 := dkwX1_tellWay_2 ++ dktX1_tellWay_3
def dkwX1_tellWay_1 : List UInt8 := [54, 5, 21, 5, 16, 8, 162, 0, 51, 42, 29, 21, 5, 182, 1, 91, 54, 6, 21, 6, 2, 159, 0, 30]
abbrev dktX1_tellWay_1 : List UInt8 := dkwX1_tellWay_1 ++ dktX1_tellWay_2
def dkwX1_tellWay_0 : List UInt8 := [42, 3, 181, 0, 139, 42, 27, 133, 182, 1, 74, 27, 62, 29, 28, 159, 0, 78, 19, 1, 173, 54, 4, 3]
abbrev dktX1_tellWay_0 : List UInt8 := dkwX1_tellWay_0 ++ dktX1_tellWay_1
theorem dksX1_tellWay_0 : cX1_tellWay.data.toList.drop 0 = dktX1_tellWay_0 := by decide +kernel
theorem dksX1_tellWay_1 : cX1_tellWay.data.toList.drop 24 = dktX1_tellWay_1 := dk_seg dksX1_tellWay_0 24 rfl rfl
theorem dksX1_tellWay_2 : cX1_tellWay.data.toList.drop 48 = dktX1_tellWay_2 := dk_seg dksX1_tellWay_1 24 rfl rfl
theorem dksX1_tellWay_3 : cX1_tellWay.data.toList.drop 70 = dktX1_tellWay_3 := dk_seg dksX1_tellWay_2 22 rfl rfl
theorem dX1_tellWay_0 : decode cX1_tellWay 0 = .ok (.aload_n 0, 1) := dk_42 (dk_at dksX1_tellWay_0 0 rfl rfl)
theorem dX1_tellWay_1 : decode cX1_tellWay 1 = .ok (.iconst 0, 1) := dk_3 (dk_at dksX1_tellWay_0 1 rfl rfl)
theorem dX1_tellWay_2 : decode cX1_tellWay 2 = .ok (.putfield 139, 3) := dk_181 0 139 (dk_at dksX1_tellWay_0 2 rfl rfl)
theorem dX1_tellWay_5 : decode cX1_tellWay 5 = .ok (.aload_n 0, 1) := dk_42 (dk_at dksX1_tellWay_0 5 rfl rfl)
theorem dX1_tellWay_6 : decode cX1_tellWay 6 = .ok (.iload_n 1, 1) := dk_27 (dk_at dksX1_tellWay_0 6 rfl rfl)
theorem dX1_tellWay_7 : decode cX1_tellWay 7 = .ok (.i2l, 1) := dk_133 (dk_at dksX1_tellWay_0 7 rfl rfl)
theorem dX1_tellWay_8 : decode cX1_tellWay 8 = .ok (.invokevirtual 330, 3) := dk_182 1 74 (dk_at dksX1_tellWay_0 8 rfl rfl)
theorem dX1_tellWay_11 : decode cX1_tellWay 11 = .ok (.iload_n 1, 1) := dk_27 (dk_at dksX1_tellWay_0 11 rfl rfl)
theorem dX1_tellWay_12 : decode cX1_tellWay 12 = .ok (.istore_n 3, 1) := dk_62 (dk_at dksX1_tellWay_0 12 rfl rfl)
theorem dX1_tellWay_13 : decode cX1_tellWay 13 = .ok (.iload_n 3, 1) := dk_29 (dk_at dksX1_tellWay_0 13 rfl rfl)
theorem dX1_tellWay_14 : decode cX1_tellWay 14 = .ok (.iload_n 2, 1) := dk_28 (dk_at dksX1_tellWay_0 14 rfl rfl)
theorem dX1_tellWay_15 : decode cX1_tellWay 15 = .ok (.if_icmp .eq 78, 3) := dk_159 0 78 (dk_at dksX1_tellWay_0 15 rfl rfl)
theorem dX1_tellWay_18 : decode cX1_tellWay 18 = .ok (.ldc_w 429, 3) := dk_19 1 173 (dk_at dksX1_tellWay_0 18 rfl rfl)
theorem dX1_tellWay_21 : decode cX1_tellWay 21 = .ok (.istore 4, 2) := dk_54 4 (dk_at dksX1_tellWay_0 21 rfl rfl)
theorem dX1_tellWay_23 : decode cX1_tellWay 23 = .ok (.iconst 0, 1) := dk_3 (dk_at dksX1_tellWay_0 23 rfl rfl)
theorem dX1_tellWay_24 : decode cX1_tellWay 24 = .ok (.istore 5, 2) := dk_54 5 (dk_at dksX1_tellWay_1 0 rfl rfl)
theorem dX1_tellWay_26 : decode cX1_tellWay 26 = .ok (.iload 5, 2) := dk_21 5 (dk_at dksX1_tellWay_1 2 rfl rfl)
theorem dX1_tellWay_28 : decode cX1_tellWay 28 = .ok (.bipush 8, 2) := dk_16 8 (dk_at dksX1_tellWay_1 4 rfl rfl)
theorem dX1_tellWay_30 : decode cX1_tellWay 30 = .ok (.if_icmp .ge 51, 3) := dk_162 0 51 (dk_at dksX1_tellWay_1 6 rfl rfl)
theorem dX1_tellWay_33 : decode cX1_tellWay 33 = .ok (.aload_n 0, 1) := dk_42 (dk_at dksX1_tellWay_1 9 rfl rfl)
theorem dX1_tellWay_34 : decode cX1_tellWay 34 = .ok (.iload_n 3, 1) := dk_29 (dk_at dksX1_tellWay_1 10 rfl rfl)
theorem dX1_tellWay_35 : decode cX1_tellWay 35 = .ok (.iload 5, 2) := dk_21 5 (dk_at dksX1_tellWay_1 11 rfl rfl)
theorem dX1_tellWay_37 : decode cX1_tellWay 37 = .ok (.invokevirtual 347, 3) := dk_182 1 91 (dk_at dksX1_tellWay_1 13 rfl rfl)
theorem dX1_tellWay_40 : decode cX1_tellWay 40 = .ok (.istore 6, 2) := dk_54 6 (dk_at dksX1_tellWay_1 16 rfl rfl)
theorem dX1_tellWay_42 : decode cX1_tellWay 42 = .ok (.iload 6, 2) := dk_21 6 (dk_at dksX1_tellWay_1 18 rfl rfl)
theorem dX1_tellWay_44 : decode cX1_tellWay 44 = .ok (.iconst (-1), 1) := dk_2 (dk_at dksX1_tellWay_1 20 rfl rfl)
theorem dX1_tellWay_45 : decode cX1_tellWay 45 = .ok (.if_icmp .eq 30, 3) := dk_159 0 30 (dk_at dksX1_tellWay_1 21 rfl rfl)
theorem dX1_tellWay_48 : decode cX1_tellWay 48 = .ok (.aload_n 0, 1) := dk_42 (dk_at dksX1_tellWay_2 0 rfl rfl)
theorem dX1_tellWay_49 : decode cX1_tellWay 49 = .ok (.getfield 124, 3) := dk_180 0 124 (dk_at dksX1_tellWay_2 1 rfl rfl)
theorem dX1_tellWay_52 : decode cX1_tellWay 52 = .ok (.iload 6, 2) := dk_21 6 (dk_at dksX1_tellWay_2 4 rfl rfl)
theorem dX1_tellWay_54 : decode cX1_tellWay 54 = .ok (.iaload, 1) := dk_46 (dk_at dksX1_tellWay_2 6 rfl rfl)
theorem dX1_tellWay_55 : decode cX1_tellWay 55 = .ok (.aload_n 0, 1) := dk_42 (dk_at dksX1_tellWay_2 7 rfl rfl)
theorem dX1_tellWay_56 : decode cX1_tellWay 56 = .ok (.getfield 124, 3) := dk_180 0 124 (dk_at dksX1_tellWay_2 8 rfl rfl)
theorem dX1_tellWay_59 : decode cX1_tellWay 59 = .ok (.iload_n 3, 1) := dk_29 (dk_at dksX1_tellWay_2 11 rfl rfl)
theorem dX1_tellWay_60 : decode cX1_tellWay 60 = .ok (.iaload, 1) := dk_46 (dk_at dksX1_tellWay_2 12 rfl rfl)
theorem dX1_tellWay_61 : decode cX1_tellWay 61 = .ok (.iconst 1, 1) := dk_4 (dk_at dksX1_tellWay_2 13 rfl rfl)
theorem dX1_tellWay_62 : decode cX1_tellWay 62 = .ok (.isub, 1) := dk_100 (dk_at dksX1_tellWay_2 14 rfl rfl)
theorem dX1_tellWay_63 : decode cX1_tellWay 63 = .ok (.if_icmp .ne 12, 3) := dk_160 0 12 (dk_at dksX1_tellWay_2 15 rfl rfl)
theorem dX1_tellWay_66 : decode cX1_tellWay 66 = .ok (.iload 4, 2) := dk_21 4 (dk_at dksX1_tellWay_2 18 rfl rfl)
theorem dX1_tellWay_68 : decode cX1_tellWay 68 = .ok (.iload 6, 2) := dk_21 6 (dk_at dksX1_tellWay_2 20 rfl rfl)
theorem dX1_tellWay_70 : decode cX1_tellWay 70 = .ok (.invokestatic 9, 3) := dk_184 0 9 (dk_at dksX1_tellWay_3 0 rfl rfl)
theorem dX1_tellWay_73 : decode cX1_tellWay 73 = .ok (.istore 4, 2) := dk_54 4 (dk_at dksX1_tellWay_3 3 rfl rfl)
theorem dX1_tellWay_75 : decode cX1_tellWay 75 = .ok (.iinc 5 1, 3) := dk_132 5 1 (dk_at dksX1_tellWay_3 5 rfl rfl)
theorem dX1_tellWay_78 : decode cX1_tellWay 78 = .ok (.goto (-52), 3) := dk_167 255 204 (dk_at dksX1_tellWay_3 8 rfl rfl)
theorem dX1_tellWay_81 : decode cX1_tellWay 81 = .ok (.iload 4, 2) := dk_21 4 (dk_at dksX1_tellWay_3 11 rfl rfl)
theorem dX1_tellWay_83 : decode cX1_tellWay 83 = .ok (.istore_n 3, 1) := dk_62 (dk_at dksX1_tellWay_3 13 rfl rfl)
theorem dX1_tellWay_84 : decode cX1_tellWay 84 = .ok (.aload_n 0, 1) := dk_42 (dk_at dksX1_tellWay_3 14 rfl rfl)
theorem dX1_tellWay_85 : decode cX1_tellWay 85 = .ok (.iload_n 3, 1) := dk_29 (dk_at dksX1_tellWay_3 15 rfl rfl)
theorem dX1_tellWay_86 : decode cX1_tellWay 86 = .ok (.i2l, 1) := dk_133 (dk_at dksX1_tellWay_3 16 rfl rfl)
theorem dX1_tellWay_87 : decode cX1_tellWay 87 = .ok (.invokevirtual 330, 3) := dk_182 1 74 (dk_at dksX1_tellWay_3 17 rfl rfl)
theorem dX1_tellWay_90 : decode cX1_tellWay 90 = .ok (.goto (-77), 3) := dk_167 255 179 (dk_at dksX1_tellWay_3 20 rfl rfl)
theorem dX1_tellWay_93 : decode cX1_tellWay 93 = .ok (.return_, 1) := dk_177 (dk_at dksX1_tellWay_3 23 rfl rfl)
abbrev cX1_open_2 : ByteArray := prog_1_method_80_code
def yX1_open_2 : MethodName := ⟨RX1, "open", "(II)I"⟩
def dkwX1_open_2_6 : List UInt8 := [172]
abbrev dktX1_open_2_6 : List UInt8 := dkwX1_open_2_6 ++ []
def dkwX1_open_2_5 : List UInt8 := [132, 6, 1, 167, 255, 219, 42, 3, 181, 0, 139, 42, 21, 5, 133, 182, 1, 74, 42, 180, 0, 124, 27, 46]
abbrev dktX1_open_2_5 : List UInt8 := dkwX1_open_2_5 ++ dktX1_open_2_6
def dkwX1_open_2_4 : List UInt8 := [33, 42, 180, 0, 105, 21, 6, 47, 136, 184, 0, 26, 153, 0, 7, 4, 167, 0, 4, 3, 96, 54, 5]
abbrev dktX1_open_2_4 : List UInt8 := dkwX1_open_2_4 ++ dktX1_open_2_5
def dkwX1_open_2_3 : List UInt8 := [180, 0, 84, 182, 1, 149, 66, 3, 54, 5, 3, 54, 6, 21, 6, 42, 180, 0, 139, 162, 0, 34, 21, 5]
abbrev dktX1_open_2_3 : List UInt8 := dkwX1_open_2_3 ++ dktX1_open_2_4
def dkwX1_open_2_2 : List UInt8 := [42, 180, 0, 124, 27, 46, 19, 1, 173, 161, 0, 6, 16, 254, 172, 42, 27, 28, 182, 1, 194, 42, 42]
abbrev dktX1_open_2_2 : List UInt8 := dkwX1_open_2_2 ++ dktX1_open_2_3
def dkwX1_open_2_1 : List UInt8 := [154, 0, 11, 42, 28, 182, 0, 209, 153, 0, 6, 16, 254, 172, 42, 27, 28, 42, 182, 1, 145, 182, 1, 190]
abbrev dktX1_open_2_1 : List UInt8 := dkwX1_open_2_1 ++ dktX1_open_2_2
def dkwX1_open_2_0 : List UInt8 := [42, 27, 182, 1, 102, 153, 0, 11, 42, 28, 182, 1, 102, 154, 0, 5, 2, 172, 42, 27, 182, 0, 209]
abbrev dktX1_open_2_0 : List UInt8 := dkwX1_open_2_0 ++ dktX1_open_2_1
theorem dksX1_open_2_0 : cX1_open_2.data.toList.drop 0 = dktX1_open_2_0 := by decide +kernel
theorem dksX1_open_2_1 : cX1_open_2.data.toList.drop 23 = dktX1_open_2_1 := dk_seg dksX1_open_2_0 23 rfl rfl
theorem dksX1_open_2_2 : cX1_open_2.data.toList.drop 47 = dktX1_open_2_2 := dk_seg dksX1_open_2_1 24 rfl rfl
theorem dksX1_open_2_3 : cX1_open_2.data.toList.drop 70 = dktX1_open_2_3 := dk_seg dksX1_open_2_2 23 rfl rfl
theorem dksX1_open_2_4 : cX1_open_2.data.toList.drop 94 = dktX1_open_2_4 := dk_seg dksX1_open_2_3 24 rfl rfl
theorem dksX1_open_2_5 : cX1_open_2.data.toList.drop 117 = dktX1_open_2_5 := dk_seg dksX1_open_2_4 23 rfl rfl
theorem dksX1_open_2_6 : cX1_open_2.data.toList.drop 141 = dktX1_open_2_6 := dk_seg dksX1_open_2_5 24 rfl rfl
theorem dX1_open_2_0 : decode cX1_open_2 0 = .ok (.aload_n 0, 1) := dk_42 (dk_at dksX1_open_2_0 0 rfl rfl)
theorem dX1_open_2_1 : decode cX1_open_2 1 = .ok (.iload_n 1, 1) := dk_27 (dk_at dksX1_open_2_0 1 rfl rfl)
theorem dX1_open_2_2 : decode cX1_open_2 2 = .ok (.invokevirtual 358, 3) := dk_182 1 102 (dk_at dksX1_open_2_0 2 rfl rfl)
theorem dX1_open_2_5 : decode cX1_open_2 5 = .ok (.ifCond .eq 11, 3) := dk_153 0 11 (dk_at dksX1_open_2_0 5 rfl rfl)
theorem dX1_open_2_8 : decode cX1_open_2 8 = .ok (.aload_n 0, 1) := dk_42 (dk_at dksX1_open_2_0 8 rfl rfl)
theorem dX1_open_2_9 : decode cX1_open_2 9 = .ok (.iload_n 2, 1) := dk_28 (dk_at dksX1_open_2_0 9 rfl rfl)
theorem dX1_open_2_10 : decode cX1_open_2 10 = .ok (.invokevirtual 358, 3) := dk_182 1 102 (dk_at dksX1_open_2_0 10 rfl rfl)
theorem dX1_open_2_13 : decode cX1_open_2 13 = .ok (.ifCond .ne 5, 3) := dk_154 0 5 (dk_at dksX1_open_2_0 13 rfl rfl)
theorem dX1_open_2_16 : decode cX1_open_2 16 = .ok (.iconst (-1), 1) := dk_2 (dk_at dksX1_open_2_0 16 rfl rfl)
theorem dX1_open_2_17 : decode cX1_open_2 17 = .ok (.ireturn, 1) := dk_172 (dk_at dksX1_open_2_0 17 rfl rfl)
theorem dX1_open_2_18 : decode cX1_open_2 18 = .ok (.aload_n 0, 1) := dk_42 (dk_at dksX1_open_2_0 18 rfl rfl)
theorem dX1_open_2_19 : decode cX1_open_2 19 = .ok (.iload_n 1, 1) := dk_27 (dk_at dksX1_open_2_0 19 rfl rfl)
theorem dX1_open_2_20 : decode cX1_open_2 20 = .ok (.invokevirtual 209, 3) := dk_182 0 209 (dk_at dksX1_open_2_0 20 rfl rfl)
theorem dX1_open_2_23 : decode cX1_open_2 23 = .ok (.ifCond .ne 11, 3) := dk_154 0 11 (dk_at dksX1_open_2_1 0 rfl rfl)
theorem dX1_open_2_26 : decode cX1_open_2 26 = .ok (.aload_n 0, 1) := dk_42 (dk_at dksX1_open_2_1 3 rfl rfl)
theorem dX1_open_2_27 : decode cX1_open_2 27 = .ok (.iload_n 2, 1) := dk_28 (dk_at dksX1_open_2_1 4 rfl rfl)
theorem dX1_open_2_28 : decode cX1_open_2 28 = .ok (.invokevirtual 209, 3) := dk_182 0 209 (dk_at dksX1_open_2_1 5 rfl rfl)
theorem dX1_open_2_31 : decode cX1_open_2 31 = .ok (.ifCond .eq 6, 3) := dk_153 0 6 (dk_at dksX1_open_2_1 8 rfl rfl)
theorem dX1_open_2_34 : decode cX1_open_2 34 = .ok (.bipush (-2), 2) := dk_16 254 (dk_at dksX1_open_2_1 11 rfl rfl)
theorem dX1_open_2_36 : decode cX1_open_2 36 = .ok (.ireturn, 1) := dk_172 (dk_at dksX1_open_2_1 13 rfl rfl)
theorem dX1_open_2_37 : decode cX1_open_2 37 = .ok (.aload_n 0, 1) := dk_42 (dk_at dksX1_open_2_1 14 rfl rfl)
theorem dX1_open_2_38 : decode cX1_open_2 38 = .ok (.iload_n 1, 1) := dk_27 (dk_at dksX1_open_2_1 15 rfl rfl)
theorem dX1_open_2_39 : decode cX1_open_2 39 = .ok (.iload_n 2, 1) := dk_28 (dk_at dksX1_open_2_1 16 rfl rfl)
theorem dX1_open_2_40 : decode cX1_open_2 40 = .ok (.aload_n 0, 1) := dk_42 (dk_at dksX1_open_2_1 17 rfl rfl)
theorem dX1_open_2_41 : decode cX1_open_2 41 = .ok (.invokevirtual 401, 3) := dk_182 1 145 (dk_at dksX1_open_2_1 18 rfl rfl)
theorem dX1_open_2_44 : decode cX1_open_2 44 = .ok (.invokevirtual 446, 3) := dk_182 1 190 (dk_at dksX1_open_2_1 21 rfl rfl)
theorem dX1_open_2_47 : decode cX1_open_2 47 = .ok (.aload_n 0, 1) := dk_42 (dk_at dksX1_open_2_2 0 rfl rfl)
theorem dX1_open_2_48 : decode cX1_open_2 48 = .ok (.getfield 124, 3) := dk_180 0 124 (dk_at dksX1_open_2_2 1 rfl rfl)
theorem dX1_open_2_51 : decode cX1_open_2 51 = .ok (.iload_n 1, 1) := dk_27 (dk_at dksX1_open_2_2 4 rfl rfl)
theorem dX1_open_2_52 : decode cX1_open_2 52 = .ok (.iaload, 1) := dk_46 (dk_at dksX1_open_2_2 5 rfl rfl)
theorem dX1_open_2_53 : decode cX1_open_2 53 = .ok (.ldc_w 429, 3) := dk_19 1 173 (dk_at dksX1_open_2_2 6 rfl rfl)
theorem dX1_open_2_56 : decode cX1_open_2 56 = .ok (.if_icmp .lt 6, 3) := dk_161 0 6 (dk_at dksX1_open_2_2 9 rfl rfl)
theorem dX1_open_2_59 : decode cX1_open_2 59 = .ok (.bipush (-2), 2) := dk_16 254 (dk_at dksX1_open_2_2 12 rfl rfl)
theorem dX1_open_2_61 : decode cX1_open_2 61 = .ok (.ireturn, 1) := dk_172 (dk_at dksX1_open_2_2 14 rfl rfl)
theorem dX1_open_2_62 : decode cX1_open_2 62 = .ok (.aload_n 0, 1) := dk_42 (dk_at dksX1_open_2_2 15 rfl rfl)
theorem dX1_open_2_63 : decode cX1_open_2 63 = .ok (.iload_n 1, 1) := dk_27 (dk_at dksX1_open_2_2 16 rfl rfl)
theorem dX1_open_2_64 : decode cX1_open_2 64 = .ok (.iload_n 2, 1) := dk_28 (dk_at dksX1_open_2_2 17 rfl rfl)
theorem dX1_open_2_65 : decode cX1_open_2 65 = .ok (.invokevirtual 450, 3) := dk_182 1 194 (dk_at dksX1_open_2_2 18 rfl rfl)
theorem dX1_open_2_68 : decode cX1_open_2 68 = .ok (.aload_n 0, 1) := dk_42 (dk_at dksX1_open_2_2 21 rfl rfl)
theorem dX1_open_2_69 : decode cX1_open_2 69 = .ok (.aload_n 0, 1) := dk_42 (dk_at dksX1_open_2_2 22 rfl rfl)
theorem dX1_open_2_70 : decode cX1_open_2 70 = .ok (.getfield 84, 3) := dk_180 0 84 (dk_at dksX1_open_2_3 0 rfl rfl)
theorem dX1_open_2_73 : decode cX1_open_2 73 = .ok (.invokevirtual 405, 3) := dk_182 1 149 (dk_at dksX1_open_2_3 3 rfl rfl)
theorem dX1_open_2_76 : decode cX1_open_2 76 = .ok (.lstore_n 3, 1) := dk_66 (dk_at dksX1_open_2_3 6 rfl rfl)
theorem dX1_open_2_77 : decode cX1_open_2 77 = .ok (.iconst 0, 1) := dk_3 (dk_at dksX1_open_2_3 7 rfl rfl)
theorem dX1_open_2_78 : decode cX1_open_2 78 = .ok (.istore 5, 2) := dk_54 5 (dk_at dksX1_open_2_3 8 rfl rfl)
theorem dX1_open_2_80 : decode cX1_open_2 80 = .ok (.iconst 0, 1) := dk_3 (dk_at dksX1_open_2_3 10 rfl rfl)
theorem dX1_open_2_81 : decode cX1_open_2 81 = .ok (.istore 6, 2) := dk_54 6 (dk_at dksX1_open_2_3 11 rfl rfl)
theorem dX1_open_2_83 : decode cX1_open_2 83 = .ok (.iload 6, 2) := dk_21 6 (dk_at dksX1_open_2_3 13 rfl rfl)
theorem dX1_open_2_85 : decode cX1_open_2 85 = .ok (.aload_n 0, 1) := dk_42 (dk_at dksX1_open_2_3 15 rfl rfl)
theorem dX1_open_2_86 : decode cX1_open_2 86 = .ok (.getfield 139, 3) := dk_180 0 139 (dk_at dksX1_open_2_3 16 rfl rfl)
theorem dX1_open_2_89 : decode cX1_open_2 89 = .ok (.if_icmp .ge 34, 3) := dk_162 0 34 (dk_at dksX1_open_2_3 19 rfl rfl)
theorem dX1_open_2_92 : decode cX1_open_2 92 = .ok (.iload 5, 2) := dk_21 5 (dk_at dksX1_open_2_3 22 rfl rfl)
theorem dX1_open_2_94 : decode cX1_open_2 94 = .ok (.lload_n 3, 1) := dk_33 (dk_at dksX1_open_2_4 0 rfl rfl)
theorem dX1_open_2_95 : decode cX1_open_2 95 = .ok (.aload_n 0, 1) := dk_42 (dk_at dksX1_open_2_4 1 rfl rfl)
theorem dX1_open_2_96 : decode cX1_open_2 96 = .ok (.getfield 105, 3) := dk_180 0 105 (dk_at dksX1_open_2_4 2 rfl rfl)
theorem dX1_open_2_99 : decode cX1_open_2 99 = .ok (.iload 6, 2) := dk_21 6 (dk_at dksX1_open_2_4 5 rfl rfl)
theorem dX1_open_2_101 : decode cX1_open_2 101 = .ok (.laload, 1) := dk_47 (dk_at dksX1_open_2_4 7 rfl rfl)
theorem dX1_open_2_102 : decode cX1_open_2 102 = .ok (.l2i, 1) := dk_136 (dk_at dksX1_open_2_4 8 rfl rfl)
theorem dX1_open_2_103 : decode cX1_open_2 103 = .ok (.invokestatic 26, 3) := dk_184 0 26 (dk_at dksX1_open_2_4 9 rfl rfl)
theorem dX1_open_2_106 : decode cX1_open_2 106 = .ok (.ifCond .eq 7, 3) := dk_153 0 7 (dk_at dksX1_open_2_4 12 rfl rfl)
theorem dX1_open_2_109 : decode cX1_open_2 109 = .ok (.iconst 1, 1) := dk_4 (dk_at dksX1_open_2_4 15 rfl rfl)
theorem dX1_open_2_110 : decode cX1_open_2 110 = .ok (.goto 4, 3) := dk_167 0 4 (dk_at dksX1_open_2_4 16 rfl rfl)
theorem dX1_open_2_113 : decode cX1_open_2 113 = .ok (.iconst 0, 1) := dk_3 (dk_at dksX1_open_2_4 19 rfl rfl)
theorem dX1_open_2_114 : decode cX1_open_2 114 = .ok (.iadd, 1) := dk_96 (dk_at dksX1_open_2_4 20 rfl rfl)
theorem dX1_open_2_115 : decode cX1_open_2 115 = .ok (.istore 5, 2) := dk_54 5 (dk_at dksX1_open_2_4 21 rfl rfl)
theorem dX1_open_2_117 : decode cX1_open_2 117 = .ok (.iinc 6 1, 3) := dk_132 6 1 (dk_at dksX1_open_2_5 0 rfl rfl)
theorem dX1_open_2_120 : decode cX1_open_2 120 = .ok (.goto (-37), 3) := dk_167 255 219 (dk_at dksX1_open_2_5 3 rfl rfl)
theorem dX1_open_2_123 : decode cX1_open_2 123 = .ok (.aload_n 0, 1) := dk_42 (dk_at dksX1_open_2_5 6 rfl rfl)
theorem dX1_open_2_124 : decode cX1_open_2 124 = .ok (.iconst 0, 1) := dk_3 (dk_at dksX1_open_2_5 7 rfl rfl)
theorem dX1_open_2_125 : decode cX1_open_2 125 = .ok (.putfield 139, 3) := dk_181 0 139 (dk_at dksX1_open_2_5 8 rfl rfl)
theorem dX1_open_2_128 : decode cX1_open_2 128 = .ok (.aload_n 0, 1) := dk_42 (dk_at dksX1_open_2_5 11 rfl rfl)
theorem dX1_open_2_129 : decode cX1_open_2 129 = .ok (.iload 5, 2) := dk_21 5 (dk_at dksX1_open_2_5 12 rfl rfl)
theorem dX1_open_2_131 : decode cX1_open_2 131 = .ok (.i2l, 1) := dk_133 (dk_at dksX1_open_2_5 14 rfl rfl)
theorem dX1_open_2_132 : decode cX1_open_2 132 = .ok (.invokevirtual 330, 3) := dk_182 1 74 (dk_at dksX1_open_2_5 15 rfl rfl)
theorem dX1_open_2_135 : decode cX1_open_2 135 = .ok (.aload_n 0, 1) := dk_42 (dk_at dksX1_open_2_5 18 rfl rfl)
theorem dX1_open_2_136 : decode cX1_open_2 136 = .ok (.getfield 124, 3) := dk_180 0 124 (dk_at dksX1_open_2_5 19 rfl rfl)
theorem dX1_open_2_139 : decode cX1_open_2 139 = .ok (.iload_n 1, 1) := dk_27 (dk_at dksX1_open_2_5 22 rfl rfl)
theorem dX1_open_2_140 : decode cX1_open_2 140 = .ok (.iaload, 1) := dk_46 (dk_at dksX1_open_2_5 23 rfl rfl)
theorem dX1_open_2_141 : decode cX1_open_2 141 = .ok (.ireturn, 1) := dk_172 (dk_at dksX1_open_2_6 0 rfl rfl)
abbrev cX1_heard : ByteArray := prog_1_method_81_code
def yX1_heard : MethodName := ⟨RX1, "heard", "(II)I"⟩
def dkwX1_heard_3 : List UInt8 := [181, 0, 190, 42, 180, 0, 190, 172]
abbrev dktX1_heard_3 : List UInt8 := dkwX1_heard_3 ++ []
def dkwX1_heard_2 : List UInt8 := [180, 0, 190, 120, 2, 130, 126, 28, 42, 180, 0, 190, 120, 128, 181, 1, 198, 42, 89, 180, 0, 190, 4, 96]
abbrev dktX1_heard_2 : List UInt8 := dkwX1_heard_2 ++ dktX1_heard_3
def dkwX1_heard_1 : List UInt8 := [160, 0, 5, 2, 172, 42, 180, 0, 127, 42, 180, 0, 190, 27, 79, 42, 42, 180, 1, 198, 4, 42]
abbrev dktX1_heard_1 : List UInt8 := dkwX1_heard_1 ++ dktX1_heard_2
def dkwX1_heard_0 : List UInt8 := [42, 27, 182, 0, 250, 153, 0, 22, 28, 133, 9, 10, 184, 0, 146, 153, 0, 12, 42, 180, 0, 190, 16, 10]
abbrev dktX1_heard_0 : List UInt8 := dkwX1_heard_0 ++ dktX1_heard_1
theorem dksX1_heard_0 : cX1_heard.data.toList.drop 0 = dktX1_heard_0 := by decide +kernel
theorem dksX1_heard_1 : cX1_heard.data.toList.drop 24 = dktX1_heard_1 := dk_seg dksX1_heard_0 24 rfl rfl
theorem dksX1_heard_2 : cX1_heard.data.toList.drop 46 = dktX1_heard_2 := dk_seg dksX1_heard_1 22 rfl rfl
theorem dksX1_heard_3 : cX1_heard.data.toList.drop 70 = dktX1_heard_3 := dk_seg dksX1_heard_2 24 rfl rfl
theorem dX1_heard_0 : decode cX1_heard 0 = .ok (.aload_n 0, 1) := dk_42 (dk_at dksX1_heard_0 0 rfl rfl)
theorem dX1_heard_1 : decode cX1_heard 1 = .ok (.iload_n 1, 1) := dk_27 (dk_at dksX1_heard_0 1 rfl rfl)
theorem dX1_heard_2 : decode cX1_heard 2 = .ok (.invokevirtual 250, 3) := dk_182 0 250 (dk_at dksX1_heard_0 2 rfl rfl)
theorem dX1_heard_5 : decode cX1_heard 5 = .ok (.ifCond .eq 22, 3) := dk_153 0 22 (dk_at dksX1_heard_0 5 rfl rfl)
theorem dX1_heard_8 : decode cX1_heard 8 = .ok (.iload_n 2, 1) := dk_28 (dk_at dksX1_heard_0 8 rfl rfl)
theorem dX1_heard_9 : decode cX1_heard 9 = .ok (.i2l, 1) := dk_133 (dk_at dksX1_heard_0 9 rfl rfl)
theorem dX1_heard_10 : decode cX1_heard 10 = .ok (.lconst 0, 1) := dk_9 (dk_at dksX1_heard_0 10 rfl rfl)
theorem dX1_heard_11 : decode cX1_heard 11 = .ok (.lconst 1, 1) := dk_10 (dk_at dksX1_heard_0 11 rfl rfl)
theorem dX1_heard_12 : decode cX1_heard 12 = .ok (.invokestatic 146, 3) := dk_184 0 146 (dk_at dksX1_heard_0 12 rfl rfl)
theorem dX1_heard_15 : decode cX1_heard 15 = .ok (.ifCond .eq 12, 3) := dk_153 0 12 (dk_at dksX1_heard_0 15 rfl rfl)
theorem dX1_heard_18 : decode cX1_heard 18 = .ok (.aload_n 0, 1) := dk_42 (dk_at dksX1_heard_0 18 rfl rfl)
theorem dX1_heard_19 : decode cX1_heard 19 = .ok (.getfield 190, 3) := dk_180 0 190 (dk_at dksX1_heard_0 19 rfl rfl)
theorem dX1_heard_22 : decode cX1_heard 22 = .ok (.bipush 10, 2) := dk_16 10 (dk_at dksX1_heard_0 22 rfl rfl)
theorem dX1_heard_24 : decode cX1_heard 24 = .ok (.if_icmp .ne 5, 3) := dk_160 0 5 (dk_at dksX1_heard_1 0 rfl rfl)
theorem dX1_heard_27 : decode cX1_heard 27 = .ok (.iconst (-1), 1) := dk_2 (dk_at dksX1_heard_1 3 rfl rfl)
theorem dX1_heard_28 : decode cX1_heard 28 = .ok (.ireturn, 1) := dk_172 (dk_at dksX1_heard_1 4 rfl rfl)
theorem dX1_heard_29 : decode cX1_heard 29 = .ok (.aload_n 0, 1) := dk_42 (dk_at dksX1_heard_1 5 rfl rfl)
theorem dX1_heard_30 : decode cX1_heard 30 = .ok (.getfield 127, 3) := dk_180 0 127 (dk_at dksX1_heard_1 6 rfl rfl)
theorem dX1_heard_33 : decode cX1_heard 33 = .ok (.aload_n 0, 1) := dk_42 (dk_at dksX1_heard_1 9 rfl rfl)
theorem dX1_heard_34 : decode cX1_heard 34 = .ok (.getfield 190, 3) := dk_180 0 190 (dk_at dksX1_heard_1 10 rfl rfl)
theorem dX1_heard_37 : decode cX1_heard 37 = .ok (.iload_n 1, 1) := dk_27 (dk_at dksX1_heard_1 13 rfl rfl)
theorem dX1_heard_38 : decode cX1_heard 38 = .ok (.iastore, 1) := dk_79 (dk_at dksX1_heard_1 14 rfl rfl)
theorem dX1_heard_39 : decode cX1_heard 39 = .ok (.aload_n 0, 1) := dk_42 (dk_at dksX1_heard_1 15 rfl rfl)
theorem dX1_heard_40 : decode cX1_heard 40 = .ok (.aload_n 0, 1) := dk_42 (dk_at dksX1_heard_1 16 rfl rfl)
theorem dX1_heard_41 : decode cX1_heard 41 = .ok (.getfield 454, 3) := dk_180 1 198 (dk_at dksX1_heard_1 17 rfl rfl)
theorem dX1_heard_44 : decode cX1_heard 44 = .ok (.iconst 1, 1) := dk_4 (dk_at dksX1_heard_1 20 rfl rfl)
theorem dX1_heard_45 : decode cX1_heard 45 = .ok (.aload_n 0, 1) := dk_42 (dk_at dksX1_heard_1 21 rfl rfl)
theorem dX1_heard_46 : decode cX1_heard 46 = .ok (.getfield 190, 3) := dk_180 0 190 (dk_at dksX1_heard_2 0 rfl rfl)
theorem dX1_heard_49 : decode cX1_heard 49 = .ok (.ishl, 1) := dk_120 (dk_at dksX1_heard_2 3 rfl rfl)
theorem dX1_heard_50 : decode cX1_heard 50 = .ok (.iconst (-1), 1) := dk_2 (dk_at dksX1_heard_2 4 rfl rfl)
theorem dX1_heard_51 : decode cX1_heard 51 = .ok (.ixor, 1) := dk_130 (dk_at dksX1_heard_2 5 rfl rfl)
theorem dX1_heard_52 : decode cX1_heard 52 = .ok (.iand, 1) := dk_126 (dk_at dksX1_heard_2 6 rfl rfl)
theorem dX1_heard_53 : decode cX1_heard 53 = .ok (.iload_n 2, 1) := dk_28 (dk_at dksX1_heard_2 7 rfl rfl)
theorem dX1_heard_54 : decode cX1_heard 54 = .ok (.aload_n 0, 1) := dk_42 (dk_at dksX1_heard_2 8 rfl rfl)
theorem dX1_heard_55 : decode cX1_heard 55 = .ok (.getfield 190, 3) := dk_180 0 190 (dk_at dksX1_heard_2 9 rfl rfl)
theorem dX1_heard_58 : decode cX1_heard 58 = .ok (.ishl, 1) := dk_120 (dk_at dksX1_heard_2 12 rfl rfl)
theorem dX1_heard_59 : decode cX1_heard 59 = .ok (.ior, 1) := dk_128 (dk_at dksX1_heard_2 13 rfl rfl)
theorem dX1_heard_60 : decode cX1_heard 60 = .ok (.putfield 454, 3) := dk_181 1 198 (dk_at dksX1_heard_2 14 rfl rfl)
theorem dX1_heard_63 : decode cX1_heard 63 = .ok (.aload_n 0, 1) := dk_42 (dk_at dksX1_heard_2 17 rfl rfl)
theorem dX1_heard_64 : decode cX1_heard 64 = .ok (.dup, 1) := dk_89 (dk_at dksX1_heard_2 18 rfl rfl)
theorem dX1_heard_65 : decode cX1_heard 65 = .ok (.getfield 190, 3) := dk_180 0 190 (dk_at dksX1_heard_2 19 rfl rfl)
theorem dX1_heard_68 : decode cX1_heard 68 = .ok (.iconst 1, 1) := dk_4 (dk_at dksX1_heard_2 22 rfl rfl)
theorem dX1_heard_69 : decode cX1_heard 69 = .ok (.iadd, 1) := dk_96 (dk_at dksX1_heard_2 23 rfl rfl)
theorem dX1_heard_70 : decode cX1_heard 70 = .ok (.putfield 190, 3) := dk_181 0 190 (dk_at dksX1_heard_3 0 rfl rfl)
theorem dX1_heard_73 : decode cX1_heard 73 = .ok (.aload_n 0, 1) := dk_42 (dk_at dksX1_heard_3 3 rfl rfl)
theorem dX1_heard_74 : decode cX1_heard 74 = .ok (.getfield 190, 3) := dk_180 0 190 (dk_at dksX1_heard_3 4 rfl rfl)
theorem dX1_heard_77 : decode cX1_heard 77 = .ok (.ireturn, 1) := dk_172 (dk_at dksX1_heard_3 7 rfl rfl)
abbrev cX1_forget : ByteArray := prog_1_method_82_code
def yX1_forget : MethodName := ⟨RX1, "forget", "()I"⟩
def dkwX1_forget_0 : List UInt8 := [42, 180, 0, 190, 60, 42, 3, 181, 0, 190, 27, 172]
abbrev dktX1_forget_0 : List UInt8 := dkwX1_forget_0 ++ []
theorem dksX1_forget_0 : cX1_forget.data.toList.drop 0 = dktX1_forget_0 := by decide +kernel
theorem dX1_forget_0 : decode cX1_forget 0 = .ok (.aload_n 0, 1) := dk_42 (dk_at dksX1_forget_0 0 rfl rfl)
theorem dX1_forget_1 : decode cX1_forget 1 = .ok (.getfield 190, 3) := dk_180 0 190 (dk_at dksX1_forget_0 1 rfl rfl)
theorem dX1_forget_4 : decode cX1_forget 4 = .ok (.istore_n 1, 1) := dk_60 (dk_at dksX1_forget_0 4 rfl rfl)
theorem dX1_forget_5 : decode cX1_forget 5 = .ok (.aload_n 0, 1) := dk_42 (dk_at dksX1_forget_0 5 rfl rfl)
theorem dX1_forget_6 : decode cX1_forget 6 = .ok (.iconst 0, 1) := dk_3 (dk_at dksX1_forget_0 6 rfl rfl)
theorem dX1_forget_7 : decode cX1_forget 7 = .ok (.putfield 190, 3) := dk_181 0 190 (dk_at dksX1_forget_0 7 rfl rfl)
theorem dX1_forget_10 : decode cX1_forget 10 = .ok (.iload_n 1, 1) := dk_27 (dk_at dksX1_forget_0 10 rfl rfl)
theorem dX1_forget_11 : decode cX1_forget 11 = .ok (.ireturn, 1) := dk_172 (dk_at dksX1_forget_0 11 rfl rfl)
abbrev cX1_lost : ByteArray := prog_1_method_84_code
def yX1_lost : MethodName := ⟨RX1, "lost", "()J"⟩
def dkwX1_lost_0 : List UInt8 := [42, 182, 1, 201, 64, 42, 3, 181, 0, 139, 42, 31, 184, 1, 133, 133, 182, 1, 74, 31, 173]
abbrev dktX1_lost_0 : List UInt8 := dkwX1_lost_0 ++ []
theorem dksX1_lost_0 : cX1_lost.data.toList.drop 0 = dktX1_lost_0 := by decide +kernel
theorem dX1_lost_0 : decode cX1_lost 0 = .ok (.aload_n 0, 1) := dk_42 (dk_at dksX1_lost_0 0 rfl rfl)
theorem dX1_lost_1 : decode cX1_lost 1 = .ok (.invokevirtual 457, 3) := dk_182 1 201 (dk_at dksX1_lost_0 1 rfl rfl)
theorem dX1_lost_4 : decode cX1_lost 4 = .ok (.lstore_n 1, 1) := dk_64 (dk_at dksX1_lost_0 4 rfl rfl)
theorem dX1_lost_5 : decode cX1_lost 5 = .ok (.aload_n 0, 1) := dk_42 (dk_at dksX1_lost_0 5 rfl rfl)
theorem dX1_lost_6 : decode cX1_lost 6 = .ok (.iconst 0, 1) := dk_3 (dk_at dksX1_lost_0 6 rfl rfl)
theorem dX1_lost_7 : decode cX1_lost 7 = .ok (.putfield 139, 3) := dk_181 0 139 (dk_at dksX1_lost_0 7 rfl rfl)
theorem dX1_lost_10 : decode cX1_lost 10 = .ok (.aload_n 0, 1) := dk_42 (dk_at dksX1_lost_0 10 rfl rfl)
theorem dX1_lost_11 : decode cX1_lost 11 = .ok (.lload_n 1, 1) := dk_31 (dk_at dksX1_lost_0 11 rfl rfl)
theorem dX1_lost_12 : decode cX1_lost 12 = .ok (.invokestatic 389, 3) := dk_184 1 133 (dk_at dksX1_lost_0 12 rfl rfl)
theorem dX1_lost_15 : decode cX1_lost 15 = .ok (.i2l, 1) := dk_133 (dk_at dksX1_lost_0 15 rfl rfl)
theorem dX1_lost_16 : decode cX1_lost 16 = .ok (.invokevirtual 330, 3) := dk_182 1 74 (dk_at dksX1_lost_0 16 rfl rfl)
theorem dX1_lost_19 : decode cX1_lost 19 = .ok (.lload_n 1, 1) := dk_31 (dk_at dksX1_lost_0 19 rfl rfl)
theorem dX1_lost_20 : decode cX1_lost 20 = .ok (.lreturn, 1) := dk_173 (dk_at dksX1_lost_0 20 rfl rfl)
abbrev cX1_lostAt : ByteArray := prog_1_method_83_code
def yX1_lostAt : MethodName := ⟨RX1, "lostAt", "()J"⟩
def dkwX1_lostAt_2 : List UInt8 := [22, 4, 167, 0, 9, 22, 4, 20, 0, 156, 131, 127, 64, 132, 3, 1, 167, 255, 200, 31, 173]
abbrev dktX1_lostAt_2 : List UInt8 := dkwX1_lostAt_2 ++ []
def dkwX1_lostAt_1 : List UInt8 := [180, 0, 127, 29, 46, 182, 1, 130, 55, 4, 31, 42, 180, 1, 198, 133, 29, 184, 0, 26, 153, 0, 8]
abbrev dktX1_lostAt_1 : List UInt8 := dkwX1_lostAt_1 ++ dktX1_lostAt_2
def dkwX1_lostAt_0 : List UInt8 := [42, 182, 1, 145, 64, 3, 62, 29, 42, 180, 0, 190, 162, 0, 54, 42, 180, 0, 62, 42, 180, 0, 84, 42]
abbrev dktX1_lostAt_0 : List UInt8 := dkwX1_lostAt_0 ++ dktX1_lostAt_1
theorem dksX1_lostAt_0 : cX1_lostAt.data.toList.drop 0 = dktX1_lostAt_0 := by decide +kernel
theorem dksX1_lostAt_1 : cX1_lostAt.data.toList.drop 24 = dktX1_lostAt_1 := dk_seg dksX1_lostAt_0 24 rfl rfl
theorem dksX1_lostAt_2 : cX1_lostAt.data.toList.drop 47 = dktX1_lostAt_2 := dk_seg dksX1_lostAt_1 23 rfl rfl
theorem dX1_lostAt_0 : decode cX1_lostAt 0 = .ok (.aload_n 0, 1) := dk_42 (dk_at dksX1_lostAt_0 0 rfl rfl)
theorem dX1_lostAt_1 : decode cX1_lostAt 1 = .ok (.invokevirtual 401, 3) := dk_182 1 145 (dk_at dksX1_lostAt_0 1 rfl rfl)
theorem dX1_lostAt_4 : decode cX1_lostAt 4 = .ok (.lstore_n 1, 1) := dk_64 (dk_at dksX1_lostAt_0 4 rfl rfl)
theorem dX1_lostAt_5 : decode cX1_lostAt 5 = .ok (.iconst 0, 1) := dk_3 (dk_at dksX1_lostAt_0 5 rfl rfl)
theorem dX1_lostAt_6 : decode cX1_lostAt 6 = .ok (.istore_n 3, 1) := dk_62 (dk_at dksX1_lostAt_0 6 rfl rfl)
theorem dX1_lostAt_7 : decode cX1_lostAt 7 = .ok (.iload_n 3, 1) := dk_29 (dk_at dksX1_lostAt_0 7 rfl rfl)
theorem dX1_lostAt_8 : decode cX1_lostAt 8 = .ok (.aload_n 0, 1) := dk_42 (dk_at dksX1_lostAt_0 8 rfl rfl)
theorem dX1_lostAt_9 : decode cX1_lostAt 9 = .ok (.getfield 190, 3) := dk_180 0 190 (dk_at dksX1_lostAt_0 9 rfl rfl)
theorem dX1_lostAt_12 : decode cX1_lostAt 12 = .ok (.if_icmp .ge 54, 3) := dk_162 0 54 (dk_at dksX1_lostAt_0 12 rfl rfl)
theorem dX1_lostAt_15 : decode cX1_lostAt 15 = .ok (.aload_n 0, 1) := dk_42 (dk_at dksX1_lostAt_0 15 rfl rfl)
theorem dX1_lostAt_16 : decode cX1_lostAt 16 = .ok (.getfield 62, 3) := dk_180 0 62 (dk_at dksX1_lostAt_0 16 rfl rfl)
theorem dX1_lostAt_19 : decode cX1_lostAt 19 = .ok (.aload_n 0, 1) := dk_42 (dk_at dksX1_lostAt_0 19 rfl rfl)
theorem dX1_lostAt_20 : decode cX1_lostAt 20 = .ok (.getfield 84, 3) := dk_180 0 84 (dk_at dksX1_lostAt_0 20 rfl rfl)
theorem dX1_lostAt_23 : decode cX1_lostAt 23 = .ok (.aload_n 0, 1) := dk_42 (dk_at dksX1_lostAt_0 23 rfl rfl)
theorem dX1_lostAt_24 : decode cX1_lostAt 24 = .ok (.getfield 127, 3) := dk_180 0 127 (dk_at dksX1_lostAt_1 0 rfl rfl)
theorem dX1_lostAt_27 : decode cX1_lostAt 27 = .ok (.iload_n 3, 1) := dk_29 (dk_at dksX1_lostAt_1 3 rfl rfl)
theorem dX1_lostAt_28 : decode cX1_lostAt 28 = .ok (.iaload, 1) := dk_46 (dk_at dksX1_lostAt_1 4 rfl rfl)
theorem dX1_lostAt_29 : decode cX1_lostAt 29 = .ok (.invokevirtual 386, 3) := dk_182 1 130 (dk_at dksX1_lostAt_1 5 rfl rfl)
theorem dX1_lostAt_32 : decode cX1_lostAt 32 = .ok (.lstore 4, 2) := dk_55 4 (dk_at dksX1_lostAt_1 8 rfl rfl)
theorem dX1_lostAt_34 : decode cX1_lostAt 34 = .ok (.lload_n 1, 1) := dk_31 (dk_at dksX1_lostAt_1 10 rfl rfl)
theorem dX1_lostAt_35 : decode cX1_lostAt 35 = .ok (.aload_n 0, 1) := dk_42 (dk_at dksX1_lostAt_1 11 rfl rfl)
theorem dX1_lostAt_36 : decode cX1_lostAt 36 = .ok (.getfield 454, 3) := dk_180 1 198 (dk_at dksX1_lostAt_1 12 rfl rfl)
theorem dX1_lostAt_39 : decode cX1_lostAt 39 = .ok (.i2l, 1) := dk_133 (dk_at dksX1_lostAt_1 15 rfl rfl)
theorem dX1_lostAt_40 : decode cX1_lostAt 40 = .ok (.iload_n 3, 1) := dk_29 (dk_at dksX1_lostAt_1 16 rfl rfl)
theorem dX1_lostAt_41 : decode cX1_lostAt 41 = .ok (.invokestatic 26, 3) := dk_184 0 26 (dk_at dksX1_lostAt_1 17 rfl rfl)
theorem dX1_lostAt_44 : decode cX1_lostAt 44 = .ok (.ifCond .eq 8, 3) := dk_153 0 8 (dk_at dksX1_lostAt_1 20 rfl rfl)
theorem dX1_lostAt_47 : decode cX1_lostAt 47 = .ok (.lload 4, 2) := dk_22 4 (dk_at dksX1_lostAt_2 0 rfl rfl)
theorem dX1_lostAt_49 : decode cX1_lostAt 49 = .ok (.goto 9, 3) := dk_167 0 9 (dk_at dksX1_lostAt_2 2 rfl rfl)
theorem dX1_lostAt_52 : decode cX1_lostAt 52 = .ok (.lload 4, 2) := dk_22 4 (dk_at dksX1_lostAt_2 5 rfl rfl)
theorem dX1_lostAt_54 : decode cX1_lostAt 54 = .ok (.ldc2_w 156, 3) := dk_20 0 156 (dk_at dksX1_lostAt_2 7 rfl rfl)
theorem dX1_lostAt_57 : decode cX1_lostAt 57 = .ok (.lxor, 1) := dk_131 (dk_at dksX1_lostAt_2 10 rfl rfl)
theorem dX1_lostAt_58 : decode cX1_lostAt 58 = .ok (.land, 1) := dk_127 (dk_at dksX1_lostAt_2 11 rfl rfl)
theorem dX1_lostAt_59 : decode cX1_lostAt 59 = .ok (.lstore_n 1, 1) := dk_64 (dk_at dksX1_lostAt_2 12 rfl rfl)
theorem dX1_lostAt_60 : decode cX1_lostAt 60 = .ok (.iinc 3 1, 3) := dk_132 3 1 (dk_at dksX1_lostAt_2 13 rfl rfl)
theorem dX1_lostAt_63 : decode cX1_lostAt 63 = .ok (.goto (-56), 3) := dk_167 255 200 (dk_at dksX1_lostAt_2 16 rfl rfl)
theorem dX1_lostAt_66 : decode cX1_lostAt 66 = .ok (.lload_n 1, 1) := dk_31 (dk_at dksX1_lostAt_2 19 rfl rfl)
theorem dX1_lostAt_67 : decode cX1_lostAt 67 = .ok (.lreturn, 1) := dk_173 (dk_at dksX1_lostAt_2 20 rfl rfl)
abbrev cX1_asks : ByteArray := prog_1_method_85_code
def yX1_asks : MethodName := ⟨RX1, "asks", "()I"⟩
def dkwX1_asks_4 : List UInt8 := [132, 5, 1, 167, 255, 193, 42, 3, 181, 0, 139, 42, 21, 4, 133, 182, 1, 74, 29, 172]
abbrev dktX1_asks_4 : List UInt8 := dkwX1_asks_4 ++ []
def dkwX1_asks_3 : List UInt8 := [184, 0, 48, 54, 7, 21, 7, 21, 4, 161, 0, 6, 167, 0, 10, 21, 5, 62, 21, 7, 54, 4]
abbrev dktX1_asks_3 : List UInt8 := dkwX1_asks_3 ++ dktX1_asks_4
def dkwX1_asks_2 : List UInt8 := [180, 0, 84, 21, 5, 182, 1, 130, 127, 184, 1, 133, 54, 6, 21, 6, 31, 184, 1, 133, 21, 6, 100]
abbrev dktX1_asks_2 : List UInt8 := dkwX1_asks_2 ++ dktX1_asks_3
def dkwX1_asks_1 : List UInt8 := [19, 1, 173, 54, 4, 3, 54, 5, 21, 5, 42, 180, 0, 150, 162, 0, 60, 31, 42, 180, 0, 62, 42]
abbrev dktX1_asks_1 : List UInt8 := dkwX1_asks_1 ++ dktX1_asks_2
def dkwX1_asks_0 : List UInt8 := [42, 182, 1, 201, 64, 31, 9, 148, 153, 0, 10, 42, 180, 0, 150, 154, 0, 6, 16, 254, 172, 2, 62]
abbrev dktX1_asks_0 : List UInt8 := dkwX1_asks_0 ++ dktX1_asks_1
theorem dksX1_asks_0 : cX1_asks.data.toList.drop 0 = dktX1_asks_0 := by decide +kernel
theorem dksX1_asks_1 : cX1_asks.data.toList.drop 23 = dktX1_asks_1 := dk_seg dksX1_asks_0 23 rfl rfl
theorem dksX1_asks_2 : cX1_asks.data.toList.drop 46 = dktX1_asks_2 := dk_seg dksX1_asks_1 23 rfl rfl
theorem dksX1_asks_3 : cX1_asks.data.toList.drop 69 = dktX1_asks_3 := dk_seg dksX1_asks_2 23 rfl rfl
theorem dksX1_asks_4 : cX1_asks.data.toList.drop 91 = dktX1_asks_4 := dk_seg dksX1_asks_3 22 rfl rfl
theorem dX1_asks_0 : decode cX1_asks 0 = .ok (.aload_n 0, 1) := dk_42 (dk_at dksX1_asks_0 0 rfl rfl)
theorem dX1_asks_1 : decode cX1_asks 1 = .ok (.invokevirtual 457, 3) := dk_182 1 201 (dk_at dksX1_asks_0 1 rfl rfl)
theorem dX1_asks_4 : decode cX1_asks 4 = .ok (.lstore_n 1, 1) := dk_64 (dk_at dksX1_asks_0 4 rfl rfl)
theorem dX1_asks_5 : decode cX1_asks 5 = .ok (.lload_n 1, 1) := dk_31 (dk_at dksX1_asks_0 5 rfl rfl)
theorem dX1_asks_6 : decode cX1_asks 6 = .ok (.lconst 0, 1) := dk_9 (dk_at dksX1_asks_0 6 rfl rfl)
theorem dX1_asks_7 : decode cX1_asks 7 = .ok (.lcmp, 1) := dk_148 (dk_at dksX1_asks_0 7 rfl rfl)
theorem dX1_asks_8 : decode cX1_asks 8 = .ok (.ifCond .eq 10, 3) := dk_153 0 10 (dk_at dksX1_asks_0 8 rfl rfl)
theorem dX1_asks_11 : decode cX1_asks 11 = .ok (.aload_n 0, 1) := dk_42 (dk_at dksX1_asks_0 11 rfl rfl)
theorem dX1_asks_12 : decode cX1_asks 12 = .ok (.getfield 150, 3) := dk_180 0 150 (dk_at dksX1_asks_0 12 rfl rfl)
theorem dX1_asks_15 : decode cX1_asks 15 = .ok (.ifCond .ne 6, 3) := dk_154 0 6 (dk_at dksX1_asks_0 15 rfl rfl)
theorem dX1_asks_18 : decode cX1_asks 18 = .ok (.bipush (-2), 2) := dk_16 254 (dk_at dksX1_asks_0 18 rfl rfl)
theorem dX1_asks_20 : decode cX1_asks 20 = .ok (.ireturn, 1) := dk_172 (dk_at dksX1_asks_0 20 rfl rfl)
theorem dX1_asks_21 : decode cX1_asks 21 = .ok (.iconst (-1), 1) := dk_2 (dk_at dksX1_asks_0 21 rfl rfl)
theorem dX1_asks_22 : decode cX1_asks 22 = .ok (.istore_n 3, 1) := dk_62 (dk_at dksX1_asks_0 22 rfl rfl)
theorem dX1_asks_23 : decode cX1_asks 23 = .ok (.ldc_w 429, 3) := dk_19 1 173 (dk_at dksX1_asks_1 0 rfl rfl)
theorem dX1_asks_26 : decode cX1_asks 26 = .ok (.istore 4, 2) := dk_54 4 (dk_at dksX1_asks_1 3 rfl rfl)
theorem dX1_asks_28 : decode cX1_asks 28 = .ok (.iconst 0, 1) := dk_3 (dk_at dksX1_asks_1 5 rfl rfl)
theorem dX1_asks_29 : decode cX1_asks 29 = .ok (.istore 5, 2) := dk_54 5 (dk_at dksX1_asks_1 6 rfl rfl)
theorem dX1_asks_31 : decode cX1_asks 31 = .ok (.iload 5, 2) := dk_21 5 (dk_at dksX1_asks_1 8 rfl rfl)
theorem dX1_asks_33 : decode cX1_asks 33 = .ok (.aload_n 0, 1) := dk_42 (dk_at dksX1_asks_1 10 rfl rfl)
theorem dX1_asks_34 : decode cX1_asks 34 = .ok (.getfield 150, 3) := dk_180 0 150 (dk_at dksX1_asks_1 11 rfl rfl)
theorem dX1_asks_37 : decode cX1_asks 37 = .ok (.if_icmp .ge 60, 3) := dk_162 0 60 (dk_at dksX1_asks_1 14 rfl rfl)
theorem dX1_asks_40 : decode cX1_asks 40 = .ok (.lload_n 1, 1) := dk_31 (dk_at dksX1_asks_1 17 rfl rfl)
theorem dX1_asks_41 : decode cX1_asks 41 = .ok (.aload_n 0, 1) := dk_42 (dk_at dksX1_asks_1 18 rfl rfl)
theorem dX1_asks_42 : decode cX1_asks 42 = .ok (.getfield 62, 3) := dk_180 0 62 (dk_at dksX1_asks_1 19 rfl rfl)
theorem dX1_asks_45 : decode cX1_asks 45 = .ok (.aload_n 0, 1) := dk_42 (dk_at dksX1_asks_1 22 rfl rfl)
theorem dX1_asks_46 : decode cX1_asks 46 = .ok (.getfield 84, 3) := dk_180 0 84 (dk_at dksX1_asks_2 0 rfl rfl)
theorem dX1_asks_49 : decode cX1_asks 49 = .ok (.iload 5, 2) := dk_21 5 (dk_at dksX1_asks_2 3 rfl rfl)
theorem dX1_asks_51 : decode cX1_asks 51 = .ok (.invokevirtual 386, 3) := dk_182 1 130 (dk_at dksX1_asks_2 5 rfl rfl)
theorem dX1_asks_54 : decode cX1_asks 54 = .ok (.land, 1) := dk_127 (dk_at dksX1_asks_2 8 rfl rfl)
theorem dX1_asks_55 : decode cX1_asks 55 = .ok (.invokestatic 389, 3) := dk_184 1 133 (dk_at dksX1_asks_2 9 rfl rfl)
theorem dX1_asks_58 : decode cX1_asks 58 = .ok (.istore 6, 2) := dk_54 6 (dk_at dksX1_asks_2 12 rfl rfl)
theorem dX1_asks_60 : decode cX1_asks 60 = .ok (.iload 6, 2) := dk_21 6 (dk_at dksX1_asks_2 14 rfl rfl)
theorem dX1_asks_62 : decode cX1_asks 62 = .ok (.lload_n 1, 1) := dk_31 (dk_at dksX1_asks_2 16 rfl rfl)
theorem dX1_asks_63 : decode cX1_asks 63 = .ok (.invokestatic 389, 3) := dk_184 1 133 (dk_at dksX1_asks_2 17 rfl rfl)
theorem dX1_asks_66 : decode cX1_asks 66 = .ok (.iload 6, 2) := dk_21 6 (dk_at dksX1_asks_2 20 rfl rfl)
theorem dX1_asks_68 : decode cX1_asks 68 = .ok (.isub, 1) := dk_100 (dk_at dksX1_asks_2 22 rfl rfl)
theorem dX1_asks_69 : decode cX1_asks 69 = .ok (.invokestatic 48, 3) := dk_184 0 48 (dk_at dksX1_asks_3 0 rfl rfl)
theorem dX1_asks_72 : decode cX1_asks 72 = .ok (.istore 7, 2) := dk_54 7 (dk_at dksX1_asks_3 3 rfl rfl)
theorem dX1_asks_74 : decode cX1_asks 74 = .ok (.iload 7, 2) := dk_21 7 (dk_at dksX1_asks_3 5 rfl rfl)
theorem dX1_asks_76 : decode cX1_asks 76 = .ok (.iload 4, 2) := dk_21 4 (dk_at dksX1_asks_3 7 rfl rfl)
theorem dX1_asks_78 : decode cX1_asks 78 = .ok (.if_icmp .lt 6, 3) := dk_161 0 6 (dk_at dksX1_asks_3 9 rfl rfl)
theorem dX1_asks_81 : decode cX1_asks 81 = .ok (.goto 10, 3) := dk_167 0 10 (dk_at dksX1_asks_3 12 rfl rfl)
theorem dX1_asks_84 : decode cX1_asks 84 = .ok (.iload 5, 2) := dk_21 5 (dk_at dksX1_asks_3 15 rfl rfl)
theorem dX1_asks_86 : decode cX1_asks 86 = .ok (.istore_n 3, 1) := dk_62 (dk_at dksX1_asks_3 17 rfl rfl)
theorem dX1_asks_87 : decode cX1_asks 87 = .ok (.iload 7, 2) := dk_21 7 (dk_at dksX1_asks_3 18 rfl rfl)
theorem dX1_asks_89 : decode cX1_asks 89 = .ok (.istore 4, 2) := dk_54 4 (dk_at dksX1_asks_3 20 rfl rfl)
theorem dX1_asks_91 : decode cX1_asks 91 = .ok (.iinc 5 1, 3) := dk_132 5 1 (dk_at dksX1_asks_4 0 rfl rfl)
theorem dX1_asks_94 : decode cX1_asks 94 = .ok (.goto (-63), 3) := dk_167 255 193 (dk_at dksX1_asks_4 3 rfl rfl)
theorem dX1_asks_97 : decode cX1_asks 97 = .ok (.aload_n 0, 1) := dk_42 (dk_at dksX1_asks_4 6 rfl rfl)
theorem dX1_asks_98 : decode cX1_asks 98 = .ok (.iconst 0, 1) := dk_3 (dk_at dksX1_asks_4 7 rfl rfl)
theorem dX1_asks_99 : decode cX1_asks 99 = .ok (.putfield 139, 3) := dk_181 0 139 (dk_at dksX1_asks_4 8 rfl rfl)
theorem dX1_asks_102 : decode cX1_asks 102 = .ok (.aload_n 0, 1) := dk_42 (dk_at dksX1_asks_4 11 rfl rfl)
theorem dX1_asks_103 : decode cX1_asks 103 = .ok (.iload 4, 2) := dk_21 4 (dk_at dksX1_asks_4 12 rfl rfl)
theorem dX1_asks_105 : decode cX1_asks 105 = .ok (.i2l, 1) := dk_133 (dk_at dksX1_asks_4 14 rfl rfl)
theorem dX1_asks_106 : decode cX1_asks 106 = .ok (.invokevirtual 330, 3) := dk_182 1 74 (dk_at dksX1_asks_4 15 rfl rfl)
theorem dX1_asks_109 : decode cX1_asks 109 = .ok (.iload_n 3, 1) := dk_29 (dk_at dksX1_asks_4 18 rfl rfl)
theorem dX1_asks_110 : decode cX1_asks 110 = .ok (.ireturn, 1) := dk_172 (dk_at dksX1_asks_4 19 rfl rfl)
abbrev cX1_storm : ByteArray := prog_1_method_87_code
def yX1_storm : MethodName := ⟨RX1, "storm", "(III)I"⟩
def dkwX1_storm_10 : List UInt8 := [182, 1, 74, 42, 22, 5, 22, 9, 109, 182, 1, 74, 3, 172]
abbrev dktX1_storm_10 : List UInt8 := dkwX1_storm_10 ++ []
def dkwX1_storm_9 : List UInt8 := [167, 255, 236, 22, 7, 22, 5, 184, 1, 204, 55, 9, 42, 3, 181, 0, 139, 42, 22, 7, 22, 9, 109]
abbrev dktX1_storm_9 : List UInt8 := dkwX1_storm_9 ++ dktX1_storm_10
def dkwX1_storm_8 : List UInt8 := [54, 9, 21, 9, 16, 8, 163, 0, 19, 22, 7, 25, 4, 21, 9, 47, 97, 55, 7, 132, 9, 1]
abbrev dktX1_storm_8 : List UInt8 := dkwX1_storm_8 ++ dktX1_storm_9
def dkwX1_storm_7 : List UInt8 := [132, 9, 255, 167, 255, 210, 22, 5, 20, 1, 210, 105, 55, 5, 132, 7, 1, 167, 255, 127, 9, 55, 7, 28]
abbrev dktX1_storm_7 : List UInt8 := dkwX1_storm_7 ++ dktX1_storm_8
def dkwX1_storm_6 : List UInt8 := [21, 9, 158, 0, 17, 25, 4, 21, 9, 4, 100, 47, 21, 8, 133, 105, 167, 0, 4, 9, 97, 80]
abbrev dktX1_storm_6 : List UInt8 := dkwX1_storm_6 ++ dktX1_storm_7
def dkwX1_storm_5 : List UInt8 := [54, 9, 21, 9, 155, 0, 47, 25, 4, 21, 9, 25, 4, 21, 9, 47, 16, 10, 21, 8, 100, 133, 105]
abbrev dktX1_storm_5 : List UInt8 := dkwX1_storm_5 ++ dktX1_storm_6
def dkwX1_storm_4 : List UInt8 := [180, 0, 84, 21, 7, 27, 182, 1, 180, 153, 0, 7, 29, 167, 0, 4, 3, 96, 54, 8, 21, 7, 4, 96]
abbrev dktX1_storm_4 : List UInt8 := dkwX1_storm_4 ++ dktX1_storm_5
def dkwX1_storm_3 : List UInt8 := [27, 182, 0, 246, 153, 0, 10, 16, 10, 29, 100, 167, 0, 4, 3, 42, 180, 0, 76, 3, 182, 1, 177, 42]
abbrev dktX1_storm_3 : List UInt8 := dkwX1_storm_3 ++ dktX1_storm_4
def dkwX1_storm_2 : List UInt8 := [55, 5, 3, 54, 7, 21, 7, 42, 180, 0, 150, 162, 0, 126, 42, 180, 0, 62, 42, 180, 0, 84, 21, 7]
abbrev dktX1_storm_2 : List UInt8 := dkwX1_storm_2 ++ dktX1_storm_3
def dkwX1_storm_1 : List UInt8 := [20, 1, 210, 184, 0, 146, 154, 0, 5, 2, 172, 16, 10, 188, 11, 58, 4, 25, 4, 3, 10, 80, 10]
abbrev dktX1_storm_1 : List UInt8 := dkwX1_storm_1 ++ dktX1_storm_2
def dkwX1_storm_0 : List UInt8 := [42, 27, 182, 1, 102, 153, 0, 27, 28, 133, 9, 20, 1, 208, 184, 0, 146, 153, 0, 15, 29, 133, 9]
abbrev dktX1_storm_0 : List UInt8 := dkwX1_storm_0 ++ dktX1_storm_1
theorem dksX1_storm_0 : cX1_storm.data.toList.drop 0 = dktX1_storm_0 := by decide +kernel
theorem dksX1_storm_1 : cX1_storm.data.toList.drop 23 = dktX1_storm_1 := dk_seg dksX1_storm_0 23 rfl rfl
theorem dksX1_storm_2 : cX1_storm.data.toList.drop 46 = dktX1_storm_2 := dk_seg dksX1_storm_1 23 rfl rfl
theorem dksX1_storm_3 : cX1_storm.data.toList.drop 70 = dktX1_storm_3 := dk_seg dksX1_storm_2 24 rfl rfl
theorem dksX1_storm_4 : cX1_storm.data.toList.drop 94 = dktX1_storm_4 := dk_seg dksX1_storm_3 24 rfl rfl
theorem dksX1_storm_5 : cX1_storm.data.toList.drop 118 = dktX1_storm_5 := dk_seg dksX1_storm_4 24 rfl rfl
theorem dksX1_storm_6 : cX1_storm.data.toList.drop 141 = dktX1_storm_6 := dk_seg dksX1_storm_5 23 rfl rfl
theorem dksX1_storm_7 : cX1_storm.data.toList.drop 163 = dktX1_storm_7 := dk_seg dksX1_storm_6 22 rfl rfl
theorem dksX1_storm_8 : cX1_storm.data.toList.drop 187 = dktX1_storm_8 := dk_seg dksX1_storm_7 24 rfl rfl
theorem dksX1_storm_9 : cX1_storm.data.toList.drop 209 = dktX1_storm_9 := dk_seg dksX1_storm_8 22 rfl rfl
theorem dksX1_storm_10 : cX1_storm.data.toList.drop 232 = dktX1_storm_10 := dk_seg dksX1_storm_9 23 rfl rfl
theorem dX1_storm_0 : decode cX1_storm 0 = .ok (.aload_n 0, 1) := dk_42 (dk_at dksX1_storm_0 0 rfl rfl)
theorem dX1_storm_1 : decode cX1_storm 1 = .ok (.iload_n 1, 1) := dk_27 (dk_at dksX1_storm_0 1 rfl rfl)
theorem dX1_storm_2 : decode cX1_storm 2 = .ok (.invokevirtual 358, 3) := dk_182 1 102 (dk_at dksX1_storm_0 2 rfl rfl)
theorem dX1_storm_5 : decode cX1_storm 5 = .ok (.ifCond .eq 27, 3) := dk_153 0 27 (dk_at dksX1_storm_0 5 rfl rfl)
theorem dX1_storm_8 : decode cX1_storm 8 = .ok (.iload_n 2, 1) := dk_28 (dk_at dksX1_storm_0 8 rfl rfl)
theorem dX1_storm_9 : decode cX1_storm 9 = .ok (.i2l, 1) := dk_133 (dk_at dksX1_storm_0 9 rfl rfl)
theorem dX1_storm_10 : decode cX1_storm 10 = .ok (.lconst 0, 1) := dk_9 (dk_at dksX1_storm_0 10 rfl rfl)
theorem dX1_storm_11 : decode cX1_storm 11 = .ok (.ldc2_w 464, 3) := dk_20 1 208 (dk_at dksX1_storm_0 11 rfl rfl)
theorem dX1_storm_14 : decode cX1_storm 14 = .ok (.invokestatic 146, 3) := dk_184 0 146 (dk_at dksX1_storm_0 14 rfl rfl)
theorem dX1_storm_17 : decode cX1_storm 17 = .ok (.ifCond .eq 15, 3) := dk_153 0 15 (dk_at dksX1_storm_0 17 rfl rfl)
theorem dX1_storm_20 : decode cX1_storm 20 = .ok (.iload_n 3, 1) := dk_29 (dk_at dksX1_storm_0 20 rfl rfl)
theorem dX1_storm_21 : decode cX1_storm 21 = .ok (.i2l, 1) := dk_133 (dk_at dksX1_storm_0 21 rfl rfl)
theorem dX1_storm_22 : decode cX1_storm 22 = .ok (.lconst 0, 1) := dk_9 (dk_at dksX1_storm_0 22 rfl rfl)
theorem dX1_storm_23 : decode cX1_storm 23 = .ok (.ldc2_w 466, 3) := dk_20 1 210 (dk_at dksX1_storm_1 0 rfl rfl)
theorem dX1_storm_26 : decode cX1_storm 26 = .ok (.invokestatic 146, 3) := dk_184 0 146 (dk_at dksX1_storm_1 3 rfl rfl)
theorem dX1_storm_29 : decode cX1_storm 29 = .ok (.ifCond .ne 5, 3) := dk_154 0 5 (dk_at dksX1_storm_1 6 rfl rfl)
theorem dX1_storm_32 : decode cX1_storm 32 = .ok (.iconst (-1), 1) := dk_2 (dk_at dksX1_storm_1 9 rfl rfl)
theorem dX1_storm_33 : decode cX1_storm 33 = .ok (.ireturn, 1) := dk_172 (dk_at dksX1_storm_1 10 rfl rfl)
theorem dX1_storm_34 : decode cX1_storm 34 = .ok (.bipush 10, 2) := dk_16 10 (dk_at dksX1_storm_1 11 rfl rfl)
theorem dX1_storm_36 : decode cX1_storm 36 = .ok (.newarray .long, 2) := dk_188_11 (dk_at dksX1_storm_1 13 rfl rfl)
theorem dX1_storm_38 : decode cX1_storm 38 = .ok (.astore 4, 2) := dk_58 4 (dk_at dksX1_storm_1 15 rfl rfl)
theorem dX1_storm_40 : decode cX1_storm 40 = .ok (.aload 4, 2) := dk_25 4 (dk_at dksX1_storm_1 17 rfl rfl)
theorem dX1_storm_42 : decode cX1_storm 42 = .ok (.iconst 0, 1) := dk_3 (dk_at dksX1_storm_1 19 rfl rfl)
theorem dX1_storm_43 : decode cX1_storm 43 = .ok (.lconst 1, 1) := dk_10 (dk_at dksX1_storm_1 20 rfl rfl)
theorem dX1_storm_44 : decode cX1_storm 44 = .ok (.lastore, 1) := dk_80 (dk_at dksX1_storm_1 21 rfl rfl)
theorem dX1_storm_45 : decode cX1_storm 45 = .ok (.lconst 1, 1) := dk_10 (dk_at dksX1_storm_1 22 rfl rfl)
theorem dX1_storm_46 : decode cX1_storm 46 = .ok (.lstore 5, 2) := dk_55 5 (dk_at dksX1_storm_2 0 rfl rfl)
theorem dX1_storm_48 : decode cX1_storm 48 = .ok (.iconst 0, 1) := dk_3 (dk_at dksX1_storm_2 2 rfl rfl)
theorem dX1_storm_49 : decode cX1_storm 49 = .ok (.istore 7, 2) := dk_54 7 (dk_at dksX1_storm_2 3 rfl rfl)
theorem dX1_storm_51 : decode cX1_storm 51 = .ok (.iload 7, 2) := dk_21 7 (dk_at dksX1_storm_2 5 rfl rfl)
theorem dX1_storm_53 : decode cX1_storm 53 = .ok (.aload_n 0, 1) := dk_42 (dk_at dksX1_storm_2 7 rfl rfl)
theorem dX1_storm_54 : decode cX1_storm 54 = .ok (.getfield 150, 3) := dk_180 0 150 (dk_at dksX1_storm_2 8 rfl rfl)
theorem dX1_storm_57 : decode cX1_storm 57 = .ok (.if_icmp .ge 126, 3) := dk_162 0 126 (dk_at dksX1_storm_2 11 rfl rfl)
theorem dX1_storm_60 : decode cX1_storm 60 = .ok (.aload_n 0, 1) := dk_42 (dk_at dksX1_storm_2 14 rfl rfl)
theorem dX1_storm_61 : decode cX1_storm 61 = .ok (.getfield 62, 3) := dk_180 0 62 (dk_at dksX1_storm_2 15 rfl rfl)
theorem dX1_storm_64 : decode cX1_storm 64 = .ok (.aload_n 0, 1) := dk_42 (dk_at dksX1_storm_2 18 rfl rfl)
theorem dX1_storm_65 : decode cX1_storm 65 = .ok (.getfield 84, 3) := dk_180 0 84 (dk_at dksX1_storm_2 19 rfl rfl)
theorem dX1_storm_68 : decode cX1_storm 68 = .ok (.iload 7, 2) := dk_21 7 (dk_at dksX1_storm_2 22 rfl rfl)
theorem dX1_storm_70 : decode cX1_storm 70 = .ok (.iload_n 1, 1) := dk_27 (dk_at dksX1_storm_3 0 rfl rfl)
theorem dX1_storm_71 : decode cX1_storm 71 = .ok (.invokevirtual 246, 3) := dk_182 0 246 (dk_at dksX1_storm_3 1 rfl rfl)
theorem dX1_storm_74 : decode cX1_storm 74 = .ok (.ifCond .eq 10, 3) := dk_153 0 10 (dk_at dksX1_storm_3 4 rfl rfl)
theorem dX1_storm_77 : decode cX1_storm 77 = .ok (.bipush 10, 2) := dk_16 10 (dk_at dksX1_storm_3 7 rfl rfl)
theorem dX1_storm_79 : decode cX1_storm 79 = .ok (.iload_n 3, 1) := dk_29 (dk_at dksX1_storm_3 9 rfl rfl)
theorem dX1_storm_80 : decode cX1_storm 80 = .ok (.isub, 1) := dk_100 (dk_at dksX1_storm_3 10 rfl rfl)
theorem dX1_storm_81 : decode cX1_storm 81 = .ok (.goto 4, 3) := dk_167 0 4 (dk_at dksX1_storm_3 11 rfl rfl)
theorem dX1_storm_84 : decode cX1_storm 84 = .ok (.iconst 0, 1) := dk_3 (dk_at dksX1_storm_3 14 rfl rfl)
theorem dX1_storm_85 : decode cX1_storm 85 = .ok (.aload_n 0, 1) := dk_42 (dk_at dksX1_storm_3 15 rfl rfl)
theorem dX1_storm_86 : decode cX1_storm 86 = .ok (.getfield 76, 3) := dk_180 0 76 (dk_at dksX1_storm_3 16 rfl rfl)
theorem dX1_storm_89 : decode cX1_storm 89 = .ok (.iconst 0, 1) := dk_3 (dk_at dksX1_storm_3 19 rfl rfl)
theorem dX1_storm_90 : decode cX1_storm 90 = .ok (.invokevirtual 433, 3) := dk_182 1 177 (dk_at dksX1_storm_3 20 rfl rfl)
theorem dX1_storm_93 : decode cX1_storm 93 = .ok (.aload_n 0, 1) := dk_42 (dk_at dksX1_storm_3 23 rfl rfl)
theorem dX1_storm_94 : decode cX1_storm 94 = .ok (.getfield 84, 3) := dk_180 0 84 (dk_at dksX1_storm_4 0 rfl rfl)
theorem dX1_storm_97 : decode cX1_storm 97 = .ok (.iload 7, 2) := dk_21 7 (dk_at dksX1_storm_4 3 rfl rfl)
theorem dX1_storm_99 : decode cX1_storm 99 = .ok (.iload_n 1, 1) := dk_27 (dk_at dksX1_storm_4 5 rfl rfl)
theorem dX1_storm_100 : decode cX1_storm 100 = .ok (.invokevirtual 436, 3) := dk_182 1 180 (dk_at dksX1_storm_4 6 rfl rfl)
theorem dX1_storm_103 : decode cX1_storm 103 = .ok (.ifCond .eq 7, 3) := dk_153 0 7 (dk_at dksX1_storm_4 9 rfl rfl)
theorem dX1_storm_106 : decode cX1_storm 106 = .ok (.iload_n 3, 1) := dk_29 (dk_at dksX1_storm_4 12 rfl rfl)
theorem dX1_storm_107 : decode cX1_storm 107 = .ok (.goto 4, 3) := dk_167 0 4 (dk_at dksX1_storm_4 13 rfl rfl)
theorem dX1_storm_110 : decode cX1_storm 110 = .ok (.iconst 0, 1) := dk_3 (dk_at dksX1_storm_4 16 rfl rfl)
theorem dX1_storm_111 : decode cX1_storm 111 = .ok (.iadd, 1) := dk_96 (dk_at dksX1_storm_4 17 rfl rfl)
theorem dX1_storm_112 : decode cX1_storm 112 = .ok (.istore 8, 2) := dk_54 8 (dk_at dksX1_storm_4 18 rfl rfl)
theorem dX1_storm_114 : decode cX1_storm 114 = .ok (.iload 7, 2) := dk_21 7 (dk_at dksX1_storm_4 20 rfl rfl)
theorem dX1_storm_116 : decode cX1_storm 116 = .ok (.iconst 1, 1) := dk_4 (dk_at dksX1_storm_4 22 rfl rfl)
theorem dX1_storm_117 : decode cX1_storm 117 = .ok (.iadd, 1) := dk_96 (dk_at dksX1_storm_4 23 rfl rfl)
theorem dX1_storm_118 : decode cX1_storm 118 = .ok (.istore 9, 2) := dk_54 9 (dk_at dksX1_storm_5 0 rfl rfl)
theorem dX1_storm_120 : decode cX1_storm 120 = .ok (.iload 9, 2) := dk_21 9 (dk_at dksX1_storm_5 2 rfl rfl)
theorem dX1_storm_122 : decode cX1_storm 122 = .ok (.ifCond .lt 47, 3) := dk_155 0 47 (dk_at dksX1_storm_5 4 rfl rfl)
theorem dX1_storm_125 : decode cX1_storm 125 = .ok (.aload 4, 2) := dk_25 4 (dk_at dksX1_storm_5 7 rfl rfl)
theorem dX1_storm_127 : decode cX1_storm 127 = .ok (.iload 9, 2) := dk_21 9 (dk_at dksX1_storm_5 9 rfl rfl)
theorem dX1_storm_129 : decode cX1_storm 129 = .ok (.aload 4, 2) := dk_25 4 (dk_at dksX1_storm_5 11 rfl rfl)
theorem dX1_storm_131 : decode cX1_storm 131 = .ok (.iload 9, 2) := dk_21 9 (dk_at dksX1_storm_5 13 rfl rfl)
theorem dX1_storm_133 : decode cX1_storm 133 = .ok (.laload, 1) := dk_47 (dk_at dksX1_storm_5 15 rfl rfl)
theorem dX1_storm_134 : decode cX1_storm 134 = .ok (.bipush 10, 2) := dk_16 10 (dk_at dksX1_storm_5 16 rfl rfl)
theorem dX1_storm_136 : decode cX1_storm 136 = .ok (.iload 8, 2) := dk_21 8 (dk_at dksX1_storm_5 18 rfl rfl)
theorem dX1_storm_138 : decode cX1_storm 138 = .ok (.isub, 1) := dk_100 (dk_at dksX1_storm_5 20 rfl rfl)
theorem dX1_storm_139 : decode cX1_storm 139 = .ok (.i2l, 1) := dk_133 (dk_at dksX1_storm_5 21 rfl rfl)
theorem dX1_storm_140 : decode cX1_storm 140 = .ok (.lmul, 1) := dk_105 (dk_at dksX1_storm_5 22 rfl rfl)
theorem dX1_storm_141 : decode cX1_storm 141 = .ok (.iload 9, 2) := dk_21 9 (dk_at dksX1_storm_6 0 rfl rfl)
theorem dX1_storm_143 : decode cX1_storm 143 = .ok (.ifCond .le 17, 3) := dk_158 0 17 (dk_at dksX1_storm_6 2 rfl rfl)
theorem dX1_storm_146 : decode cX1_storm 146 = .ok (.aload 4, 2) := dk_25 4 (dk_at dksX1_storm_6 5 rfl rfl)
theorem dX1_storm_148 : decode cX1_storm 148 = .ok (.iload 9, 2) := dk_21 9 (dk_at dksX1_storm_6 7 rfl rfl)
theorem dX1_storm_150 : decode cX1_storm 150 = .ok (.iconst 1, 1) := dk_4 (dk_at dksX1_storm_6 9 rfl rfl)
theorem dX1_storm_151 : decode cX1_storm 151 = .ok (.isub, 1) := dk_100 (dk_at dksX1_storm_6 10 rfl rfl)
theorem dX1_storm_152 : decode cX1_storm 152 = .ok (.laload, 1) := dk_47 (dk_at dksX1_storm_6 11 rfl rfl)
theorem dX1_storm_153 : decode cX1_storm 153 = .ok (.iload 8, 2) := dk_21 8 (dk_at dksX1_storm_6 12 rfl rfl)
theorem dX1_storm_155 : decode cX1_storm 155 = .ok (.i2l, 1) := dk_133 (dk_at dksX1_storm_6 14 rfl rfl)
theorem dX1_storm_156 : decode cX1_storm 156 = .ok (.lmul, 1) := dk_105 (dk_at dksX1_storm_6 15 rfl rfl)
theorem dX1_storm_157 : decode cX1_storm 157 = .ok (.goto 4, 3) := dk_167 0 4 (dk_at dksX1_storm_6 16 rfl rfl)
theorem dX1_storm_160 : decode cX1_storm 160 = .ok (.lconst 0, 1) := dk_9 (dk_at dksX1_storm_6 19 rfl rfl)
theorem dX1_storm_161 : decode cX1_storm 161 = .ok (.ladd, 1) := dk_97 (dk_at dksX1_storm_6 20 rfl rfl)
theorem dX1_storm_162 : decode cX1_storm 162 = .ok (.lastore, 1) := dk_80 (dk_at dksX1_storm_6 21 rfl rfl)
theorem dX1_storm_163 : decode cX1_storm 163 = .ok (.iinc 9 (-1), 3) := dk_132 9 255 (dk_at dksX1_storm_7 0 rfl rfl)
theorem dX1_storm_166 : decode cX1_storm 166 = .ok (.goto (-46), 3) := dk_167 255 210 (dk_at dksX1_storm_7 3 rfl rfl)
theorem dX1_storm_169 : decode cX1_storm 169 = .ok (.lload 5, 2) := dk_22 5 (dk_at dksX1_storm_7 6 rfl rfl)
theorem dX1_storm_171 : decode cX1_storm 171 = .ok (.ldc2_w 466, 3) := dk_20 1 210 (dk_at dksX1_storm_7 8 rfl rfl)
theorem dX1_storm_174 : decode cX1_storm 174 = .ok (.lmul, 1) := dk_105 (dk_at dksX1_storm_7 11 rfl rfl)
theorem dX1_storm_175 : decode cX1_storm 175 = .ok (.lstore 5, 2) := dk_55 5 (dk_at dksX1_storm_7 12 rfl rfl)
theorem dX1_storm_177 : decode cX1_storm 177 = .ok (.iinc 7 1, 3) := dk_132 7 1 (dk_at dksX1_storm_7 14 rfl rfl)
theorem dX1_storm_180 : decode cX1_storm 180 = .ok (.goto (-129), 3) := dk_167 255 127 (dk_at dksX1_storm_7 17 rfl rfl)
theorem dX1_storm_183 : decode cX1_storm 183 = .ok (.lconst 0, 1) := dk_9 (dk_at dksX1_storm_7 20 rfl rfl)
theorem dX1_storm_184 : decode cX1_storm 184 = .ok (.lstore 7, 2) := dk_55 7 (dk_at dksX1_storm_7 21 rfl rfl)
theorem dX1_storm_186 : decode cX1_storm 186 = .ok (.iload_n 2, 1) := dk_28 (dk_at dksX1_storm_7 23 rfl rfl)
theorem dX1_storm_187 : decode cX1_storm 187 = .ok (.istore 9, 2) := dk_54 9 (dk_at dksX1_storm_8 0 rfl rfl)
theorem dX1_storm_189 : decode cX1_storm 189 = .ok (.iload 9, 2) := dk_21 9 (dk_at dksX1_storm_8 2 rfl rfl)
theorem dX1_storm_191 : decode cX1_storm 191 = .ok (.bipush 8, 2) := dk_16 8 (dk_at dksX1_storm_8 4 rfl rfl)
theorem dX1_storm_193 : decode cX1_storm 193 = .ok (.if_icmp .gt 19, 3) := dk_163 0 19 (dk_at dksX1_storm_8 6 rfl rfl)
theorem dX1_storm_196 : decode cX1_storm 196 = .ok (.lload 7, 2) := dk_22 7 (dk_at dksX1_storm_8 9 rfl rfl)
theorem dX1_storm_198 : decode cX1_storm 198 = .ok (.aload 4, 2) := dk_25 4 (dk_at dksX1_storm_8 11 rfl rfl)
theorem dX1_storm_200 : decode cX1_storm 200 = .ok (.iload 9, 2) := dk_21 9 (dk_at dksX1_storm_8 13 rfl rfl)
theorem dX1_storm_202 : decode cX1_storm 202 = .ok (.laload, 1) := dk_47 (dk_at dksX1_storm_8 15 rfl rfl)
theorem dX1_storm_203 : decode cX1_storm 203 = .ok (.ladd, 1) := dk_97 (dk_at dksX1_storm_8 16 rfl rfl)
theorem dX1_storm_204 : decode cX1_storm 204 = .ok (.lstore 7, 2) := dk_55 7 (dk_at dksX1_storm_8 17 rfl rfl)
theorem dX1_storm_206 : decode cX1_storm 206 = .ok (.iinc 9 1, 3) := dk_132 9 1 (dk_at dksX1_storm_8 19 rfl rfl)
theorem dX1_storm_209 : decode cX1_storm 209 = .ok (.goto (-20), 3) := dk_167 255 236 (dk_at dksX1_storm_9 0 rfl rfl)
theorem dX1_storm_212 : decode cX1_storm 212 = .ok (.lload 7, 2) := dk_22 7 (dk_at dksX1_storm_9 3 rfl rfl)
theorem dX1_storm_214 : decode cX1_storm 214 = .ok (.lload 5, 2) := dk_22 5 (dk_at dksX1_storm_9 5 rfl rfl)
theorem dX1_storm_216 : decode cX1_storm 216 = .ok (.invokestatic 460, 3) := dk_184 1 204 (dk_at dksX1_storm_9 7 rfl rfl)
theorem dX1_storm_219 : decode cX1_storm 219 = .ok (.lstore 9, 2) := dk_55 9 (dk_at dksX1_storm_9 10 rfl rfl)
theorem dX1_storm_221 : decode cX1_storm 221 = .ok (.aload_n 0, 1) := dk_42 (dk_at dksX1_storm_9 12 rfl rfl)
theorem dX1_storm_222 : decode cX1_storm 222 = .ok (.iconst 0, 1) := dk_3 (dk_at dksX1_storm_9 13 rfl rfl)
theorem dX1_storm_223 : decode cX1_storm 223 = .ok (.putfield 139, 3) := dk_181 0 139 (dk_at dksX1_storm_9 14 rfl rfl)
theorem dX1_storm_226 : decode cX1_storm 226 = .ok (.aload_n 0, 1) := dk_42 (dk_at dksX1_storm_9 17 rfl rfl)
theorem dX1_storm_227 : decode cX1_storm 227 = .ok (.lload 7, 2) := dk_22 7 (dk_at dksX1_storm_9 18 rfl rfl)
theorem dX1_storm_229 : decode cX1_storm 229 = .ok (.lload 9, 2) := dk_22 9 (dk_at dksX1_storm_9 20 rfl rfl)
theorem dX1_storm_231 : decode cX1_storm 231 = .ok (.ldiv, 1) := dk_109 (dk_at dksX1_storm_9 22 rfl rfl)
theorem dX1_storm_232 : decode cX1_storm 232 = .ok (.invokevirtual 330, 3) := dk_182 1 74 (dk_at dksX1_storm_10 0 rfl rfl)
theorem dX1_storm_235 : decode cX1_storm 235 = .ok (.aload_n 0, 1) := dk_42 (dk_at dksX1_storm_10 3 rfl rfl)
theorem dX1_storm_236 : decode cX1_storm 236 = .ok (.lload 5, 2) := dk_22 5 (dk_at dksX1_storm_10 4 rfl rfl)
theorem dX1_storm_238 : decode cX1_storm 238 = .ok (.lload 9, 2) := dk_22 9 (dk_at dksX1_storm_10 6 rfl rfl)
theorem dX1_storm_240 : decode cX1_storm 240 = .ok (.ldiv, 1) := dk_109 (dk_at dksX1_storm_10 8 rfl rfl)
theorem dX1_storm_241 : decode cX1_storm 241 = .ok (.invokevirtual 330, 3) := dk_182 1 74 (dk_at dksX1_storm_10 9 rfl rfl)
theorem dX1_storm_244 : decode cX1_storm 244 = .ok (.iconst 0, 1) := dk_3 (dk_at dksX1_storm_10 12 rfl rfl)
theorem dX1_storm_245 : decode cX1_storm 245 = .ok (.ireturn, 1) := dk_172 (dk_at dksX1_storm_10 13 rfl rfl)
abbrev cX1_common : ByteArray := prog_1_method_86_code
def yX1_common : MethodName := ⟨RX1, "common", "(JJ)J"⟩
def dkwX1_common_0 : List UInt8 := [32, 9, 148, 154, 0, 7, 30, 167, 0, 10, 32, 30, 32, 113, 184, 1, 204, 173]
abbrev dktX1_common_0 : List UInt8 := dkwX1_common_0 ++ []
theorem dksX1_common_0 : cX1_common.data.toList.drop 0 = dktX1_common_0 := by decide +kernel
theorem dX1_common_0 : decode cX1_common 0 = .ok (.lload_n 2, 1) := dk_32 (dk_at dksX1_common_0 0 rfl rfl)
theorem dX1_common_1 : decode cX1_common 1 = .ok (.lconst 0, 1) := dk_9 (dk_at dksX1_common_0 1 rfl rfl)
theorem dX1_common_2 : decode cX1_common 2 = .ok (.lcmp, 1) := dk_148 (dk_at dksX1_common_0 2 rfl rfl)
theorem dX1_common_3 : decode cX1_common 3 = .ok (.ifCond .ne 7, 3) := dk_154 0 7 (dk_at dksX1_common_0 3 rfl rfl)
theorem dX1_common_6 : decode cX1_common 6 = .ok (.lload_n 0, 1) := dk_30 (dk_at dksX1_common_0 6 rfl rfl)
theorem dX1_common_7 : decode cX1_common 7 = .ok (.goto 10, 3) := dk_167 0 10 (dk_at dksX1_common_0 7 rfl rfl)
theorem dX1_common_10 : decode cX1_common 10 = .ok (.lload_n 2, 1) := dk_32 (dk_at dksX1_common_0 10 rfl rfl)
theorem dX1_common_11 : decode cX1_common 11 = .ok (.lload_n 0, 1) := dk_30 (dk_at dksX1_common_0 11 rfl rfl)
theorem dX1_common_12 : decode cX1_common 12 = .ok (.lload_n 2, 1) := dk_32 (dk_at dksX1_common_0 12 rfl rfl)
theorem dX1_common_13 : decode cX1_common 13 = .ok (.lrem, 1) := dk_113 (dk_at dksX1_common_0 13 rfl rfl)
theorem dX1_common_14 : decode cX1_common 14 = .ok (.invokestatic 460, 3) := dk_184 1 204 (dk_at dksX1_common_0 14 rfl rfl)
theorem dX1_common_17 : decode cX1_common 17 = .ok (.lreturn, 1) := dk_173 (dk_at dksX1_common_0 17 rfl rfl)
abbrev cX1_cock : ByteArray := prog_1_method_88_code
def yX1_cock : MethodName := ⟨RX1, "cock", "(II)I"⟩
def dkwX1_cock_5 : List UInt8 := [79, 132, 4, 1, 167, 255, 174, 132, 3, 1, 167, 255, 160, 42, 180, 0, 130, 27, 50, 3, 46, 172]
abbrev dktX1_cock_5 : List UInt8 := dkwX1_cock_5 ++ []
def dkwX1_cock_4 : List UInt8 := [42, 180, 0, 130, 29, 50, 21, 4, 21, 5, 28, 29, 184, 0, 9, 163, 0, 8, 21, 5, 167, 0, 4, 3]
abbrev dktX1_cock_4 : List UInt8 := dkwX1_cock_4 ++ dktX1_cock_5
def dkwX1_cock_3 : List UInt8 := [164, 0, 24, 42, 180, 0, 130, 29, 21, 5, 100, 50, 21, 5, 46, 153, 0, 9, 132, 5, 1, 167, 255, 215]
abbrev dktX1_cock_3 : List UInt8 := dkwX1_cock_3 ++ dktX1_cock_4
def dkwX1_cock_2 : List UInt8 := [54, 5, 21, 5, 28, 29, 184, 0, 9, 163, 0, 37, 21, 5, 21, 4, 159, 0, 24, 29, 21, 5]
abbrev dktX1_cock_2 : List UInt8 := dkwX1_cock_2 ++ dktX1_cock_3
def dkwX1_cock_1 : List UInt8 := [154, 0, 5, 2, 172, 3, 62, 29, 27, 163, 0, 97, 3, 54, 4, 21, 4, 16, 9, 163, 0, 81, 4]
abbrev dktX1_cock_1 : List UInt8 := dkwX1_cock_1 ++ dktX1_cock_2
def dkwX1_cock_0 : List UInt8 := [27, 133, 9, 20, 1, 62, 184, 0, 146, 153, 0, 17, 28, 133, 20, 1, 9, 20, 1, 212, 184, 0, 146]
abbrev dktX1_cock_0 : List UInt8 := dkwX1_cock_0 ++ dktX1_cock_1
theorem dksX1_cock_0 : cX1_cock.data.toList.drop 0 = dktX1_cock_0 := by decide +kernel
theorem dksX1_cock_1 : cX1_cock.data.toList.drop 23 = dktX1_cock_1 := dk_seg dksX1_cock_0 23 rfl rfl
theorem dksX1_cock_2 : cX1_cock.data.toList.drop 46 = dktX1_cock_2 := dk_seg dksX1_cock_1 23 rfl rfl
theorem dksX1_cock_3 : cX1_cock.data.toList.drop 68 = dktX1_cock_3 := dk_seg dksX1_cock_2 22 rfl rfl
theorem dksX1_cock_4 : cX1_cock.data.toList.drop 92 = dktX1_cock_4 := dk_seg dksX1_cock_3 24 rfl rfl
theorem dksX1_cock_5 : cX1_cock.data.toList.drop 116 = dktX1_cock_5 := dk_seg dksX1_cock_4 24 rfl rfl
theorem dX1_cock_0 : decode cX1_cock 0 = .ok (.iload_n 1, 1) := dk_27 (dk_at dksX1_cock_0 0 rfl rfl)
theorem dX1_cock_1 : decode cX1_cock 1 = .ok (.i2l, 1) := dk_133 (dk_at dksX1_cock_0 1 rfl rfl)
theorem dX1_cock_2 : decode cX1_cock 2 = .ok (.lconst 0, 1) := dk_9 (dk_at dksX1_cock_0 2 rfl rfl)
theorem dX1_cock_3 : decode cX1_cock 3 = .ok (.ldc2_w 318, 3) := dk_20 1 62 (dk_at dksX1_cock_0 3 rfl rfl)
theorem dX1_cock_6 : decode cX1_cock 6 = .ok (.invokestatic 146, 3) := dk_184 0 146 (dk_at dksX1_cock_0 6 rfl rfl)
theorem dX1_cock_9 : decode cX1_cock 9 = .ok (.ifCond .eq 17, 3) := dk_153 0 17 (dk_at dksX1_cock_0 9 rfl rfl)
theorem dX1_cock_12 : decode cX1_cock 12 = .ok (.iload_n 2, 1) := dk_28 (dk_at dksX1_cock_0 12 rfl rfl)
theorem dX1_cock_13 : decode cX1_cock 13 = .ok (.i2l, 1) := dk_133 (dk_at dksX1_cock_0 13 rfl rfl)
theorem dX1_cock_14 : decode cX1_cock 14 = .ok (.ldc2_w 265, 3) := dk_20 1 9 (dk_at dksX1_cock_0 14 rfl rfl)
theorem dX1_cock_17 : decode cX1_cock 17 = .ok (.ldc2_w 468, 3) := dk_20 1 212 (dk_at dksX1_cock_0 17 rfl rfl)
theorem dX1_cock_20 : decode cX1_cock 20 = .ok (.invokestatic 146, 3) := dk_184 0 146 (dk_at dksX1_cock_0 20 rfl rfl)
theorem dX1_cock_23 : decode cX1_cock 23 = .ok (.ifCond .ne 5, 3) := dk_154 0 5 (dk_at dksX1_cock_1 0 rfl rfl)
theorem dX1_cock_26 : decode cX1_cock 26 = .ok (.iconst (-1), 1) := dk_2 (dk_at dksX1_cock_1 3 rfl rfl)
theorem dX1_cock_27 : decode cX1_cock 27 = .ok (.ireturn, 1) := dk_172 (dk_at dksX1_cock_1 4 rfl rfl)
theorem dX1_cock_28 : decode cX1_cock 28 = .ok (.iconst 0, 1) := dk_3 (dk_at dksX1_cock_1 5 rfl rfl)
theorem dX1_cock_29 : decode cX1_cock 29 = .ok (.istore_n 3, 1) := dk_62 (dk_at dksX1_cock_1 6 rfl rfl)
theorem dX1_cock_30 : decode cX1_cock 30 = .ok (.iload_n 3, 1) := dk_29 (dk_at dksX1_cock_1 7 rfl rfl)
theorem dX1_cock_31 : decode cX1_cock 31 = .ok (.iload_n 1, 1) := dk_27 (dk_at dksX1_cock_1 8 rfl rfl)
theorem dX1_cock_32 : decode cX1_cock 32 = .ok (.if_icmp .gt 97, 3) := dk_163 0 97 (dk_at dksX1_cock_1 9 rfl rfl)
theorem dX1_cock_35 : decode cX1_cock 35 = .ok (.iconst 0, 1) := dk_3 (dk_at dksX1_cock_1 12 rfl rfl)
theorem dX1_cock_36 : decode cX1_cock 36 = .ok (.istore 4, 2) := dk_54 4 (dk_at dksX1_cock_1 13 rfl rfl)
theorem dX1_cock_38 : decode cX1_cock 38 = .ok (.iload 4, 2) := dk_21 4 (dk_at dksX1_cock_1 15 rfl rfl)
theorem dX1_cock_40 : decode cX1_cock 40 = .ok (.bipush 9, 2) := dk_16 9 (dk_at dksX1_cock_1 17 rfl rfl)
theorem dX1_cock_42 : decode cX1_cock 42 = .ok (.if_icmp .gt 81, 3) := dk_163 0 81 (dk_at dksX1_cock_1 19 rfl rfl)
theorem dX1_cock_45 : decode cX1_cock 45 = .ok (.iconst 1, 1) := dk_4 (dk_at dksX1_cock_1 22 rfl rfl)
theorem dX1_cock_46 : decode cX1_cock 46 = .ok (.istore 5, 2) := dk_54 5 (dk_at dksX1_cock_2 0 rfl rfl)
theorem dX1_cock_48 : decode cX1_cock 48 = .ok (.iload 5, 2) := dk_21 5 (dk_at dksX1_cock_2 2 rfl rfl)
theorem dX1_cock_50 : decode cX1_cock 50 = .ok (.iload_n 2, 1) := dk_28 (dk_at dksX1_cock_2 4 rfl rfl)
theorem dX1_cock_51 : decode cX1_cock 51 = .ok (.iload_n 3, 1) := dk_29 (dk_at dksX1_cock_2 5 rfl rfl)
theorem dX1_cock_52 : decode cX1_cock 52 = .ok (.invokestatic 9, 3) := dk_184 0 9 (dk_at dksX1_cock_2 6 rfl rfl)
theorem dX1_cock_55 : decode cX1_cock 55 = .ok (.if_icmp .gt 37, 3) := dk_163 0 37 (dk_at dksX1_cock_2 9 rfl rfl)
theorem dX1_cock_58 : decode cX1_cock 58 = .ok (.iload 5, 2) := dk_21 5 (dk_at dksX1_cock_2 12 rfl rfl)
theorem dX1_cock_60 : decode cX1_cock 60 = .ok (.iload 4, 2) := dk_21 4 (dk_at dksX1_cock_2 14 rfl rfl)
theorem dX1_cock_62 : decode cX1_cock 62 = .ok (.if_icmp .eq 24, 3) := dk_159 0 24 (dk_at dksX1_cock_2 16 rfl rfl)
theorem dX1_cock_65 : decode cX1_cock 65 = .ok (.iload_n 3, 1) := dk_29 (dk_at dksX1_cock_2 19 rfl rfl)
theorem dX1_cock_66 : decode cX1_cock 66 = .ok (.iload 5, 2) := dk_21 5 (dk_at dksX1_cock_2 20 rfl rfl)
theorem dX1_cock_68 : decode cX1_cock 68 = .ok (.if_icmp .le 24, 3) := dk_164 0 24 (dk_at dksX1_cock_3 0 rfl rfl)
theorem dX1_cock_71 : decode cX1_cock 71 = .ok (.aload_n 0, 1) := dk_42 (dk_at dksX1_cock_3 3 rfl rfl)
theorem dX1_cock_72 : decode cX1_cock 72 = .ok (.getfield 130, 3) := dk_180 0 130 (dk_at dksX1_cock_3 4 rfl rfl)
theorem dX1_cock_75 : decode cX1_cock 75 = .ok (.iload_n 3, 1) := dk_29 (dk_at dksX1_cock_3 7 rfl rfl)
theorem dX1_cock_76 : decode cX1_cock 76 = .ok (.iload 5, 2) := dk_21 5 (dk_at dksX1_cock_3 8 rfl rfl)
theorem dX1_cock_78 : decode cX1_cock 78 = .ok (.isub, 1) := dk_100 (dk_at dksX1_cock_3 10 rfl rfl)
theorem dX1_cock_79 : decode cX1_cock 79 = .ok (.aaload, 1) := dk_50 (dk_at dksX1_cock_3 11 rfl rfl)
theorem dX1_cock_80 : decode cX1_cock 80 = .ok (.iload 5, 2) := dk_21 5 (dk_at dksX1_cock_3 12 rfl rfl)
theorem dX1_cock_82 : decode cX1_cock 82 = .ok (.iaload, 1) := dk_46 (dk_at dksX1_cock_3 14 rfl rfl)
theorem dX1_cock_83 : decode cX1_cock 83 = .ok (.ifCond .eq 9, 3) := dk_153 0 9 (dk_at dksX1_cock_3 15 rfl rfl)
theorem dX1_cock_86 : decode cX1_cock 86 = .ok (.iinc 5 1, 3) := dk_132 5 1 (dk_at dksX1_cock_3 18 rfl rfl)
theorem dX1_cock_89 : decode cX1_cock 89 = .ok (.goto (-41), 3) := dk_167 255 215 (dk_at dksX1_cock_3 21 rfl rfl)
theorem dX1_cock_92 : decode cX1_cock 92 = .ok (.aload_n 0, 1) := dk_42 (dk_at dksX1_cock_4 0 rfl rfl)
theorem dX1_cock_93 : decode cX1_cock 93 = .ok (.getfield 130, 3) := dk_180 0 130 (dk_at dksX1_cock_4 1 rfl rfl)
theorem dX1_cock_96 : decode cX1_cock 96 = .ok (.iload_n 3, 1) := dk_29 (dk_at dksX1_cock_4 4 rfl rfl)
theorem dX1_cock_97 : decode cX1_cock 97 = .ok (.aaload, 1) := dk_50 (dk_at dksX1_cock_4 5 rfl rfl)
theorem dX1_cock_98 : decode cX1_cock 98 = .ok (.iload 4, 2) := dk_21 4 (dk_at dksX1_cock_4 6 rfl rfl)
theorem dX1_cock_100 : decode cX1_cock 100 = .ok (.iload 5, 2) := dk_21 5 (dk_at dksX1_cock_4 8 rfl rfl)
theorem dX1_cock_102 : decode cX1_cock 102 = .ok (.iload_n 2, 1) := dk_28 (dk_at dksX1_cock_4 10 rfl rfl)
theorem dX1_cock_103 : decode cX1_cock 103 = .ok (.iload_n 3, 1) := dk_29 (dk_at dksX1_cock_4 11 rfl rfl)
theorem dX1_cock_104 : decode cX1_cock 104 = .ok (.invokestatic 9, 3) := dk_184 0 9 (dk_at dksX1_cock_4 12 rfl rfl)
theorem dX1_cock_107 : decode cX1_cock 107 = .ok (.if_icmp .gt 8, 3) := dk_163 0 8 (dk_at dksX1_cock_4 15 rfl rfl)
theorem dX1_cock_110 : decode cX1_cock 110 = .ok (.iload 5, 2) := dk_21 5 (dk_at dksX1_cock_4 18 rfl rfl)
theorem dX1_cock_112 : decode cX1_cock 112 = .ok (.goto 4, 3) := dk_167 0 4 (dk_at dksX1_cock_4 20 rfl rfl)
theorem dX1_cock_115 : decode cX1_cock 115 = .ok (.iconst 0, 1) := dk_3 (dk_at dksX1_cock_4 23 rfl rfl)
theorem dX1_cock_116 : decode cX1_cock 116 = .ok (.iastore, 1) := dk_79 (dk_at dksX1_cock_5 0 rfl rfl)
theorem dX1_cock_117 : decode cX1_cock 117 = .ok (.iinc 4 1, 3) := dk_132 4 1 (dk_at dksX1_cock_5 1 rfl rfl)
theorem dX1_cock_120 : decode cX1_cock 120 = .ok (.goto (-82), 3) := dk_167 255 174 (dk_at dksX1_cock_5 4 rfl rfl)
theorem dX1_cock_123 : decode cX1_cock 123 = .ok (.iinc 3 1, 3) := dk_132 3 1 (dk_at dksX1_cock_5 7 rfl rfl)
theorem dX1_cock_126 : decode cX1_cock 126 = .ok (.goto (-96), 3) := dk_167 255 160 (dk_at dksX1_cock_5 10 rfl rfl)
theorem dX1_cock_129 : decode cX1_cock 129 = .ok (.aload_n 0, 1) := dk_42 (dk_at dksX1_cock_5 13 rfl rfl)
theorem dX1_cock_130 : decode cX1_cock 130 = .ok (.getfield 130, 3) := dk_180 0 130 (dk_at dksX1_cock_5 14 rfl rfl)
theorem dX1_cock_133 : decode cX1_cock 133 = .ok (.iload_n 1, 1) := dk_27 (dk_at dksX1_cock_5 17 rfl rfl)
theorem dX1_cock_134 : decode cX1_cock 134 = .ok (.aaload, 1) := dk_50 (dk_at dksX1_cock_5 18 rfl rfl)
theorem dX1_cock_135 : decode cX1_cock 135 = .ok (.iconst 0, 1) := dk_3 (dk_at dksX1_cock_5 19 rfl rfl)
theorem dX1_cock_136 : decode cX1_cock 136 = .ok (.iaload, 1) := dk_46 (dk_at dksX1_cock_5 20 rfl rfl)
theorem dX1_cock_137 : decode cX1_cock 137 = .ok (.ireturn, 1) := dk_172 (dk_at dksX1_cock_5 21 rfl rfl)
abbrev cX1_law : ByteArray := prog_1_method_89_code
def yX1_law : MethodName := ⟨RX1, "law", "()I"⟩
def dkwX1_law_6 : List UInt8 := [172]
abbrev dktX1_law_6 : List UInt8 := dkwX1_law_6 ++ []
def dkwX1_law_5 : List UInt8 := [42, 3, 181, 0, 139, 42, 21, 5, 133, 182, 1, 74, 42, 21, 4, 133, 182, 1, 74, 21, 5, 21, 4, 100]
abbrev dktX1_law_5 : List UInt8 := dkwX1_law_5 ++ dktX1_law_6
def dkwX1_law_4 : List UInt8 := [180, 0, 187, 100, 54, 7, 42, 43, 181, 0, 30, 21, 7, 172, 58, 8, 42, 43, 181, 0, 30, 25, 8, 191]
abbrev dktX1_law_4 : List UInt8 := dkwX1_law_4 ++ dktX1_law_5
def dkwX1_law_3 : List UInt8 := [182, 1, 149, 184, 1, 133, 54, 5, 42, 43, 181, 0, 30, 167, 0, 34, 58, 6, 17, 216, 240, 25, 6]
abbrev dktX1_law_3 : List UInt8 := dkwX1_law_3 ++ dktX1_law_4
def dkwX1_law_2 : List UInt8 := [167, 0, 16, 187, 0, 43, 89, 42, 44, 29, 183, 0, 239, 182, 0, 242, 181, 0, 30, 42, 42, 180, 0, 84]
abbrev dktX1_law_2 : List UInt8 := dkwX1_law_2 ++ dktX1_law_3
def dkwX1_law_1 : List UInt8 := [181, 0, 160, 42, 42, 180, 0, 84, 182, 1, 149, 184, 1, 133, 54, 4, 42, 29, 154, 0, 7, 1]
abbrev dktX1_law_1 : List UInt8 := dkwX1_law_1 ++ dktX1_law_2
def dkwX1_law_0 : List UInt8 := [42, 180, 0, 30, 76, 42, 180, 0, 102, 182, 0, 234, 192, 0, 235, 77, 42, 180, 0, 160, 62, 42, 3]
abbrev dktX1_law_0 : List UInt8 := dkwX1_law_0 ++ dktX1_law_1
theorem dksX1_law_0 : cX1_law.data.toList.drop 0 = dktX1_law_0 := by decide +kernel
theorem dksX1_law_1 : cX1_law.data.toList.drop 23 = dktX1_law_1 := dk_seg dksX1_law_0 23 rfl rfl
theorem dksX1_law_2 : cX1_law.data.toList.drop 45 = dktX1_law_2 := dk_seg dksX1_law_1 22 rfl rfl
theorem dksX1_law_3 : cX1_law.data.toList.drop 69 = dktX1_law_3 := dk_seg dksX1_law_2 24 rfl rfl
theorem dksX1_law_4 : cX1_law.data.toList.drop 92 = dktX1_law_4 := dk_seg dksX1_law_3 23 rfl rfl
theorem dksX1_law_5 : cX1_law.data.toList.drop 116 = dktX1_law_5 := dk_seg dksX1_law_4 24 rfl rfl
theorem dksX1_law_6 : cX1_law.data.toList.drop 140 = dktX1_law_6 := dk_seg dksX1_law_5 24 rfl rfl
theorem dX1_law_0 : decode cX1_law 0 = .ok (.aload_n 0, 1) := dk_42 (dk_at dksX1_law_0 0 rfl rfl)
theorem dX1_law_1 : decode cX1_law 1 = .ok (.getfield 30, 3) := dk_180 0 30 (dk_at dksX1_law_0 1 rfl rfl)
theorem dX1_law_4 : decode cX1_law 4 = .ok (.astore_n 1, 1) := dk_76 (dk_at dksX1_law_0 4 rfl rfl)
theorem dX1_law_5 : decode cX1_law 5 = .ok (.aload_n 0, 1) := dk_42 (dk_at dksX1_law_0 5 rfl rfl)
theorem dX1_law_6 : decode cX1_law 6 = .ok (.getfield 102, 3) := dk_180 0 102 (dk_at dksX1_law_0 6 rfl rfl)
theorem dX1_law_9 : decode cX1_law 9 = .ok (.invokevirtual 234, 3) := dk_182 0 234 (dk_at dksX1_law_0 9 rfl rfl)
theorem dX1_law_12 : decode cX1_law 12 = .ok (.checkcast 235, 3) := dk_192 0 235 (dk_at dksX1_law_0 12 rfl rfl)
theorem dX1_law_15 : decode cX1_law 15 = .ok (.astore_n 2, 1) := dk_77 (dk_at dksX1_law_0 15 rfl rfl)
theorem dX1_law_16 : decode cX1_law 16 = .ok (.aload_n 0, 1) := dk_42 (dk_at dksX1_law_0 16 rfl rfl)
theorem dX1_law_17 : decode cX1_law 17 = .ok (.getfield 160, 3) := dk_180 0 160 (dk_at dksX1_law_0 17 rfl rfl)
theorem dX1_law_20 : decode cX1_law 20 = .ok (.istore_n 3, 1) := dk_62 (dk_at dksX1_law_0 20 rfl rfl)
theorem dX1_law_21 : decode cX1_law 21 = .ok (.aload_n 0, 1) := dk_42 (dk_at dksX1_law_0 21 rfl rfl)
theorem dX1_law_22 : decode cX1_law 22 = .ok (.iconst 0, 1) := dk_3 (dk_at dksX1_law_0 22 rfl rfl)
theorem dX1_law_23 : decode cX1_law 23 = .ok (.putfield 160, 3) := dk_181 0 160 (dk_at dksX1_law_1 0 rfl rfl)
theorem dX1_law_26 : decode cX1_law 26 = .ok (.aload_n 0, 1) := dk_42 (dk_at dksX1_law_1 3 rfl rfl)
theorem dX1_law_27 : decode cX1_law 27 = .ok (.aload_n 0, 1) := dk_42 (dk_at dksX1_law_1 4 rfl rfl)
theorem dX1_law_28 : decode cX1_law 28 = .ok (.getfield 84, 3) := dk_180 0 84 (dk_at dksX1_law_1 5 rfl rfl)
theorem dX1_law_31 : decode cX1_law 31 = .ok (.invokevirtual 405, 3) := dk_182 1 149 (dk_at dksX1_law_1 8 rfl rfl)
theorem dX1_law_34 : decode cX1_law 34 = .ok (.invokestatic 389, 3) := dk_184 1 133 (dk_at dksX1_law_1 11 rfl rfl)
theorem dX1_law_37 : decode cX1_law 37 = .ok (.istore 4, 2) := dk_54 4 (dk_at dksX1_law_1 14 rfl rfl)
theorem dX1_law_39 : decode cX1_law 39 = .ok (.aload_n 0, 1) := dk_42 (dk_at dksX1_law_1 16 rfl rfl)
theorem dX1_law_40 : decode cX1_law 40 = .ok (.iload_n 3, 1) := dk_29 (dk_at dksX1_law_1 17 rfl rfl)
theorem dX1_law_41 : decode cX1_law 41 = .ok (.ifCond .ne 7, 3) := dk_154 0 7 (dk_at dksX1_law_1 18 rfl rfl)
theorem dX1_law_44 : decode cX1_law 44 = .ok (.aconst_null, 1) := dk_1 (dk_at dksX1_law_1 21 rfl rfl)
theorem dX1_law_45 : decode cX1_law 45 = .ok (.goto 16, 3) := dk_167 0 16 (dk_at dksX1_law_2 0 rfl rfl)
theorem dX1_law_48 : decode cX1_law 48 = .ok (.new 43, 3) := dk_187 0 43 (dk_at dksX1_law_2 3 rfl rfl)
theorem dX1_law_51 : decode cX1_law 51 = .ok (.dup, 1) := dk_89 (dk_at dksX1_law_2 6 rfl rfl)
theorem dX1_law_52 : decode cX1_law 52 = .ok (.aload_n 0, 1) := dk_42 (dk_at dksX1_law_2 7 rfl rfl)
theorem dX1_law_53 : decode cX1_law 53 = .ok (.aload_n 2, 1) := dk_44 (dk_at dksX1_law_2 8 rfl rfl)
theorem dX1_law_54 : decode cX1_law 54 = .ok (.iload_n 3, 1) := dk_29 (dk_at dksX1_law_2 9 rfl rfl)
theorem dX1_law_55 : decode cX1_law 55 = .ok (.invokespecial 239, 3) := dk_183 0 239 (dk_at dksX1_law_2 10 rfl rfl)
theorem dX1_law_58 : decode cX1_law 58 = .ok (.invokevirtual 242, 3) := dk_182 0 242 (dk_at dksX1_law_2 13 rfl rfl)
theorem dX1_law_61 : decode cX1_law 61 = .ok (.putfield 30, 3) := dk_181 0 30 (dk_at dksX1_law_2 16 rfl rfl)
theorem dX1_law_64 : decode cX1_law 64 = .ok (.aload_n 0, 1) := dk_42 (dk_at dksX1_law_2 19 rfl rfl)
theorem dX1_law_65 : decode cX1_law 65 = .ok (.aload_n 0, 1) := dk_42 (dk_at dksX1_law_2 20 rfl rfl)
theorem dX1_law_66 : decode cX1_law 66 = .ok (.getfield 84, 3) := dk_180 0 84 (dk_at dksX1_law_2 21 rfl rfl)
theorem dX1_law_69 : decode cX1_law 69 = .ok (.invokevirtual 405, 3) := dk_182 1 149 (dk_at dksX1_law_3 0 rfl rfl)
theorem dX1_law_72 : decode cX1_law 72 = .ok (.invokestatic 389, 3) := dk_184 1 133 (dk_at dksX1_law_3 3 rfl rfl)
theorem dX1_law_75 : decode cX1_law 75 = .ok (.istore 5, 2) := dk_54 5 (dk_at dksX1_law_3 6 rfl rfl)
theorem dX1_law_77 : decode cX1_law 77 = .ok (.aload_n 0, 1) := dk_42 (dk_at dksX1_law_3 8 rfl rfl)
theorem dX1_law_78 : decode cX1_law 78 = .ok (.aload_n 1, 1) := dk_43 (dk_at dksX1_law_3 9 rfl rfl)
theorem dX1_law_79 : decode cX1_law 79 = .ok (.putfield 30, 3) := dk_181 0 30 (dk_at dksX1_law_3 10 rfl rfl)
theorem dX1_law_82 : decode cX1_law 82 = .ok (.goto 34, 3) := dk_167 0 34 (dk_at dksX1_law_3 13 rfl rfl)
theorem dX1_law_85 : decode cX1_law 85 = .ok (.astore 6, 2) := dk_58 6 (dk_at dksX1_law_3 16 rfl rfl)
theorem dX1_law_87 : decode cX1_law 87 = .ok (.sipush (-10000), 3) := dk_17 216 240 (dk_at dksX1_law_3 18 rfl rfl)
theorem dX1_law_90 : decode cX1_law 90 = .ok (.aload 6, 2) := dk_25 6 (dk_at dksX1_law_3 21 rfl rfl)
theorem dX1_law_92 : decode cX1_law 92 = .ok (.getfield 187, 3) := dk_180 0 187 (dk_at dksX1_law_4 0 rfl rfl)
theorem dX1_law_95 : decode cX1_law 95 = .ok (.isub, 1) := dk_100 (dk_at dksX1_law_4 3 rfl rfl)
theorem dX1_law_96 : decode cX1_law 96 = .ok (.istore 7, 2) := dk_54 7 (dk_at dksX1_law_4 4 rfl rfl)
theorem dX1_law_98 : decode cX1_law 98 = .ok (.aload_n 0, 1) := dk_42 (dk_at dksX1_law_4 6 rfl rfl)
theorem dX1_law_99 : decode cX1_law 99 = .ok (.aload_n 1, 1) := dk_43 (dk_at dksX1_law_4 7 rfl rfl)
theorem dX1_law_100 : decode cX1_law 100 = .ok (.putfield 30, 3) := dk_181 0 30 (dk_at dksX1_law_4 8 rfl rfl)
theorem dX1_law_103 : decode cX1_law 103 = .ok (.iload 7, 2) := dk_21 7 (dk_at dksX1_law_4 11 rfl rfl)
theorem dX1_law_105 : decode cX1_law 105 = .ok (.ireturn, 1) := dk_172 (dk_at dksX1_law_4 13 rfl rfl)
theorem dX1_law_106 : decode cX1_law 106 = .ok (.astore 8, 2) := dk_58 8 (dk_at dksX1_law_4 14 rfl rfl)
theorem dX1_law_108 : decode cX1_law 108 = .ok (.aload_n 0, 1) := dk_42 (dk_at dksX1_law_4 16 rfl rfl)
theorem dX1_law_109 : decode cX1_law 109 = .ok (.aload_n 1, 1) := dk_43 (dk_at dksX1_law_4 17 rfl rfl)
theorem dX1_law_110 : decode cX1_law 110 = .ok (.putfield 30, 3) := dk_181 0 30 (dk_at dksX1_law_4 18 rfl rfl)
theorem dX1_law_113 : decode cX1_law 113 = .ok (.aload 8, 2) := dk_25 8 (dk_at dksX1_law_4 21 rfl rfl)
theorem dX1_law_115 : decode cX1_law 115 = .ok (.athrow, 1) := dk_191 (dk_at dksX1_law_4 23 rfl rfl)
theorem dX1_law_116 : decode cX1_law 116 = .ok (.aload_n 0, 1) := dk_42 (dk_at dksX1_law_5 0 rfl rfl)
theorem dX1_law_117 : decode cX1_law 117 = .ok (.iconst 0, 1) := dk_3 (dk_at dksX1_law_5 1 rfl rfl)
theorem dX1_law_118 : decode cX1_law 118 = .ok (.putfield 139, 3) := dk_181 0 139 (dk_at dksX1_law_5 2 rfl rfl)
theorem dX1_law_121 : decode cX1_law 121 = .ok (.aload_n 0, 1) := dk_42 (dk_at dksX1_law_5 5 rfl rfl)
theorem dX1_law_122 : decode cX1_law 122 = .ok (.iload 5, 2) := dk_21 5 (dk_at dksX1_law_5 6 rfl rfl)
theorem dX1_law_124 : decode cX1_law 124 = .ok (.i2l, 1) := dk_133 (dk_at dksX1_law_5 8 rfl rfl)
theorem dX1_law_125 : decode cX1_law 125 = .ok (.invokevirtual 330, 3) := dk_182 1 74 (dk_at dksX1_law_5 9 rfl rfl)
theorem dX1_law_128 : decode cX1_law 128 = .ok (.aload_n 0, 1) := dk_42 (dk_at dksX1_law_5 12 rfl rfl)
theorem dX1_law_129 : decode cX1_law 129 = .ok (.iload 4, 2) := dk_21 4 (dk_at dksX1_law_5 13 rfl rfl)
theorem dX1_law_131 : decode cX1_law 131 = .ok (.i2l, 1) := dk_133 (dk_at dksX1_law_5 15 rfl rfl)
theorem dX1_law_132 : decode cX1_law 132 = .ok (.invokevirtual 330, 3) := dk_182 1 74 (dk_at dksX1_law_5 16 rfl rfl)
theorem dX1_law_135 : decode cX1_law 135 = .ok (.iload 5, 2) := dk_21 5 (dk_at dksX1_law_5 19 rfl rfl)
theorem dX1_law_137 : decode cX1_law 137 = .ok (.iload 4, 2) := dk_21 4 (dk_at dksX1_law_5 21 rfl rfl)
theorem dX1_law_139 : decode cX1_law 139 = .ok (.isub, 1) := dk_100 (dk_at dksX1_law_5 23 rfl rfl)
theorem dX1_law_140 : decode cX1_law 140 = .ok (.ireturn, 1) := dk_172 (dk_at dksX1_law_6 0 rfl rfl)
abbrev cX1_rests : ByteArray := prog_1_method_92_code
def yX1_rests : MethodName := ⟨RX1, "rests", "(I)I"⟩
def dkwX1_rests_4 : List UInt8 := [167, 255, 188, 28, 172]
abbrev dktX1_rests_4 : List UInt8 := dkwX1_rests_4 ++ []
def dkwX1_rests_3 : List UInt8 := [182, 1, 74, 42, 21, 4, 133, 182, 1, 74, 132, 2, 1, 132, 4, 1, 167, 255, 203, 132, 3, 1]
abbrev dktX1_rests_3 : List UInt8 := dkwX1_rests_3 ++ dktX1_rests_4
def dkwX1_rests_2 : List UInt8 := [153, 0, 36, 21, 4, 29, 27, 184, 1, 220, 154, 0, 6, 167, 0, 23, 28, 154, 0, 16, 42, 29, 133]
abbrev dktX1_rests_2 : List UInt8 := dkwX1_rests_2 ++ dktX1_rests_3
def dkwX1_rests_1 : List UInt8 := [16, 9, 163, 0, 68, 3, 54, 4, 21, 4, 16, 9, 163, 0, 52, 29, 21, 4, 27, 184, 1, 220]
abbrev dktX1_rests_1 : List UInt8 := dkwX1_rests_1 ++ dktX1_rests_2
def dkwX1_rests_0 : List UInt8 := [27, 133, 9, 20, 1, 218, 184, 0, 146, 154, 0, 5, 2, 172, 3, 61, 42, 3, 181, 0, 139, 3, 62, 29]
abbrev dktX1_rests_0 : List UInt8 := dkwX1_rests_0 ++ dktX1_rests_1
theorem dksX1_rests_0 : cX1_rests.data.toList.drop 0 = dktX1_rests_0 := by decide +kernel
theorem dksX1_rests_1 : cX1_rests.data.toList.drop 24 = dktX1_rests_1 := dk_seg dksX1_rests_0 24 rfl rfl
theorem dksX1_rests_2 : cX1_rests.data.toList.drop 46 = dktX1_rests_2 := dk_seg dksX1_rests_1 22 rfl rfl
theorem dksX1_rests_3 : cX1_rests.data.toList.drop 69 = dktX1_rests_3 := dk_seg dksX1_rests_2 23 rfl rfl
theorem dksX1_rests_4 : cX1_rests.data.toList.drop 91 = dktX1_rests_4 := dk_seg dksX1_rests_3 22 rfl rfl
theorem dX1_rests_0 : decode cX1_rests 0 = .ok (.iload_n 1, 1) := dk_27 (dk_at dksX1_rests_0 0 rfl rfl)
theorem dX1_rests_1 : decode cX1_rests 1 = .ok (.i2l, 1) := dk_133 (dk_at dksX1_rests_0 1 rfl rfl)
theorem dX1_rests_2 : decode cX1_rests 2 = .ok (.lconst 0, 1) := dk_9 (dk_at dksX1_rests_0 2 rfl rfl)
theorem dX1_rests_3 : decode cX1_rests 3 = .ok (.ldc2_w 474, 3) := dk_20 1 218 (dk_at dksX1_rests_0 3 rfl rfl)
theorem dX1_rests_6 : decode cX1_rests 6 = .ok (.invokestatic 146, 3) := dk_184 0 146 (dk_at dksX1_rests_0 6 rfl rfl)
theorem dX1_rests_9 : decode cX1_rests 9 = .ok (.ifCond .ne 5, 3) := dk_154 0 5 (dk_at dksX1_rests_0 9 rfl rfl)
theorem dX1_rests_12 : decode cX1_rests 12 = .ok (.iconst (-1), 1) := dk_2 (dk_at dksX1_rests_0 12 rfl rfl)
theorem dX1_rests_13 : decode cX1_rests 13 = .ok (.ireturn, 1) := dk_172 (dk_at dksX1_rests_0 13 rfl rfl)
theorem dX1_rests_14 : decode cX1_rests 14 = .ok (.iconst 0, 1) := dk_3 (dk_at dksX1_rests_0 14 rfl rfl)
theorem dX1_rests_15 : decode cX1_rests 15 = .ok (.istore_n 2, 1) := dk_61 (dk_at dksX1_rests_0 15 rfl rfl)
theorem dX1_rests_16 : decode cX1_rests 16 = .ok (.aload_n 0, 1) := dk_42 (dk_at dksX1_rests_0 16 rfl rfl)
theorem dX1_rests_17 : decode cX1_rests 17 = .ok (.iconst 0, 1) := dk_3 (dk_at dksX1_rests_0 17 rfl rfl)
theorem dX1_rests_18 : decode cX1_rests 18 = .ok (.putfield 139, 3) := dk_181 0 139 (dk_at dksX1_rests_0 18 rfl rfl)
theorem dX1_rests_21 : decode cX1_rests 21 = .ok (.iconst 0, 1) := dk_3 (dk_at dksX1_rests_0 21 rfl rfl)
theorem dX1_rests_22 : decode cX1_rests 22 = .ok (.istore_n 3, 1) := dk_62 (dk_at dksX1_rests_0 22 rfl rfl)
theorem dX1_rests_23 : decode cX1_rests 23 = .ok (.iload_n 3, 1) := dk_29 (dk_at dksX1_rests_0 23 rfl rfl)
theorem dX1_rests_24 : decode cX1_rests 24 = .ok (.bipush 9, 2) := dk_16 9 (dk_at dksX1_rests_1 0 rfl rfl)
theorem dX1_rests_26 : decode cX1_rests 26 = .ok (.if_icmp .gt 68, 3) := dk_163 0 68 (dk_at dksX1_rests_1 2 rfl rfl)
theorem dX1_rests_29 : decode cX1_rests 29 = .ok (.iconst 0, 1) := dk_3 (dk_at dksX1_rests_1 5 rfl rfl)
theorem dX1_rests_30 : decode cX1_rests 30 = .ok (.istore 4, 2) := dk_54 4 (dk_at dksX1_rests_1 6 rfl rfl)
theorem dX1_rests_32 : decode cX1_rests 32 = .ok (.iload 4, 2) := dk_21 4 (dk_at dksX1_rests_1 8 rfl rfl)
theorem dX1_rests_34 : decode cX1_rests 34 = .ok (.bipush 9, 2) := dk_16 9 (dk_at dksX1_rests_1 10 rfl rfl)
theorem dX1_rests_36 : decode cX1_rests 36 = .ok (.if_icmp .gt 52, 3) := dk_163 0 52 (dk_at dksX1_rests_1 12 rfl rfl)
theorem dX1_rests_39 : decode cX1_rests 39 = .ok (.iload_n 3, 1) := dk_29 (dk_at dksX1_rests_1 15 rfl rfl)
theorem dX1_rests_40 : decode cX1_rests 40 = .ok (.iload 4, 2) := dk_21 4 (dk_at dksX1_rests_1 16 rfl rfl)
theorem dX1_rests_42 : decode cX1_rests 42 = .ok (.iload_n 1, 1) := dk_27 (dk_at dksX1_rests_1 18 rfl rfl)
theorem dX1_rests_43 : decode cX1_rests 43 = .ok (.invokestatic 476, 3) := dk_184 1 220 (dk_at dksX1_rests_1 19 rfl rfl)
theorem dX1_rests_46 : decode cX1_rests 46 = .ok (.ifCond .eq 36, 3) := dk_153 0 36 (dk_at dksX1_rests_2 0 rfl rfl)
theorem dX1_rests_49 : decode cX1_rests 49 = .ok (.iload 4, 2) := dk_21 4 (dk_at dksX1_rests_2 3 rfl rfl)
theorem dX1_rests_51 : decode cX1_rests 51 = .ok (.iload_n 3, 1) := dk_29 (dk_at dksX1_rests_2 5 rfl rfl)
theorem dX1_rests_52 : decode cX1_rests 52 = .ok (.iload_n 1, 1) := dk_27 (dk_at dksX1_rests_2 6 rfl rfl)
theorem dX1_rests_53 : decode cX1_rests 53 = .ok (.invokestatic 476, 3) := dk_184 1 220 (dk_at dksX1_rests_2 7 rfl rfl)
theorem dX1_rests_56 : decode cX1_rests 56 = .ok (.ifCond .ne 6, 3) := dk_154 0 6 (dk_at dksX1_rests_2 10 rfl rfl)
theorem dX1_rests_59 : decode cX1_rests 59 = .ok (.goto 23, 3) := dk_167 0 23 (dk_at dksX1_rests_2 13 rfl rfl)
theorem dX1_rests_62 : decode cX1_rests 62 = .ok (.iload_n 2, 1) := dk_28 (dk_at dksX1_rests_2 16 rfl rfl)
theorem dX1_rests_63 : decode cX1_rests 63 = .ok (.ifCond .ne 16, 3) := dk_154 0 16 (dk_at dksX1_rests_2 17 rfl rfl)
theorem dX1_rests_66 : decode cX1_rests 66 = .ok (.aload_n 0, 1) := dk_42 (dk_at dksX1_rests_2 20 rfl rfl)
theorem dX1_rests_67 : decode cX1_rests 67 = .ok (.iload_n 3, 1) := dk_29 (dk_at dksX1_rests_2 21 rfl rfl)
theorem dX1_rests_68 : decode cX1_rests 68 = .ok (.i2l, 1) := dk_133 (dk_at dksX1_rests_2 22 rfl rfl)
theorem dX1_rests_69 : decode cX1_rests 69 = .ok (.invokevirtual 330, 3) := dk_182 1 74 (dk_at dksX1_rests_3 0 rfl rfl)
theorem dX1_rests_72 : decode cX1_rests 72 = .ok (.aload_n 0, 1) := dk_42 (dk_at dksX1_rests_3 3 rfl rfl)
theorem dX1_rests_73 : decode cX1_rests 73 = .ok (.iload 4, 2) := dk_21 4 (dk_at dksX1_rests_3 4 rfl rfl)
theorem dX1_rests_75 : decode cX1_rests 75 = .ok (.i2l, 1) := dk_133 (dk_at dksX1_rests_3 6 rfl rfl)
theorem dX1_rests_76 : decode cX1_rests 76 = .ok (.invokevirtual 330, 3) := dk_182 1 74 (dk_at dksX1_rests_3 7 rfl rfl)
theorem dX1_rests_79 : decode cX1_rests 79 = .ok (.iinc 2 1, 3) := dk_132 2 1 (dk_at dksX1_rests_3 10 rfl rfl)
theorem dX1_rests_82 : decode cX1_rests 82 = .ok (.iinc 4 1, 3) := dk_132 4 1 (dk_at dksX1_rests_3 13 rfl rfl)
theorem dX1_rests_85 : decode cX1_rests 85 = .ok (.goto (-53), 3) := dk_167 255 203 (dk_at dksX1_rests_3 16 rfl rfl)
theorem dX1_rests_88 : decode cX1_rests 88 = .ok (.iinc 3 1, 3) := dk_132 3 1 (dk_at dksX1_rests_3 19 rfl rfl)
theorem dX1_rests_91 : decode cX1_rests 91 = .ok (.goto (-68), 3) := dk_167 255 188 (dk_at dksX1_rests_4 0 rfl rfl)
theorem dX1_rests_94 : decode cX1_rests 94 = .ok (.iload_n 2, 1) := dk_28 (dk_at dksX1_rests_4 3 rfl rfl)
theorem dX1_rests_95 : decode cX1_rests 95 = .ok (.ireturn, 1) := dk_172 (dk_at dksX1_rests_4 4 rfl rfl)
abbrev cX1_isBest : ByteArray := prog_1_method_91_code
def yX1_isBest : MethodName := ⟨RX1, "isBest", "(III)Z"⟩
def dkwX1_isBest_1 : List UInt8 := [172, 132, 3, 1, 167, 255, 230, 4, 172]
abbrev dktX1_isBest_1 : List UInt8 := dkwX1_isBest_1 ++ []
def dkwX1_isBest_0 : List UInt8 := [3, 62, 29, 16, 9, 163, 0, 26, 29, 27, 28, 184, 1, 214, 26, 27, 28, 184, 1, 214, 164, 0, 5, 3]
abbrev dktX1_isBest_0 : List UInt8 := dkwX1_isBest_0 ++ dktX1_isBest_1
theorem dksX1_isBest_0 : cX1_isBest.data.toList.drop 0 = dktX1_isBest_0 := by decide +kernel
theorem dksX1_isBest_1 : cX1_isBest.data.toList.drop 24 = dktX1_isBest_1 := dk_seg dksX1_isBest_0 24 rfl rfl
theorem dX1_isBest_0 : decode cX1_isBest 0 = .ok (.iconst 0, 1) := dk_3 (dk_at dksX1_isBest_0 0 rfl rfl)
theorem dX1_isBest_1 : decode cX1_isBest 1 = .ok (.istore_n 3, 1) := dk_62 (dk_at dksX1_isBest_0 1 rfl rfl)
theorem dX1_isBest_2 : decode cX1_isBest 2 = .ok (.iload_n 3, 1) := dk_29 (dk_at dksX1_isBest_0 2 rfl rfl)
theorem dX1_isBest_3 : decode cX1_isBest 3 = .ok (.bipush 9, 2) := dk_16 9 (dk_at dksX1_isBest_0 3 rfl rfl)
theorem dX1_isBest_5 : decode cX1_isBest 5 = .ok (.if_icmp .gt 26, 3) := dk_163 0 26 (dk_at dksX1_isBest_0 5 rfl rfl)
theorem dX1_isBest_8 : decode cX1_isBest 8 = .ok (.iload_n 3, 1) := dk_29 (dk_at dksX1_isBest_0 8 rfl rfl)
theorem dX1_isBest_9 : decode cX1_isBest 9 = .ok (.iload_n 1, 1) := dk_27 (dk_at dksX1_isBest_0 9 rfl rfl)
theorem dX1_isBest_10 : decode cX1_isBest 10 = .ok (.iload_n 2, 1) := dk_28 (dk_at dksX1_isBest_0 10 rfl rfl)
theorem dX1_isBest_11 : decode cX1_isBest 11 = .ok (.invokestatic 470, 3) := dk_184 1 214 (dk_at dksX1_isBest_0 11 rfl rfl)
theorem dX1_isBest_14 : decode cX1_isBest 14 = .ok (.iload_n 0, 1) := dk_26 (dk_at dksX1_isBest_0 14 rfl rfl)
theorem dX1_isBest_15 : decode cX1_isBest 15 = .ok (.iload_n 1, 1) := dk_27 (dk_at dksX1_isBest_0 15 rfl rfl)
theorem dX1_isBest_16 : decode cX1_isBest 16 = .ok (.iload_n 2, 1) := dk_28 (dk_at dksX1_isBest_0 16 rfl rfl)
theorem dX1_isBest_17 : decode cX1_isBest 17 = .ok (.invokestatic 470, 3) := dk_184 1 214 (dk_at dksX1_isBest_0 17 rfl rfl)
theorem dX1_isBest_20 : decode cX1_isBest 20 = .ok (.if_icmp .le 5, 3) := dk_164 0 5 (dk_at dksX1_isBest_0 20 rfl rfl)
theorem dX1_isBest_23 : decode cX1_isBest 23 = .ok (.iconst 0, 1) := dk_3 (dk_at dksX1_isBest_0 23 rfl rfl)
theorem dX1_isBest_24 : decode cX1_isBest 24 = .ok (.ireturn, 1) := dk_172 (dk_at dksX1_isBest_1 0 rfl rfl)
theorem dX1_isBest_25 : decode cX1_isBest 25 = .ok (.iinc 3 1, 3) := dk_132 3 1 (dk_at dksX1_isBest_1 1 rfl rfl)
theorem dX1_isBest_28 : decode cX1_isBest 28 = .ok (.goto (-26), 3) := dk_167 255 230 (dk_at dksX1_isBest_1 4 rfl rfl)
theorem dX1_isBest_31 : decode cX1_isBest 31 = .ok (.iconst 1, 1) := dk_4 (dk_at dksX1_isBest_1 7 rfl rfl)
theorem dX1_isBest_32 : decode cX1_isBest 32 = .ok (.ireturn, 1) := dk_172 (dk_at dksX1_isBest_1 8 rfl rfl)
abbrev cX1_gets : ByteArray := prog_1_method_90_code
def yX1_gets : MethodName := ⟨RX1, "gets", "(III)I"⟩
def dkwX1_gets_0 : List UInt8 := [28, 26, 27, 184, 0, 9, 104, 7, 108, 26, 100, 3, 26, 7, 100, 184, 0, 48, 100, 172]
abbrev dktX1_gets_0 : List UInt8 := dkwX1_gets_0 ++ []
theorem dksX1_gets_0 : cX1_gets.data.toList.drop 0 = dktX1_gets_0 := by decide +kernel
theorem dX1_gets_0 : decode cX1_gets 0 = .ok (.iload_n 2, 1) := dk_28 (dk_at dksX1_gets_0 0 rfl rfl)
theorem dX1_gets_1 : decode cX1_gets 1 = .ok (.iload_n 0, 1) := dk_26 (dk_at dksX1_gets_0 1 rfl rfl)
theorem dX1_gets_2 : decode cX1_gets 2 = .ok (.iload_n 1, 1) := dk_27 (dk_at dksX1_gets_0 2 rfl rfl)
theorem dX1_gets_3 : decode cX1_gets 3 = .ok (.invokestatic 9, 3) := dk_184 0 9 (dk_at dksX1_gets_0 3 rfl rfl)
theorem dX1_gets_6 : decode cX1_gets 6 = .ok (.imul, 1) := dk_104 (dk_at dksX1_gets_0 6 rfl rfl)
theorem dX1_gets_7 : decode cX1_gets 7 = .ok (.iconst 4, 1) := dk_7 (dk_at dksX1_gets_0 7 rfl rfl)
theorem dX1_gets_8 : decode cX1_gets 8 = .ok (.idiv, 1) := dk_108 (dk_at dksX1_gets_0 8 rfl rfl)
theorem dX1_gets_9 : decode cX1_gets 9 = .ok (.iload_n 0, 1) := dk_26 (dk_at dksX1_gets_0 9 rfl rfl)
theorem dX1_gets_10 : decode cX1_gets 10 = .ok (.isub, 1) := dk_100 (dk_at dksX1_gets_0 10 rfl rfl)
theorem dX1_gets_11 : decode cX1_gets 11 = .ok (.iconst 0, 1) := dk_3 (dk_at dksX1_gets_0 11 rfl rfl)
theorem dX1_gets_12 : decode cX1_gets 12 = .ok (.iload_n 0, 1) := dk_26 (dk_at dksX1_gets_0 12 rfl rfl)
theorem dX1_gets_13 : decode cX1_gets 13 = .ok (.iconst 4, 1) := dk_7 (dk_at dksX1_gets_0 13 rfl rfl)
theorem dX1_gets_14 : decode cX1_gets 14 = .ok (.isub, 1) := dk_100 (dk_at dksX1_gets_0 14 rfl rfl)
theorem dX1_gets_15 : decode cX1_gets 15 = .ok (.invokestatic 48, 3) := dk_184 0 48 (dk_at dksX1_gets_0 15 rfl rfl)
theorem dX1_gets_18 : decode cX1_gets 18 = .ok (.isub, 1) := dk_100 (dk_at dksX1_gets_0 18 rfl rfl)
theorem dX1_gets_19 : decode cX1_gets 19 = .ok (.ireturn, 1) := dk_172 (dk_at dksX1_gets_0 19 rfl rfl)
abbrev cX1_years : ByteArray := prog_1_method_94_code
def yX1_years : MethodName := ⟨RX1, "years", "(II)I"⟩
def dkwX1_years_8 : List UInt8 := [133, 182, 1, 74, 42, 42, 180, 0, 91, 182, 1, 67, 172]
abbrev dktX1_years_8 : List UInt8 := dkwX1_years_8 ++ []
def dkwX1_years_7 : List UInt8 := [42, 42, 180, 0, 91, 182, 1, 149, 184, 1, 133, 133, 182, 1, 74, 42, 42, 42, 180, 0, 91, 182, 1, 32]
abbrev dktX1_years_7 : List UInt8 := dkwX1_years_7 ++ dktX1_years_8
def dkwX1_years_6 : List UInt8 := [180, 0, 217, 21, 5, 46, 21, 6, 182, 1, 91, 79, 132, 3, 1, 167, 255, 131, 42, 3, 181, 0, 139, 42]
abbrev dktX1_years_6 : List UInt8 := dkwX1_years_6 ++ dktX1_years_7
def dkwX1_years_5 : List UInt8 := [21, 5, 21, 6, 182, 1, 94, 154, 0, 29, 42, 180, 0, 91, 180, 0, 217, 21, 5, 42, 42, 180, 0, 91]
abbrev dktX1_years_5 : List UInt8 := dkwX1_years_5 ++ dktX1_years_6
def dkwX1_years_4 : List UInt8 := [160, 0, 18, 42, 180, 0, 91, 180, 0, 219, 21, 5, 21, 6, 79, 167, 0, 44, 42, 42, 180, 0, 91]
abbrev dktX1_years_4 : List UInt8 := dkwX1_years_4 ++ dktX1_years_5
def dkwX1_years_3 : List UInt8 := [167, 0, 83, 42, 42, 180, 0, 150, 182, 1, 228, 54, 5, 42, 16, 8, 182, 1, 228, 54, 6, 21, 4, 5]
abbrev dktX1_years_3 : List UInt8 := dkwX1_years_3 ++ dktX1_years_4
def dkwX1_years_2 : List UInt8 := [162, 0, 11, 42, 42, 180, 0, 91, 182, 1, 56, 21, 4, 5, 161, 0, 93, 42, 180, 0, 150, 154, 0, 6]
abbrev dktX1_years_2 : List UInt8 := dkwX1_years_2 ++ dktX1_years_3
def dkwX1_years_1 : List UInt8 := [180, 0, 84, 182, 1, 42, 3, 62, 29, 28, 162, 0, 126, 42, 7, 182, 1, 228, 54, 4, 21, 4, 5]
abbrev dktX1_years_1 : List UInt8 := dkwX1_years_1 ++ dktX1_years_2
def dkwX1_years_0 : List UInt8 := [28, 133, 10, 20, 1, 62, 184, 0, 146, 154, 0, 5, 2, 172, 42, 27, 181, 1, 224, 42, 180, 0, 91, 42]
abbrev dktX1_years_0 : List UInt8 := dkwX1_years_0 ++ dktX1_years_1
theorem dksX1_years_0 : cX1_years.data.toList.drop 0 = dktX1_years_0 := by decide +kernel
theorem dksX1_years_1 : cX1_years.data.toList.drop 24 = dktX1_years_1 := dk_seg dksX1_years_0 24 rfl rfl
theorem dksX1_years_2 : cX1_years.data.toList.drop 47 = dktX1_years_2 := dk_seg dksX1_years_1 23 rfl rfl
theorem dksX1_years_3 : cX1_years.data.toList.drop 71 = dktX1_years_3 := dk_seg dksX1_years_2 24 rfl rfl
theorem dksX1_years_4 : cX1_years.data.toList.drop 95 = dktX1_years_4 := dk_seg dksX1_years_3 24 rfl rfl
theorem dksX1_years_5 : cX1_years.data.toList.drop 118 = dktX1_years_5 := dk_seg dksX1_years_4 23 rfl rfl
theorem dksX1_years_6 : cX1_years.data.toList.drop 142 = dktX1_years_6 := dk_seg dksX1_years_5 24 rfl rfl
theorem dksX1_years_7 : cX1_years.data.toList.drop 166 = dktX1_years_7 := dk_seg dksX1_years_6 24 rfl rfl
theorem dksX1_years_8 : cX1_years.data.toList.drop 190 = dktX1_years_8 := dk_seg dksX1_years_7 24 rfl rfl
theorem dX1_years_0 : decode cX1_years 0 = .ok (.iload_n 2, 1) := dk_28 (dk_at dksX1_years_0 0 rfl rfl)
theorem dX1_years_1 : decode cX1_years 1 = .ok (.i2l, 1) := dk_133 (dk_at dksX1_years_0 1 rfl rfl)
theorem dX1_years_2 : decode cX1_years 2 = .ok (.lconst 1, 1) := dk_10 (dk_at dksX1_years_0 2 rfl rfl)
theorem dX1_years_3 : decode cX1_years 3 = .ok (.ldc2_w 318, 3) := dk_20 1 62 (dk_at dksX1_years_0 3 rfl rfl)
theorem dX1_years_6 : decode cX1_years 6 = .ok (.invokestatic 146, 3) := dk_184 0 146 (dk_at dksX1_years_0 6 rfl rfl)
theorem dX1_years_9 : decode cX1_years 9 = .ok (.ifCond .ne 5, 3) := dk_154 0 5 (dk_at dksX1_years_0 9 rfl rfl)
theorem dX1_years_12 : decode cX1_years 12 = .ok (.iconst (-1), 1) := dk_2 (dk_at dksX1_years_0 12 rfl rfl)
theorem dX1_years_13 : decode cX1_years 13 = .ok (.ireturn, 1) := dk_172 (dk_at dksX1_years_0 13 rfl rfl)
theorem dX1_years_14 : decode cX1_years 14 = .ok (.aload_n 0, 1) := dk_42 (dk_at dksX1_years_0 14 rfl rfl)
theorem dX1_years_15 : decode cX1_years 15 = .ok (.iload_n 1, 1) := dk_27 (dk_at dksX1_years_0 15 rfl rfl)
theorem dX1_years_16 : decode cX1_years 16 = .ok (.putfield 480, 3) := dk_181 1 224 (dk_at dksX1_years_0 16 rfl rfl)
theorem dX1_years_19 : decode cX1_years 19 = .ok (.aload_n 0, 1) := dk_42 (dk_at dksX1_years_0 19 rfl rfl)
theorem dX1_years_20 : decode cX1_years 20 = .ok (.getfield 91, 3) := dk_180 0 91 (dk_at dksX1_years_0 20 rfl rfl)
theorem dX1_years_23 : decode cX1_years 23 = .ok (.aload_n 0, 1) := dk_42 (dk_at dksX1_years_0 23 rfl rfl)
theorem dX1_years_24 : decode cX1_years 24 = .ok (.getfield 84, 3) := dk_180 0 84 (dk_at dksX1_years_1 0 rfl rfl)
theorem dX1_years_27 : decode cX1_years 27 = .ok (.invokevirtual 298, 3) := dk_182 1 42 (dk_at dksX1_years_1 3 rfl rfl)
theorem dX1_years_30 : decode cX1_years 30 = .ok (.iconst 0, 1) := dk_3 (dk_at dksX1_years_1 6 rfl rfl)
theorem dX1_years_31 : decode cX1_years 31 = .ok (.istore_n 3, 1) := dk_62 (dk_at dksX1_years_1 7 rfl rfl)
theorem dX1_years_32 : decode cX1_years 32 = .ok (.iload_n 3, 1) := dk_29 (dk_at dksX1_years_1 8 rfl rfl)
theorem dX1_years_33 : decode cX1_years 33 = .ok (.iload_n 2, 1) := dk_28 (dk_at dksX1_years_1 9 rfl rfl)
theorem dX1_years_34 : decode cX1_years 34 = .ok (.if_icmp .ge 126, 3) := dk_162 0 126 (dk_at dksX1_years_1 10 rfl rfl)
theorem dX1_years_37 : decode cX1_years 37 = .ok (.aload_n 0, 1) := dk_42 (dk_at dksX1_years_1 13 rfl rfl)
theorem dX1_years_38 : decode cX1_years 38 = .ok (.iconst 4, 1) := dk_7 (dk_at dksX1_years_1 14 rfl rfl)
theorem dX1_years_39 : decode cX1_years 39 = .ok (.invokevirtual 484, 3) := dk_182 1 228 (dk_at dksX1_years_1 15 rfl rfl)
theorem dX1_years_42 : decode cX1_years 42 = .ok (.istore 4, 2) := dk_54 4 (dk_at dksX1_years_1 18 rfl rfl)
theorem dX1_years_44 : decode cX1_years 44 = .ok (.iload 4, 2) := dk_21 4 (dk_at dksX1_years_1 20 rfl rfl)
theorem dX1_years_46 : decode cX1_years 46 = .ok (.iconst 2, 1) := dk_5 (dk_at dksX1_years_1 22 rfl rfl)
theorem dX1_years_47 : decode cX1_years 47 = .ok (.if_icmp .ge 11, 3) := dk_162 0 11 (dk_at dksX1_years_2 0 rfl rfl)
theorem dX1_years_50 : decode cX1_years 50 = .ok (.aload_n 0, 1) := dk_42 (dk_at dksX1_years_2 3 rfl rfl)
theorem dX1_years_51 : decode cX1_years 51 = .ok (.aload_n 0, 1) := dk_42 (dk_at dksX1_years_2 4 rfl rfl)
theorem dX1_years_52 : decode cX1_years 52 = .ok (.getfield 91, 3) := dk_180 0 91 (dk_at dksX1_years_2 5 rfl rfl)
theorem dX1_years_55 : decode cX1_years 55 = .ok (.invokevirtual 312, 3) := dk_182 1 56 (dk_at dksX1_years_2 8 rfl rfl)
theorem dX1_years_58 : decode cX1_years 58 = .ok (.iload 4, 2) := dk_21 4 (dk_at dksX1_years_2 11 rfl rfl)
theorem dX1_years_60 : decode cX1_years 60 = .ok (.iconst 2, 1) := dk_5 (dk_at dksX1_years_2 13 rfl rfl)
theorem dX1_years_61 : decode cX1_years 61 = .ok (.if_icmp .lt 93, 3) := dk_161 0 93 (dk_at dksX1_years_2 14 rfl rfl)
theorem dX1_years_64 : decode cX1_years 64 = .ok (.aload_n 0, 1) := dk_42 (dk_at dksX1_years_2 17 rfl rfl)
theorem dX1_years_65 : decode cX1_years 65 = .ok (.getfield 150, 3) := dk_180 0 150 (dk_at dksX1_years_2 18 rfl rfl)
theorem dX1_years_68 : decode cX1_years 68 = .ok (.ifCond .ne 6, 3) := dk_154 0 6 (dk_at dksX1_years_2 21 rfl rfl)
theorem dX1_years_71 : decode cX1_years 71 = .ok (.goto 83, 3) := dk_167 0 83 (dk_at dksX1_years_3 0 rfl rfl)
theorem dX1_years_74 : decode cX1_years 74 = .ok (.aload_n 0, 1) := dk_42 (dk_at dksX1_years_3 3 rfl rfl)
theorem dX1_years_75 : decode cX1_years 75 = .ok (.aload_n 0, 1) := dk_42 (dk_at dksX1_years_3 4 rfl rfl)
theorem dX1_years_76 : decode cX1_years 76 = .ok (.getfield 150, 3) := dk_180 0 150 (dk_at dksX1_years_3 5 rfl rfl)
theorem dX1_years_79 : decode cX1_years 79 = .ok (.invokevirtual 484, 3) := dk_182 1 228 (dk_at dksX1_years_3 8 rfl rfl)
theorem dX1_years_82 : decode cX1_years 82 = .ok (.istore 5, 2) := dk_54 5 (dk_at dksX1_years_3 11 rfl rfl)
theorem dX1_years_84 : decode cX1_years 84 = .ok (.aload_n 0, 1) := dk_42 (dk_at dksX1_years_3 13 rfl rfl)
theorem dX1_years_85 : decode cX1_years 85 = .ok (.bipush 8, 2) := dk_16 8 (dk_at dksX1_years_3 14 rfl rfl)
theorem dX1_years_87 : decode cX1_years 87 = .ok (.invokevirtual 484, 3) := dk_182 1 228 (dk_at dksX1_years_3 16 rfl rfl)
theorem dX1_years_90 : decode cX1_years 90 = .ok (.istore 6, 2) := dk_54 6 (dk_at dksX1_years_3 19 rfl rfl)
theorem dX1_years_92 : decode cX1_years 92 = .ok (.iload 4, 2) := dk_21 4 (dk_at dksX1_years_3 21 rfl rfl)
theorem dX1_years_94 : decode cX1_years 94 = .ok (.iconst 2, 1) := dk_5 (dk_at dksX1_years_3 23 rfl rfl)
theorem dX1_years_95 : decode cX1_years 95 = .ok (.if_icmp .ne 18, 3) := dk_160 0 18 (dk_at dksX1_years_4 0 rfl rfl)
theorem dX1_years_98 : decode cX1_years 98 = .ok (.aload_n 0, 1) := dk_42 (dk_at dksX1_years_4 3 rfl rfl)
theorem dX1_years_99 : decode cX1_years 99 = .ok (.getfield 91, 3) := dk_180 0 91 (dk_at dksX1_years_4 4 rfl rfl)
theorem dX1_years_102 : decode cX1_years 102 = .ok (.getfield 219, 3) := dk_180 0 219 (dk_at dksX1_years_4 7 rfl rfl)
theorem dX1_years_105 : decode cX1_years 105 = .ok (.iload 5, 2) := dk_21 5 (dk_at dksX1_years_4 10 rfl rfl)
theorem dX1_years_107 : decode cX1_years 107 = .ok (.iload 6, 2) := dk_21 6 (dk_at dksX1_years_4 12 rfl rfl)
theorem dX1_years_109 : decode cX1_years 109 = .ok (.iastore, 1) := dk_79 (dk_at dksX1_years_4 14 rfl rfl)
theorem dX1_years_110 : decode cX1_years 110 = .ok (.goto 44, 3) := dk_167 0 44 (dk_at dksX1_years_4 15 rfl rfl)
theorem dX1_years_113 : decode cX1_years 113 = .ok (.aload_n 0, 1) := dk_42 (dk_at dksX1_years_4 18 rfl rfl)
theorem dX1_years_114 : decode cX1_years 114 = .ok (.aload_n 0, 1) := dk_42 (dk_at dksX1_years_4 19 rfl rfl)
theorem dX1_years_115 : decode cX1_years 115 = .ok (.getfield 91, 3) := dk_180 0 91 (dk_at dksX1_years_4 20 rfl rfl)
theorem dX1_years_118 : decode cX1_years 118 = .ok (.iload 5, 2) := dk_21 5 (dk_at dksX1_years_5 0 rfl rfl)
theorem dX1_years_120 : decode cX1_years 120 = .ok (.iload 6, 2) := dk_21 6 (dk_at dksX1_years_5 2 rfl rfl)
theorem dX1_years_122 : decode cX1_years 122 = .ok (.invokevirtual 350, 3) := dk_182 1 94 (dk_at dksX1_years_5 4 rfl rfl)
theorem dX1_years_125 : decode cX1_years 125 = .ok (.ifCond .ne 29, 3) := dk_154 0 29 (dk_at dksX1_years_5 7 rfl rfl)
theorem dX1_years_128 : decode cX1_years 128 = .ok (.aload_n 0, 1) := dk_42 (dk_at dksX1_years_5 10 rfl rfl)
theorem dX1_years_129 : decode cX1_years 129 = .ok (.getfield 91, 3) := dk_180 0 91 (dk_at dksX1_years_5 11 rfl rfl)
theorem dX1_years_132 : decode cX1_years 132 = .ok (.getfield 217, 3) := dk_180 0 217 (dk_at dksX1_years_5 14 rfl rfl)
theorem dX1_years_135 : decode cX1_years 135 = .ok (.iload 5, 2) := dk_21 5 (dk_at dksX1_years_5 17 rfl rfl)
theorem dX1_years_137 : decode cX1_years 137 = .ok (.aload_n 0, 1) := dk_42 (dk_at dksX1_years_5 19 rfl rfl)
theorem dX1_years_138 : decode cX1_years 138 = .ok (.aload_n 0, 1) := dk_42 (dk_at dksX1_years_5 20 rfl rfl)
theorem dX1_years_139 : decode cX1_years 139 = .ok (.getfield 91, 3) := dk_180 0 91 (dk_at dksX1_years_5 21 rfl rfl)
theorem dX1_years_142 : decode cX1_years 142 = .ok (.getfield 217, 3) := dk_180 0 217 (dk_at dksX1_years_6 0 rfl rfl)
theorem dX1_years_145 : decode cX1_years 145 = .ok (.iload 5, 2) := dk_21 5 (dk_at dksX1_years_6 3 rfl rfl)
theorem dX1_years_147 : decode cX1_years 147 = .ok (.iaload, 1) := dk_46 (dk_at dksX1_years_6 5 rfl rfl)
theorem dX1_years_148 : decode cX1_years 148 = .ok (.iload 6, 2) := dk_21 6 (dk_at dksX1_years_6 6 rfl rfl)
theorem dX1_years_150 : decode cX1_years 150 = .ok (.invokevirtual 347, 3) := dk_182 1 91 (dk_at dksX1_years_6 8 rfl rfl)
theorem dX1_years_153 : decode cX1_years 153 = .ok (.iastore, 1) := dk_79 (dk_at dksX1_years_6 11 rfl rfl)
theorem dX1_years_154 : decode cX1_years 154 = .ok (.iinc 3 1, 3) := dk_132 3 1 (dk_at dksX1_years_6 12 rfl rfl)
theorem dX1_years_157 : decode cX1_years 157 = .ok (.goto (-125), 3) := dk_167 255 131 (dk_at dksX1_years_6 15 rfl rfl)
theorem dX1_years_160 : decode cX1_years 160 = .ok (.aload_n 0, 1) := dk_42 (dk_at dksX1_years_6 18 rfl rfl)
theorem dX1_years_161 : decode cX1_years 161 = .ok (.iconst 0, 1) := dk_3 (dk_at dksX1_years_6 19 rfl rfl)
theorem dX1_years_162 : decode cX1_years 162 = .ok (.putfield 139, 3) := dk_181 0 139 (dk_at dksX1_years_6 20 rfl rfl)
theorem dX1_years_165 : decode cX1_years 165 = .ok (.aload_n 0, 1) := dk_42 (dk_at dksX1_years_6 23 rfl rfl)
theorem dX1_years_166 : decode cX1_years 166 = .ok (.aload_n 0, 1) := dk_42 (dk_at dksX1_years_7 0 rfl rfl)
theorem dX1_years_167 : decode cX1_years 167 = .ok (.aload_n 0, 1) := dk_42 (dk_at dksX1_years_7 1 rfl rfl)
theorem dX1_years_168 : decode cX1_years 168 = .ok (.getfield 91, 3) := dk_180 0 91 (dk_at dksX1_years_7 2 rfl rfl)
theorem dX1_years_171 : decode cX1_years 171 = .ok (.invokevirtual 405, 3) := dk_182 1 149 (dk_at dksX1_years_7 5 rfl rfl)
theorem dX1_years_174 : decode cX1_years 174 = .ok (.invokestatic 389, 3) := dk_184 1 133 (dk_at dksX1_years_7 8 rfl rfl)
theorem dX1_years_177 : decode cX1_years 177 = .ok (.i2l, 1) := dk_133 (dk_at dksX1_years_7 11 rfl rfl)
theorem dX1_years_178 : decode cX1_years 178 = .ok (.invokevirtual 330, 3) := dk_182 1 74 (dk_at dksX1_years_7 12 rfl rfl)
theorem dX1_years_181 : decode cX1_years 181 = .ok (.aload_n 0, 1) := dk_42 (dk_at dksX1_years_7 15 rfl rfl)
theorem dX1_years_182 : decode cX1_years 182 = .ok (.aload_n 0, 1) := dk_42 (dk_at dksX1_years_7 16 rfl rfl)
theorem dX1_years_183 : decode cX1_years 183 = .ok (.aload_n 0, 1) := dk_42 (dk_at dksX1_years_7 17 rfl rfl)
theorem dX1_years_184 : decode cX1_years 184 = .ok (.getfield 91, 3) := dk_180 0 91 (dk_at dksX1_years_7 18 rfl rfl)
theorem dX1_years_187 : decode cX1_years 187 = .ok (.invokevirtual 288, 3) := dk_182 1 32 (dk_at dksX1_years_7 21 rfl rfl)
theorem dX1_years_190 : decode cX1_years 190 = .ok (.i2l, 1) := dk_133 (dk_at dksX1_years_8 0 rfl rfl)
theorem dX1_years_191 : decode cX1_years 191 = .ok (.invokevirtual 330, 3) := dk_182 1 74 (dk_at dksX1_years_8 1 rfl rfl)
theorem dX1_years_194 : decode cX1_years 194 = .ok (.aload_n 0, 1) := dk_42 (dk_at dksX1_years_8 4 rfl rfl)
theorem dX1_years_195 : decode cX1_years 195 = .ok (.aload_n 0, 1) := dk_42 (dk_at dksX1_years_8 5 rfl rfl)
theorem dX1_years_196 : decode cX1_years 196 = .ok (.getfield 91, 3) := dk_180 0 91 (dk_at dksX1_years_8 6 rfl rfl)
theorem dX1_years_199 : decode cX1_years 199 = .ok (.invokevirtual 323, 3) := dk_182 1 67 (dk_at dksX1_years_8 9 rfl rfl)
theorem dX1_years_202 : decode cX1_years 202 = .ok (.ireturn, 1) := dk_172 (dk_at dksX1_years_8 12 rfl rfl)
abbrev cX1_draw : ByteArray := prog_1_method_93_code
def yX1_draw : MethodName := ⟨RX1, "draw", "(I)I"⟩
def dkwX1_draw_1 : List UInt8 := [112, 172]
abbrev dktX1_draw_1 : List UInt8 := dkwX1_draw_1 ++ []
def dkwX1_draw_0 : List UInt8 := [42, 42, 180, 1, 224, 19, 1, 227, 104, 17, 48, 57, 96, 181, 1, 224, 42, 180, 1, 224, 16, 16, 124, 27]
abbrev dktX1_draw_0 : List UInt8 := dkwX1_draw_0 ++ dktX1_draw_1
theorem dksX1_draw_0 : cX1_draw.data.toList.drop 0 = dktX1_draw_0 := by decide +kernel
theorem dksX1_draw_1 : cX1_draw.data.toList.drop 24 = dktX1_draw_1 := dk_seg dksX1_draw_0 24 rfl rfl
theorem dX1_draw_0 : decode cX1_draw 0 = .ok (.aload_n 0, 1) := dk_42 (dk_at dksX1_draw_0 0 rfl rfl)
theorem dX1_draw_1 : decode cX1_draw 1 = .ok (.aload_n 0, 1) := dk_42 (dk_at dksX1_draw_0 1 rfl rfl)
theorem dX1_draw_2 : decode cX1_draw 2 = .ok (.getfield 480, 3) := dk_180 1 224 (dk_at dksX1_draw_0 2 rfl rfl)
theorem dX1_draw_5 : decode cX1_draw 5 = .ok (.ldc_w 483, 3) := dk_19 1 227 (dk_at dksX1_draw_0 5 rfl rfl)
theorem dX1_draw_8 : decode cX1_draw 8 = .ok (.imul, 1) := dk_104 (dk_at dksX1_draw_0 8 rfl rfl)
theorem dX1_draw_9 : decode cX1_draw 9 = .ok (.sipush 12345, 3) := dk_17 48 57 (dk_at dksX1_draw_0 9 rfl rfl)
theorem dX1_draw_12 : decode cX1_draw 12 = .ok (.iadd, 1) := dk_96 (dk_at dksX1_draw_0 12 rfl rfl)
theorem dX1_draw_13 : decode cX1_draw 13 = .ok (.putfield 480, 3) := dk_181 1 224 (dk_at dksX1_draw_0 13 rfl rfl)
theorem dX1_draw_16 : decode cX1_draw 16 = .ok (.aload_n 0, 1) := dk_42 (dk_at dksX1_draw_0 16 rfl rfl)
theorem dX1_draw_17 : decode cX1_draw 17 = .ok (.getfield 480, 3) := dk_180 1 224 (dk_at dksX1_draw_0 17 rfl rfl)
theorem dX1_draw_20 : decode cX1_draw 20 = .ok (.bipush 16, 2) := dk_16 16 (dk_at dksX1_draw_0 20 rfl rfl)
theorem dX1_draw_22 : decode cX1_draw 22 = .ok (.iushr, 1) := dk_124 (dk_at dksX1_draw_0 22 rfl rfl)
theorem dX1_draw_23 : decode cX1_draw 23 = .ok (.iload_n 1, 1) := dk_27 (dk_at dksX1_draw_0 23 rfl rfl)
theorem dX1_draw_24 : decode cX1_draw 24 = .ok (.irem, 1) := dk_112 (dk_at dksX1_draw_1 0 rfl rfl)
theorem dX1_draw_25 : decode cX1_draw 25 = .ok (.ireturn, 1) := dk_172 (dk_at dksX1_draw_1 1 rfl rfl)
abbrev cX1_keep : ByteArray := prog_1_method_95_code
def yX1_keep : MethodName := ⟨RX1, "keep", "(I)Z"⟩
def dkwX1_keep_1 : List UInt8 := [183, 1, 231, 83, 4, 172]
abbrev dktX1_keep_1 : List UInt8 := dkwX1_keep_1 ++ []
def dkwX1_keep_0 : List UInt8 := [27, 133, 9, 20, 1, 9, 184, 0, 146, 154, 0, 5, 3, 172, 42, 180, 0, 135, 27, 187, 0, 133, 89, 42]
abbrev dktX1_keep_0 : List UInt8 := dkwX1_keep_0 ++ dktX1_keep_1
theorem dksX1_keep_0 : cX1_keep.data.toList.drop 0 = dktX1_keep_0 := by decide +kernel
theorem dksX1_keep_1 : cX1_keep.data.toList.drop 24 = dktX1_keep_1 := dk_seg dksX1_keep_0 24 rfl rfl
theorem dX1_keep_0 : decode cX1_keep 0 = .ok (.iload_n 1, 1) := dk_27 (dk_at dksX1_keep_0 0 rfl rfl)
theorem dX1_keep_1 : decode cX1_keep 1 = .ok (.i2l, 1) := dk_133 (dk_at dksX1_keep_0 1 rfl rfl)
theorem dX1_keep_2 : decode cX1_keep 2 = .ok (.lconst 0, 1) := dk_9 (dk_at dksX1_keep_0 2 rfl rfl)
theorem dX1_keep_3 : decode cX1_keep 3 = .ok (.ldc2_w 265, 3) := dk_20 1 9 (dk_at dksX1_keep_0 3 rfl rfl)
theorem dX1_keep_6 : decode cX1_keep 6 = .ok (.invokestatic 146, 3) := dk_184 0 146 (dk_at dksX1_keep_0 6 rfl rfl)
theorem dX1_keep_9 : decode cX1_keep 9 = .ok (.ifCond .ne 5, 3) := dk_154 0 5 (dk_at dksX1_keep_0 9 rfl rfl)
theorem dX1_keep_12 : decode cX1_keep 12 = .ok (.iconst 0, 1) := dk_3 (dk_at dksX1_keep_0 12 rfl rfl)
theorem dX1_keep_13 : decode cX1_keep 13 = .ok (.ireturn, 1) := dk_172 (dk_at dksX1_keep_0 13 rfl rfl)
theorem dX1_keep_14 : decode cX1_keep 14 = .ok (.aload_n 0, 1) := dk_42 (dk_at dksX1_keep_0 14 rfl rfl)
theorem dX1_keep_15 : decode cX1_keep 15 = .ok (.getfield 135, 3) := dk_180 0 135 (dk_at dksX1_keep_0 15 rfl rfl)
theorem dX1_keep_18 : decode cX1_keep 18 = .ok (.iload_n 1, 1) := dk_27 (dk_at dksX1_keep_0 18 rfl rfl)
theorem dX1_keep_19 : decode cX1_keep 19 = .ok (.new 133, 3) := dk_187 0 133 (dk_at dksX1_keep_0 19 rfl rfl)
theorem dX1_keep_22 : decode cX1_keep 22 = .ok (.dup, 1) := dk_89 (dk_at dksX1_keep_0 22 rfl rfl)
theorem dX1_keep_23 : decode cX1_keep 23 = .ok (.aload_n 0, 1) := dk_42 (dk_at dksX1_keep_0 23 rfl rfl)
theorem dX1_keep_24 : decode cX1_keep 24 = .ok (.invokespecial 487, 3) := dk_183 1 231 (dk_at dksX1_keep_1 0 rfl rfl)
theorem dX1_keep_27 : decode cX1_keep 27 = .ok (.aastore, 1) := dk_83 (dk_at dksX1_keep_1 3 rfl rfl)
theorem dX1_keep_28 : decode cX1_keep 28 = .ok (.iconst 1, 1) := dk_4 (dk_at dksX1_keep_1 4 rfl rfl)
theorem dX1_keep_29 : decode cX1_keep 29 = .ok (.ireturn, 1) := dk_172 (dk_at dksX1_keep_1 5 rfl rfl)
abbrev cX1_again : ByteArray := prog_1_method_96_code
def yX1_again : MethodName := ⟨RX1, "again", "(I)Z"⟩
def dkwX1_again_2 : List UInt8 := [180, 0, 135, 27, 50, 180, 1, 235, 182, 1, 42, 42, 3, 181, 0, 196, 4, 172]
abbrev dktX1_again_2 : List UInt8 := dkwX1_again_2 ++ []
def dkwX1_again_1 : List UInt8 := [180, 0, 135, 27, 50, 180, 1, 232, 42, 180, 0, 199, 159, 0, 5, 3, 172, 42, 180, 0, 84, 42]
abbrev dktX1_again_1 : List UInt8 := dkwX1_again_1 ++ dktX1_again_2
def dkwX1_again_0 : List UInt8 := [27, 133, 9, 20, 1, 9, 184, 0, 146, 153, 0, 28, 42, 180, 0, 135, 27, 50, 198, 0, 19, 42]
abbrev dktX1_again_0 : List UInt8 := dkwX1_again_0 ++ dktX1_again_1
theorem dksX1_again_0 : cX1_again.data.toList.drop 0 = dktX1_again_0 := by decide +kernel
theorem dksX1_again_1 : cX1_again.data.toList.drop 22 = dktX1_again_1 := dk_seg dksX1_again_0 22 rfl rfl
theorem dksX1_again_2 : cX1_again.data.toList.drop 44 = dktX1_again_2 := dk_seg dksX1_again_1 22 rfl rfl
theorem dX1_again_0 : decode cX1_again 0 = .ok (.iload_n 1, 1) := dk_27 (dk_at dksX1_again_0 0 rfl rfl)
theorem dX1_again_1 : decode cX1_again 1 = .ok (.i2l, 1) := dk_133 (dk_at dksX1_again_0 1 rfl rfl)
theorem dX1_again_2 : decode cX1_again 2 = .ok (.lconst 0, 1) := dk_9 (dk_at dksX1_again_0 2 rfl rfl)
theorem dX1_again_3 : decode cX1_again 3 = .ok (.ldc2_w 265, 3) := dk_20 1 9 (dk_at dksX1_again_0 3 rfl rfl)
theorem dX1_again_6 : decode cX1_again 6 = .ok (.invokestatic 146, 3) := dk_184 0 146 (dk_at dksX1_again_0 6 rfl rfl)
theorem dX1_again_9 : decode cX1_again 9 = .ok (.ifCond .eq 28, 3) := dk_153 0 28 (dk_at dksX1_again_0 9 rfl rfl)
theorem dX1_again_12 : decode cX1_again 12 = .ok (.aload_n 0, 1) := dk_42 (dk_at dksX1_again_0 12 rfl rfl)
theorem dX1_again_13 : decode cX1_again 13 = .ok (.getfield 135, 3) := dk_180 0 135 (dk_at dksX1_again_0 13 rfl rfl)
theorem dX1_again_16 : decode cX1_again 16 = .ok (.iload_n 1, 1) := dk_27 (dk_at dksX1_again_0 16 rfl rfl)
theorem dX1_again_17 : decode cX1_again 17 = .ok (.aaload, 1) := dk_50 (dk_at dksX1_again_0 17 rfl rfl)
theorem dX1_again_18 : decode cX1_again 18 = .ok (.ifnull 19, 3) := dk_198 0 19 (dk_at dksX1_again_0 18 rfl rfl)
theorem dX1_again_21 : decode cX1_again 21 = .ok (.aload_n 0, 1) := dk_42 (dk_at dksX1_again_0 21 rfl rfl)
theorem dX1_again_22 : decode cX1_again 22 = .ok (.getfield 135, 3) := dk_180 0 135 (dk_at dksX1_again_1 0 rfl rfl)
theorem dX1_again_25 : decode cX1_again 25 = .ok (.iload_n 1, 1) := dk_27 (dk_at dksX1_again_1 3 rfl rfl)
theorem dX1_again_26 : decode cX1_again 26 = .ok (.aaload, 1) := dk_50 (dk_at dksX1_again_1 4 rfl rfl)
theorem dX1_again_27 : decode cX1_again 27 = .ok (.getfield 488, 3) := dk_180 1 232 (dk_at dksX1_again_1 5 rfl rfl)
theorem dX1_again_30 : decode cX1_again 30 = .ok (.aload_n 0, 1) := dk_42 (dk_at dksX1_again_1 8 rfl rfl)
theorem dX1_again_31 : decode cX1_again 31 = .ok (.getfield 199, 3) := dk_180 0 199 (dk_at dksX1_again_1 9 rfl rfl)
theorem dX1_again_34 : decode cX1_again 34 = .ok (.if_icmp .eq 5, 3) := dk_159 0 5 (dk_at dksX1_again_1 12 rfl rfl)
theorem dX1_again_37 : decode cX1_again 37 = .ok (.iconst 0, 1) := dk_3 (dk_at dksX1_again_1 15 rfl rfl)
theorem dX1_again_38 : decode cX1_again 38 = .ok (.ireturn, 1) := dk_172 (dk_at dksX1_again_1 16 rfl rfl)
theorem dX1_again_39 : decode cX1_again 39 = .ok (.aload_n 0, 1) := dk_42 (dk_at dksX1_again_1 17 rfl rfl)
theorem dX1_again_40 : decode cX1_again 40 = .ok (.getfield 84, 3) := dk_180 0 84 (dk_at dksX1_again_1 18 rfl rfl)
theorem dX1_again_43 : decode cX1_again 43 = .ok (.aload_n 0, 1) := dk_42 (dk_at dksX1_again_1 21 rfl rfl)
theorem dX1_again_44 : decode cX1_again 44 = .ok (.getfield 135, 3) := dk_180 0 135 (dk_at dksX1_again_2 0 rfl rfl)
theorem dX1_again_47 : decode cX1_again 47 = .ok (.iload_n 1, 1) := dk_27 (dk_at dksX1_again_2 3 rfl rfl)
theorem dX1_again_48 : decode cX1_again 48 = .ok (.aaload, 1) := dk_50 (dk_at dksX1_again_2 4 rfl rfl)
theorem dX1_again_49 : decode cX1_again 49 = .ok (.getfield 491, 3) := dk_180 1 235 (dk_at dksX1_again_2 5 rfl rfl)
theorem dX1_again_52 : decode cX1_again 52 = .ok (.invokevirtual 298, 3) := dk_182 1 42 (dk_at dksX1_again_2 8 rfl rfl)
theorem dX1_again_55 : decode cX1_again 55 = .ok (.aload_n 0, 1) := dk_42 (dk_at dksX1_again_2 11 rfl rfl)
theorem dX1_again_56 : decode cX1_again 56 = .ok (.iconst 0, 1) := dk_3 (dk_at dksX1_again_2 12 rfl rfl)
theorem dX1_again_57 : decode cX1_again 57 = .ok (.putfield 196, 3) := dk_181 0 196 (dk_at dksX1_again_2 13 rfl rfl)
theorem dX1_again_60 : decode cX1_again 60 = .ok (.iconst 1, 1) := dk_4 (dk_at dksX1_again_2 16 rfl rfl)
theorem dX1_again_61 : decode cX1_again 61 = .ok (.ireturn, 1) := dk_172 (dk_at dksX1_again_2 17 rfl rfl)
abbrev cX1_count : ByteArray := prog_1_method_97_code
def yX1_count : MethodName := ⟨RX1, "count", "(I)I"⟩
def dkwX1_count_5 : List UInt8 := [180, 0, 190, 172, 42, 180, 0, 196, 172, 42, 180, 0, 139, 172, 42, 180, 0, 160, 172, 16, 156, 172]
abbrev dktX1_count_5 : List UInt8 := dkwX1_count_5 ++ []
def dkwX1_count_4 : List UInt8 := [172, 42, 180, 0, 22, 184, 1, 133, 172, 42, 42, 180, 0, 84, 182, 1, 149, 184, 1, 133, 172, 42]
abbrev dktX1_count_4 : List UInt8 := dkwX1_count_4 ++ dktX1_count_5
def dkwX1_count_3 : List UInt8 := [180, 0, 34, 172, 42, 42, 180, 0, 84, 180, 0, 34, 182, 0, 39, 172, 42, 42, 180, 0, 84, 182, 1, 67]
abbrev dktX1_count_3 : List UInt8 := dkwX1_count_3 ++ dktX1_count_4
def dkwX1_count_2 : List UInt8 := [42, 180, 0, 80, 172, 42, 180, 0, 13, 172, 42, 180, 0, 150, 172, 42, 180, 0, 153, 172, 42, 180, 0, 84]
abbrev dktX1_count_2 : List UInt8 := dkwX1_count_2 ++ dktX1_count_3
def dkwX1_count_1 : List UInt8 := [170, 0, 0, 0, 0, 0, 156, 0, 0, 0, 0, 0, 0, 0, 12, 0, 0, 0, 67, 0, 0, 0, 72, 0, 0, 0, 77, 0, 0, 0, 82, 0, 0, 0, 87, 0, 0, 0, 95, 0, 0, 0, 107, 0, 0, 0, 116, 0, 0, 0, 124, 0, 0, 0, 136, 0, 0, 0, 141, 0, 0, 0, 146, 0, 0, 0, 151]
abbrev dktX1_count_1 : List UInt8 := dkwX1_count_1 ++ dktX1_count_2
def dkwX1_count_0 : List UInt8 := [27]
abbrev dktX1_count_0 : List UInt8 := dkwX1_count_0 ++ dktX1_count_1
theorem dksX1_count_0 : cX1_count.data.toList.drop 0 = dktX1_count_0 := by decide +kernel
theorem dksX1_count_1 : cX1_count.data.toList.drop 1 = dktX1_count_1 := dk_seg dksX1_count_0 1 rfl rfl
theorem dksX1_count_2 : cX1_count.data.toList.drop 68 = dktX1_count_2 := dk_seg dksX1_count_1 67 rfl rfl
theorem dksX1_count_3 : cX1_count.data.toList.drop 92 = dktX1_count_3 := dk_seg dksX1_count_2 24 rfl rfl
theorem dksX1_count_4 : cX1_count.data.toList.drop 116 = dktX1_count_4 := dk_seg dksX1_count_3 24 rfl rfl
theorem dksX1_count_5 : cX1_count.data.toList.drop 138 = dktX1_count_5 := dk_seg dksX1_count_4 22 rfl rfl
theorem dX1_count_0 : decode cX1_count 0 = .ok (.iload_n 1, 1) := dk_27 (dk_at dksX1_count_0 0 rfl rfl)
theorem dX1_count_1 : decode cX1_count 1 = .ok (.tableswitch 156 0 12 #[67, 72, 77, 82, 87, 95, 107, 116, 124, 136, 141, 146, 151], 67) := by decide +kernel
theorem dX1_count_68 : decode cX1_count 68 = .ok (.aload_n 0, 1) := dk_42 (dk_at dksX1_count_2 0 rfl rfl)
theorem dX1_count_69 : decode cX1_count 69 = .ok (.getfield 80, 3) := dk_180 0 80 (dk_at dksX1_count_2 1 rfl rfl)
theorem dX1_count_72 : decode cX1_count 72 = .ok (.ireturn, 1) := dk_172 (dk_at dksX1_count_2 4 rfl rfl)
theorem dX1_count_73 : decode cX1_count 73 = .ok (.aload_n 0, 1) := dk_42 (dk_at dksX1_count_2 5 rfl rfl)
theorem dX1_count_74 : decode cX1_count 74 = .ok (.getfield 13, 3) := dk_180 0 13 (dk_at dksX1_count_2 6 rfl rfl)
theorem dX1_count_77 : decode cX1_count 77 = .ok (.ireturn, 1) := dk_172 (dk_at dksX1_count_2 9 rfl rfl)
theorem dX1_count_78 : decode cX1_count 78 = .ok (.aload_n 0, 1) := dk_42 (dk_at dksX1_count_2 10 rfl rfl)
theorem dX1_count_79 : decode cX1_count 79 = .ok (.getfield 150, 3) := dk_180 0 150 (dk_at dksX1_count_2 11 rfl rfl)
theorem dX1_count_82 : decode cX1_count 82 = .ok (.ireturn, 1) := dk_172 (dk_at dksX1_count_2 14 rfl rfl)
theorem dX1_count_83 : decode cX1_count 83 = .ok (.aload_n 0, 1) := dk_42 (dk_at dksX1_count_2 15 rfl rfl)
theorem dX1_count_84 : decode cX1_count 84 = .ok (.getfield 153, 3) := dk_180 0 153 (dk_at dksX1_count_2 16 rfl rfl)
theorem dX1_count_87 : decode cX1_count 87 = .ok (.ireturn, 1) := dk_172 (dk_at dksX1_count_2 19 rfl rfl)
theorem dX1_count_88 : decode cX1_count 88 = .ok (.aload_n 0, 1) := dk_42 (dk_at dksX1_count_2 20 rfl rfl)
theorem dX1_count_89 : decode cX1_count 89 = .ok (.getfield 84, 3) := dk_180 0 84 (dk_at dksX1_count_2 21 rfl rfl)
theorem dX1_count_92 : decode cX1_count 92 = .ok (.getfield 34, 3) := dk_180 0 34 (dk_at dksX1_count_3 0 rfl rfl)
theorem dX1_count_95 : decode cX1_count 95 = .ok (.ireturn, 1) := dk_172 (dk_at dksX1_count_3 3 rfl rfl)
theorem dX1_count_96 : decode cX1_count 96 = .ok (.aload_n 0, 1) := dk_42 (dk_at dksX1_count_3 4 rfl rfl)
theorem dX1_count_97 : decode cX1_count 97 = .ok (.aload_n 0, 1) := dk_42 (dk_at dksX1_count_3 5 rfl rfl)
theorem dX1_count_98 : decode cX1_count 98 = .ok (.getfield 84, 3) := dk_180 0 84 (dk_at dksX1_count_3 6 rfl rfl)
theorem dX1_count_101 : decode cX1_count 101 = .ok (.getfield 34, 3) := dk_180 0 34 (dk_at dksX1_count_3 9 rfl rfl)
theorem dX1_count_104 : decode cX1_count 104 = .ok (.invokevirtual 39, 3) := dk_182 0 39 (dk_at dksX1_count_3 12 rfl rfl)
theorem dX1_count_107 : decode cX1_count 107 = .ok (.ireturn, 1) := dk_172 (dk_at dksX1_count_3 15 rfl rfl)
theorem dX1_count_108 : decode cX1_count 108 = .ok (.aload_n 0, 1) := dk_42 (dk_at dksX1_count_3 16 rfl rfl)
theorem dX1_count_109 : decode cX1_count 109 = .ok (.aload_n 0, 1) := dk_42 (dk_at dksX1_count_3 17 rfl rfl)
theorem dX1_count_110 : decode cX1_count 110 = .ok (.getfield 84, 3) := dk_180 0 84 (dk_at dksX1_count_3 18 rfl rfl)
theorem dX1_count_113 : decode cX1_count 113 = .ok (.invokevirtual 323, 3) := dk_182 1 67 (dk_at dksX1_count_3 21 rfl rfl)
theorem dX1_count_116 : decode cX1_count 116 = .ok (.ireturn, 1) := dk_172 (dk_at dksX1_count_4 0 rfl rfl)
theorem dX1_count_117 : decode cX1_count 117 = .ok (.aload_n 0, 1) := dk_42 (dk_at dksX1_count_4 1 rfl rfl)
theorem dX1_count_118 : decode cX1_count 118 = .ok (.getfield 22, 3) := dk_180 0 22 (dk_at dksX1_count_4 2 rfl rfl)
theorem dX1_count_121 : decode cX1_count 121 = .ok (.invokestatic 389, 3) := dk_184 1 133 (dk_at dksX1_count_4 5 rfl rfl)
theorem dX1_count_124 : decode cX1_count 124 = .ok (.ireturn, 1) := dk_172 (dk_at dksX1_count_4 8 rfl rfl)
theorem dX1_count_125 : decode cX1_count 125 = .ok (.aload_n 0, 1) := dk_42 (dk_at dksX1_count_4 9 rfl rfl)
theorem dX1_count_126 : decode cX1_count 126 = .ok (.aload_n 0, 1) := dk_42 (dk_at dksX1_count_4 10 rfl rfl)
theorem dX1_count_127 : decode cX1_count 127 = .ok (.getfield 84, 3) := dk_180 0 84 (dk_at dksX1_count_4 11 rfl rfl)
theorem dX1_count_130 : decode cX1_count 130 = .ok (.invokevirtual 405, 3) := dk_182 1 149 (dk_at dksX1_count_4 14 rfl rfl)
theorem dX1_count_133 : decode cX1_count 133 = .ok (.invokestatic 389, 3) := dk_184 1 133 (dk_at dksX1_count_4 17 rfl rfl)
theorem dX1_count_136 : decode cX1_count 136 = .ok (.ireturn, 1) := dk_172 (dk_at dksX1_count_4 20 rfl rfl)
theorem dX1_count_137 : decode cX1_count 137 = .ok (.aload_n 0, 1) := dk_42 (dk_at dksX1_count_4 21 rfl rfl)
theorem dX1_count_138 : decode cX1_count 138 = .ok (.getfield 190, 3) := dk_180 0 190 (dk_at dksX1_count_5 0 rfl rfl)
theorem dX1_count_141 : decode cX1_count 141 = .ok (.ireturn, 1) := dk_172 (dk_at dksX1_count_5 3 rfl rfl)
theorem dX1_count_142 : decode cX1_count 142 = .ok (.aload_n 0, 1) := dk_42 (dk_at dksX1_count_5 4 rfl rfl)
theorem dX1_count_143 : decode cX1_count 143 = .ok (.getfield 196, 3) := dk_180 0 196 (dk_at dksX1_count_5 5 rfl rfl)
theorem dX1_count_146 : decode cX1_count 146 = .ok (.ireturn, 1) := dk_172 (dk_at dksX1_count_5 8 rfl rfl)
theorem dX1_count_147 : decode cX1_count 147 = .ok (.aload_n 0, 1) := dk_42 (dk_at dksX1_count_5 9 rfl rfl)
theorem dX1_count_148 : decode cX1_count 148 = .ok (.getfield 139, 3) := dk_180 0 139 (dk_at dksX1_count_5 10 rfl rfl)
theorem dX1_count_151 : decode cX1_count 151 = .ok (.ireturn, 1) := dk_172 (dk_at dksX1_count_5 13 rfl rfl)
theorem dX1_count_152 : decode cX1_count 152 = .ok (.aload_n 0, 1) := dk_42 (dk_at dksX1_count_5 14 rfl rfl)
theorem dX1_count_153 : decode cX1_count 153 = .ok (.getfield 160, 3) := dk_180 0 160 (dk_at dksX1_count_5 15 rfl rfl)
theorem dX1_count_156 : decode cX1_count 156 = .ok (.ireturn, 1) := dk_172 (dk_at dksX1_count_5 18 rfl rfl)
theorem dX1_count_157 : decode cX1_count 157 = .ok (.bipush (-100), 2) := dk_16 156 (dk_at dksX1_count_5 19 rfl rfl)
theorem dX1_count_159 : decode cX1_count 159 = .ok (.ireturn, 1) := dk_172 (dk_at dksX1_count_5 21 rfl rfl)
abbrev cX1_person : ByteArray := prog_1_method_31_code
def yX1_person : MethodName := ⟨RX1, "person", "(II)I"⟩
def dkwX1_person_5 : List UInt8 := [183, 0, 255, 191]
abbrev dktX1_person_5 : List UInt8 := dkwX1_person_5 ++ []
def dkwX1_person_4 : List UInt8 := [27, 182, 1, 0, 172, 42, 180, 0, 62, 42, 180, 0, 84, 27, 182, 1, 4, 172, 187, 0, 253, 89]
abbrev dktX1_person_4 : List UInt8 := dkwX1_person_4 ++ dktX1_person_5
def dkwX1_person_3 : List UInt8 := [180, 0, 222, 27, 46, 172, 42, 180, 0, 84, 180, 0, 225, 27, 46, 172, 42, 180, 0, 62, 42, 180, 0, 84]
abbrev dktX1_person_3 : List UInt8 := dkwX1_person_3 ++ dktX1_person_4
def dkwX1_person_2 : List UInt8 := [42, 180, 0, 84, 180, 0, 217, 27, 46, 172, 42, 180, 0, 84, 180, 0, 219, 27, 46, 172, 42, 180, 0, 84]
abbrev dktX1_person_2 : List UInt8 := dkwX1_person_2 ++ dktX1_person_3
def dkwX1_person_1 : List UInt8 := [170, 0, 0, 0, 0, 0, 105, 0, 0, 0, 0, 0, 0, 0, 5, 0, 0, 0, 39, 0, 0, 0, 49, 0, 0, 0, 59, 0, 0, 0, 69, 0, 0, 0, 79, 0, 0, 0, 92]
abbrev dktX1_person_1 : List UInt8 := dkwX1_person_1 ++ dktX1_person_2
def dkwX1_person_0 : List UInt8 := [42, 27, 182, 0, 250, 154, 0, 11, 187, 0, 253, 89, 183, 0, 255, 191, 28]
abbrev dktX1_person_0 : List UInt8 := dkwX1_person_0 ++ dktX1_person_1
theorem dksX1_person_0 : cX1_person.data.toList.drop 0 = dktX1_person_0 := by decide +kernel
theorem dksX1_person_1 : cX1_person.data.toList.drop 17 = dktX1_person_1 := dk_seg dksX1_person_0 17 rfl rfl
theorem dksX1_person_2 : cX1_person.data.toList.drop 56 = dktX1_person_2 := dk_seg dksX1_person_1 39 rfl rfl
theorem dksX1_person_3 : cX1_person.data.toList.drop 80 = dktX1_person_3 := dk_seg dksX1_person_2 24 rfl rfl
theorem dksX1_person_4 : cX1_person.data.toList.drop 104 = dktX1_person_4 := dk_seg dksX1_person_3 24 rfl rfl
theorem dksX1_person_5 : cX1_person.data.toList.drop 126 = dktX1_person_5 := dk_seg dksX1_person_4 22 rfl rfl
theorem dX1_person_0 : decode cX1_person 0 = .ok (.aload_n 0, 1) := dk_42 (dk_at dksX1_person_0 0 rfl rfl)
theorem dX1_person_1 : decode cX1_person 1 = .ok (.iload_n 1, 1) := dk_27 (dk_at dksX1_person_0 1 rfl rfl)
theorem dX1_person_2 : decode cX1_person 2 = .ok (.invokevirtual 250, 3) := dk_182 0 250 (dk_at dksX1_person_0 2 rfl rfl)
theorem dX1_person_5 : decode cX1_person 5 = .ok (.ifCond .ne 11, 3) := dk_154 0 11 (dk_at dksX1_person_0 5 rfl rfl)
theorem dX1_person_8 : decode cX1_person 8 = .ok (.new 253, 3) := dk_187 0 253 (dk_at dksX1_person_0 8 rfl rfl)
theorem dX1_person_11 : decode cX1_person 11 = .ok (.dup, 1) := dk_89 (dk_at dksX1_person_0 11 rfl rfl)
theorem dX1_person_12 : decode cX1_person 12 = .ok (.invokespecial 255, 3) := dk_183 0 255 (dk_at dksX1_person_0 12 rfl rfl)
theorem dX1_person_15 : decode cX1_person 15 = .ok (.athrow, 1) := dk_191 (dk_at dksX1_person_0 15 rfl rfl)
theorem dX1_person_16 : decode cX1_person 16 = .ok (.iload_n 2, 1) := dk_28 (dk_at dksX1_person_0 16 rfl rfl)
theorem dX1_person_17 : decode cX1_person 17 = .ok (.tableswitch 105 0 5 #[39, 49, 59, 69, 79, 92], 39) := by decide +kernel
theorem dX1_person_56 : decode cX1_person 56 = .ok (.aload_n 0, 1) := dk_42 (dk_at dksX1_person_2 0 rfl rfl)
theorem dX1_person_57 : decode cX1_person 57 = .ok (.getfield 84, 3) := dk_180 0 84 (dk_at dksX1_person_2 1 rfl rfl)
theorem dX1_person_60 : decode cX1_person 60 = .ok (.getfield 217, 3) := dk_180 0 217 (dk_at dksX1_person_2 4 rfl rfl)
theorem dX1_person_63 : decode cX1_person 63 = .ok (.iload_n 1, 1) := dk_27 (dk_at dksX1_person_2 7 rfl rfl)
theorem dX1_person_64 : decode cX1_person 64 = .ok (.iaload, 1) := dk_46 (dk_at dksX1_person_2 8 rfl rfl)
theorem dX1_person_65 : decode cX1_person 65 = .ok (.ireturn, 1) := dk_172 (dk_at dksX1_person_2 9 rfl rfl)
theorem dX1_person_66 : decode cX1_person 66 = .ok (.aload_n 0, 1) := dk_42 (dk_at dksX1_person_2 10 rfl rfl)
theorem dX1_person_67 : decode cX1_person 67 = .ok (.getfield 84, 3) := dk_180 0 84 (dk_at dksX1_person_2 11 rfl rfl)
theorem dX1_person_70 : decode cX1_person 70 = .ok (.getfield 219, 3) := dk_180 0 219 (dk_at dksX1_person_2 14 rfl rfl)
theorem dX1_person_73 : decode cX1_person 73 = .ok (.iload_n 1, 1) := dk_27 (dk_at dksX1_person_2 17 rfl rfl)
theorem dX1_person_74 : decode cX1_person 74 = .ok (.iaload, 1) := dk_46 (dk_at dksX1_person_2 18 rfl rfl)
theorem dX1_person_75 : decode cX1_person 75 = .ok (.ireturn, 1) := dk_172 (dk_at dksX1_person_2 19 rfl rfl)
theorem dX1_person_76 : decode cX1_person 76 = .ok (.aload_n 0, 1) := dk_42 (dk_at dksX1_person_2 20 rfl rfl)
theorem dX1_person_77 : decode cX1_person 77 = .ok (.getfield 84, 3) := dk_180 0 84 (dk_at dksX1_person_2 21 rfl rfl)
theorem dX1_person_80 : decode cX1_person 80 = .ok (.getfield 222, 3) := dk_180 0 222 (dk_at dksX1_person_3 0 rfl rfl)
theorem dX1_person_83 : decode cX1_person 83 = .ok (.iload_n 1, 1) := dk_27 (dk_at dksX1_person_3 3 rfl rfl)
theorem dX1_person_84 : decode cX1_person 84 = .ok (.iaload, 1) := dk_46 (dk_at dksX1_person_3 4 rfl rfl)
theorem dX1_person_85 : decode cX1_person 85 = .ok (.ireturn, 1) := dk_172 (dk_at dksX1_person_3 5 rfl rfl)
theorem dX1_person_86 : decode cX1_person 86 = .ok (.aload_n 0, 1) := dk_42 (dk_at dksX1_person_3 6 rfl rfl)
theorem dX1_person_87 : decode cX1_person 87 = .ok (.getfield 84, 3) := dk_180 0 84 (dk_at dksX1_person_3 7 rfl rfl)
theorem dX1_person_90 : decode cX1_person 90 = .ok (.getfield 225, 3) := dk_180 0 225 (dk_at dksX1_person_3 10 rfl rfl)
theorem dX1_person_93 : decode cX1_person 93 = .ok (.iload_n 1, 1) := dk_27 (dk_at dksX1_person_3 13 rfl rfl)
theorem dX1_person_94 : decode cX1_person 94 = .ok (.iaload, 1) := dk_46 (dk_at dksX1_person_3 14 rfl rfl)
theorem dX1_person_95 : decode cX1_person 95 = .ok (.ireturn, 1) := dk_172 (dk_at dksX1_person_3 15 rfl rfl)
theorem dX1_person_96 : decode cX1_person 96 = .ok (.aload_n 0, 1) := dk_42 (dk_at dksX1_person_3 16 rfl rfl)
theorem dX1_person_97 : decode cX1_person 97 = .ok (.getfield 62, 3) := dk_180 0 62 (dk_at dksX1_person_3 17 rfl rfl)
theorem dX1_person_100 : decode cX1_person 100 = .ok (.aload_n 0, 1) := dk_42 (dk_at dksX1_person_3 20 rfl rfl)
theorem dX1_person_101 : decode cX1_person 101 = .ok (.getfield 84, 3) := dk_180 0 84 (dk_at dksX1_person_3 21 rfl rfl)
theorem dX1_person_104 : decode cX1_person 104 = .ok (.iload_n 1, 1) := dk_27 (dk_at dksX1_person_4 0 rfl rfl)
theorem dX1_person_105 : decode cX1_person 105 = .ok (.invokevirtual 256, 3) := dk_182 1 0 (dk_at dksX1_person_4 1 rfl rfl)
theorem dX1_person_108 : decode cX1_person 108 = .ok (.ireturn, 1) := dk_172 (dk_at dksX1_person_4 4 rfl rfl)
theorem dX1_person_109 : decode cX1_person 109 = .ok (.aload_n 0, 1) := dk_42 (dk_at dksX1_person_4 5 rfl rfl)
theorem dX1_person_110 : decode cX1_person 110 = .ok (.getfield 62, 3) := dk_180 0 62 (dk_at dksX1_person_4 6 rfl rfl)
theorem dX1_person_113 : decode cX1_person 113 = .ok (.aload_n 0, 1) := dk_42 (dk_at dksX1_person_4 9 rfl rfl)
theorem dX1_person_114 : decode cX1_person 114 = .ok (.getfield 84, 3) := dk_180 0 84 (dk_at dksX1_person_4 10 rfl rfl)
theorem dX1_person_117 : decode cX1_person 117 = .ok (.iload_n 1, 1) := dk_27 (dk_at dksX1_person_4 13 rfl rfl)
theorem dX1_person_118 : decode cX1_person 118 = .ok (.invokevirtual 260, 3) := dk_182 1 4 (dk_at dksX1_person_4 14 rfl rfl)
theorem dX1_person_121 : decode cX1_person 121 = .ok (.ireturn, 1) := dk_172 (dk_at dksX1_person_4 17 rfl rfl)
theorem dX1_person_122 : decode cX1_person 122 = .ok (.new 253, 3) := dk_187 0 253 (dk_at dksX1_person_4 18 rfl rfl)
theorem dX1_person_125 : decode cX1_person 125 = .ok (.dup, 1) := dk_89 (dk_at dksX1_person_4 21 rfl rfl)
theorem dX1_person_126 : decode cX1_person 126 = .ok (.invokespecial 255, 3) := dk_183 0 255 (dk_at dksX1_person_5 0 rfl rfl)
theorem dX1_person_129 : decode cX1_person 129 = .ok (.athrow, 1) := dk_191 (dk_at dksX1_person_5 3 rfl rfl)
abbrev cX1_thing : ByteArray := prog_1_method_33_code
def yX1_thing : MethodName := ⟨RX1, "thing", "(II)I"⟩
def dkwX1_thing_3 : List UInt8 := [180, 0, 228, 27, 46, 182, 1, 14, 172]
abbrev dktX1_thing_3 : List UInt8 := dkwX1_thing_3 ++ []
def dkwX1_thing_2 : List UInt8 := [160, 0, 15, 42, 42, 180, 0, 84, 27, 182, 1, 11, 167, 0, 20, 42, 42, 180, 0, 84, 42, 180, 0, 84]
abbrev dktX1_thing_2 : List UInt8 := dkwX1_thing_2 ++ dktX1_thing_3
def dkwX1_thing_1 : List UInt8 := [183, 0, 255, 191, 28, 154, 0, 15, 42, 180, 0, 84, 180, 0, 228, 27, 46, 167, 0, 37, 28, 4]
abbrev dktX1_thing_1 : List UInt8 := dkwX1_thing_1 ++ dktX1_thing_2
def dkwX1_thing_0 : List UInt8 := [42, 27, 182, 1, 6, 153, 0, 15, 28, 133, 9, 20, 1, 9, 184, 0, 146, 154, 0, 11, 187, 0, 253, 89]
abbrev dktX1_thing_0 : List UInt8 := dkwX1_thing_0 ++ dktX1_thing_1
theorem dksX1_thing_0 : cX1_thing.data.toList.drop 0 = dktX1_thing_0 := by decide +kernel
theorem dksX1_thing_1 : cX1_thing.data.toList.drop 24 = dktX1_thing_1 := dk_seg dksX1_thing_0 24 rfl rfl
theorem dksX1_thing_2 : cX1_thing.data.toList.drop 46 = dktX1_thing_2 := dk_seg dksX1_thing_1 22 rfl rfl
theorem dksX1_thing_3 : cX1_thing.data.toList.drop 70 = dktX1_thing_3 := dk_seg dksX1_thing_2 24 rfl rfl
theorem dX1_thing_0 : decode cX1_thing 0 = .ok (.aload_n 0, 1) := dk_42 (dk_at dksX1_thing_0 0 rfl rfl)
theorem dX1_thing_1 : decode cX1_thing 1 = .ok (.iload_n 1, 1) := dk_27 (dk_at dksX1_thing_0 1 rfl rfl)
theorem dX1_thing_2 : decode cX1_thing 2 = .ok (.invokevirtual 262, 3) := dk_182 1 6 (dk_at dksX1_thing_0 2 rfl rfl)
theorem dX1_thing_5 : decode cX1_thing 5 = .ok (.ifCond .eq 15, 3) := dk_153 0 15 (dk_at dksX1_thing_0 5 rfl rfl)
theorem dX1_thing_8 : decode cX1_thing 8 = .ok (.iload_n 2, 1) := dk_28 (dk_at dksX1_thing_0 8 rfl rfl)
theorem dX1_thing_9 : decode cX1_thing 9 = .ok (.i2l, 1) := dk_133 (dk_at dksX1_thing_0 9 rfl rfl)
theorem dX1_thing_10 : decode cX1_thing 10 = .ok (.lconst 0, 1) := dk_9 (dk_at dksX1_thing_0 10 rfl rfl)
theorem dX1_thing_11 : decode cX1_thing 11 = .ok (.ldc2_w 265, 3) := dk_20 1 9 (dk_at dksX1_thing_0 11 rfl rfl)
theorem dX1_thing_14 : decode cX1_thing 14 = .ok (.invokestatic 146, 3) := dk_184 0 146 (dk_at dksX1_thing_0 14 rfl rfl)
theorem dX1_thing_17 : decode cX1_thing 17 = .ok (.ifCond .ne 11, 3) := dk_154 0 11 (dk_at dksX1_thing_0 17 rfl rfl)
theorem dX1_thing_20 : decode cX1_thing 20 = .ok (.new 253, 3) := dk_187 0 253 (dk_at dksX1_thing_0 20 rfl rfl)
theorem dX1_thing_23 : decode cX1_thing 23 = .ok (.dup, 1) := dk_89 (dk_at dksX1_thing_0 23 rfl rfl)
theorem dX1_thing_24 : decode cX1_thing 24 = .ok (.invokespecial 255, 3) := dk_183 0 255 (dk_at dksX1_thing_1 0 rfl rfl)
theorem dX1_thing_27 : decode cX1_thing 27 = .ok (.athrow, 1) := dk_191 (dk_at dksX1_thing_1 3 rfl rfl)
theorem dX1_thing_28 : decode cX1_thing 28 = .ok (.iload_n 2, 1) := dk_28 (dk_at dksX1_thing_1 4 rfl rfl)
theorem dX1_thing_29 : decode cX1_thing 29 = .ok (.ifCond .ne 15, 3) := dk_154 0 15 (dk_at dksX1_thing_1 5 rfl rfl)
theorem dX1_thing_32 : decode cX1_thing 32 = .ok (.aload_n 0, 1) := dk_42 (dk_at dksX1_thing_1 8 rfl rfl)
theorem dX1_thing_33 : decode cX1_thing 33 = .ok (.getfield 84, 3) := dk_180 0 84 (dk_at dksX1_thing_1 9 rfl rfl)
theorem dX1_thing_36 : decode cX1_thing 36 = .ok (.getfield 228, 3) := dk_180 0 228 (dk_at dksX1_thing_1 12 rfl rfl)
theorem dX1_thing_39 : decode cX1_thing 39 = .ok (.iload_n 1, 1) := dk_27 (dk_at dksX1_thing_1 15 rfl rfl)
theorem dX1_thing_40 : decode cX1_thing 40 = .ok (.iaload, 1) := dk_46 (dk_at dksX1_thing_1 16 rfl rfl)
theorem dX1_thing_41 : decode cX1_thing 41 = .ok (.goto 37, 3) := dk_167 0 37 (dk_at dksX1_thing_1 17 rfl rfl)
theorem dX1_thing_44 : decode cX1_thing 44 = .ok (.iload_n 2, 1) := dk_28 (dk_at dksX1_thing_1 20 rfl rfl)
theorem dX1_thing_45 : decode cX1_thing 45 = .ok (.iconst 1, 1) := dk_4 (dk_at dksX1_thing_1 21 rfl rfl)
theorem dX1_thing_46 : decode cX1_thing 46 = .ok (.if_icmp .ne 15, 3) := dk_160 0 15 (dk_at dksX1_thing_2 0 rfl rfl)
theorem dX1_thing_49 : decode cX1_thing 49 = .ok (.aload_n 0, 1) := dk_42 (dk_at dksX1_thing_2 3 rfl rfl)
theorem dX1_thing_50 : decode cX1_thing 50 = .ok (.aload_n 0, 1) := dk_42 (dk_at dksX1_thing_2 4 rfl rfl)
theorem dX1_thing_51 : decode cX1_thing 51 = .ok (.getfield 84, 3) := dk_180 0 84 (dk_at dksX1_thing_2 5 rfl rfl)
theorem dX1_thing_54 : decode cX1_thing 54 = .ok (.iload_n 1, 1) := dk_27 (dk_at dksX1_thing_2 8 rfl rfl)
theorem dX1_thing_55 : decode cX1_thing 55 = .ok (.invokevirtual 267, 3) := dk_182 1 11 (dk_at dksX1_thing_2 9 rfl rfl)
theorem dX1_thing_58 : decode cX1_thing 58 = .ok (.goto 20, 3) := dk_167 0 20 (dk_at dksX1_thing_2 12 rfl rfl)
theorem dX1_thing_61 : decode cX1_thing 61 = .ok (.aload_n 0, 1) := dk_42 (dk_at dksX1_thing_2 15 rfl rfl)
theorem dX1_thing_62 : decode cX1_thing 62 = .ok (.aload_n 0, 1) := dk_42 (dk_at dksX1_thing_2 16 rfl rfl)
theorem dX1_thing_63 : decode cX1_thing 63 = .ok (.getfield 84, 3) := dk_180 0 84 (dk_at dksX1_thing_2 17 rfl rfl)
theorem dX1_thing_66 : decode cX1_thing 66 = .ok (.aload_n 0, 1) := dk_42 (dk_at dksX1_thing_2 20 rfl rfl)
theorem dX1_thing_67 : decode cX1_thing 67 = .ok (.getfield 84, 3) := dk_180 0 84 (dk_at dksX1_thing_2 21 rfl rfl)
theorem dX1_thing_70 : decode cX1_thing 70 = .ok (.getfield 228, 3) := dk_180 0 228 (dk_at dksX1_thing_3 0 rfl rfl)
theorem dX1_thing_73 : decode cX1_thing 73 = .ok (.iload_n 1, 1) := dk_27 (dk_at dksX1_thing_3 3 rfl rfl)
theorem dX1_thing_74 : decode cX1_thing 74 = .ok (.iaload, 1) := dk_46 (dk_at dksX1_thing_3 4 rfl rfl)
theorem dX1_thing_75 : decode cX1_thing 75 = .ok (.invokevirtual 270, 3) := dk_182 1 14 (dk_at dksX1_thing_3 5 rfl rfl)
theorem dX1_thing_78 : decode cX1_thing 78 = .ok (.ireturn, 1) := dk_172 (dk_at dksX1_thing_3 8 rfl rfl)
abbrev cX1_row : ByteArray := prog_1_method_98_code
def yX1_row : MethodName := ⟨RX1, "row", "(I)J"⟩
def dkwX1_row_1 : List UInt8 := [42, 180, 0, 105, 27, 47, 173]
abbrev dktX1_row_1 : List UInt8 := dkwX1_row_1 ++ []
def dkwX1_row_0 : List UInt8 := [27, 133, 9, 42, 180, 0, 139, 4, 100, 133, 184, 0, 146, 154, 0, 11, 187, 0, 253, 89, 183, 0, 255, 191]
abbrev dktX1_row_0 : List UInt8 := dkwX1_row_0 ++ dktX1_row_1
theorem dksX1_row_0 : cX1_row.data.toList.drop 0 = dktX1_row_0 := by decide +kernel
theorem dksX1_row_1 : cX1_row.data.toList.drop 24 = dktX1_row_1 := dk_seg dksX1_row_0 24 rfl rfl
theorem dX1_row_0 : decode cX1_row 0 = .ok (.iload_n 1, 1) := dk_27 (dk_at dksX1_row_0 0 rfl rfl)
theorem dX1_row_1 : decode cX1_row 1 = .ok (.i2l, 1) := dk_133 (dk_at dksX1_row_0 1 rfl rfl)
theorem dX1_row_2 : decode cX1_row 2 = .ok (.lconst 0, 1) := dk_9 (dk_at dksX1_row_0 2 rfl rfl)
theorem dX1_row_3 : decode cX1_row 3 = .ok (.aload_n 0, 1) := dk_42 (dk_at dksX1_row_0 3 rfl rfl)
theorem dX1_row_4 : decode cX1_row 4 = .ok (.getfield 139, 3) := dk_180 0 139 (dk_at dksX1_row_0 4 rfl rfl)
theorem dX1_row_7 : decode cX1_row 7 = .ok (.iconst 1, 1) := dk_4 (dk_at dksX1_row_0 7 rfl rfl)
theorem dX1_row_8 : decode cX1_row 8 = .ok (.isub, 1) := dk_100 (dk_at dksX1_row_0 8 rfl rfl)
theorem dX1_row_9 : decode cX1_row 9 = .ok (.i2l, 1) := dk_133 (dk_at dksX1_row_0 9 rfl rfl)
theorem dX1_row_10 : decode cX1_row 10 = .ok (.invokestatic 146, 3) := dk_184 0 146 (dk_at dksX1_row_0 10 rfl rfl)
theorem dX1_row_13 : decode cX1_row 13 = .ok (.ifCond .ne 11, 3) := dk_154 0 11 (dk_at dksX1_row_0 13 rfl rfl)
theorem dX1_row_16 : decode cX1_row 16 = .ok (.new 253, 3) := dk_187 0 253 (dk_at dksX1_row_0 16 rfl rfl)
theorem dX1_row_19 : decode cX1_row 19 = .ok (.dup, 1) := dk_89 (dk_at dksX1_row_0 19 rfl rfl)
theorem dX1_row_20 : decode cX1_row 20 = .ok (.invokespecial 255, 3) := dk_183 0 255 (dk_at dksX1_row_0 20 rfl rfl)
theorem dX1_row_23 : decode cX1_row 23 = .ok (.athrow, 1) := dk_191 (dk_at dksX1_row_0 23 rfl rfl)
theorem dX1_row_24 : decode cX1_row 24 = .ok (.aload_n 0, 1) := dk_42 (dk_at dksX1_row_1 0 rfl rfl)
theorem dX1_row_25 : decode cX1_row 25 = .ok (.getfield 105, 3) := dk_180 0 105 (dk_at dksX1_row_1 1 rfl rfl)
theorem dX1_row_28 : decode cX1_row 28 = .ok (.iload_n 1, 1) := dk_27 (dk_at dksX1_row_1 4 rfl rfl)
theorem dX1_row_29 : decode cX1_row 29 = .ok (.laload, 1) := dk_47 (dk_at dksX1_row_1 5 rfl rfl)
theorem dX1_row_30 : decode cX1_row 30 = .ok (.lreturn, 1) := dk_173 (dk_at dksX1_row_1 6 rfl rfl)
theorem q110 : (Jvm.Cond.initialized "BonnetValley") ∈ lw_all := lw_g (lw_at lw_m1 1 rfl) rfl
theorem q137 : (Jvm.Cond.instantiable "BonnetValley" (31 : Nat)) ∈ lw_all := lw_g (lw_at lw_m1 28 rfl) rfl
theorem q139 : (Jvm.Cond.instanceMethod ({ cls := "BonnetValley", name := "<init>", desc := "()V" } : Jvm.MethodName)) ∈ lw_all := lw_g (lw_at lw_m1 30 rfl) rfl
theorem q140 : (Jvm.Cond.code ({ cls := "BonnetValley", name := "<init>", desc := "()V" } : Jvm.MethodName) prog_1_method_7_code (2 : Nat) (Option.none : Option Jvm.ClassFile.FieldType)) ∈ lw_all := lw_g (lw_at lw_m1 31 rfl) rfl
theorem q141 : (Jvm.Cond.methodLink "BonnetValley" (51 : Nat) ({ cls := "java/lang/Object", name := "<init>", desc := "()V" } : Jvm.MethodName)) ∈ lw_all := lw_g (lw_at lw_m1 32 rfl) rfl
theorem q144 : (Jvm.Cond.classLink "BonnetValley" (57 : Nat) "BonnetValley$Look") ∈ lw_all := lw_g (lw_at lw_m1 35 rfl) rfl
theorem q146 : (Jvm.Cond.methodLinkNest "BonnetValley" (59 : Nat) ({ cls := "BonnetValley$Look", name := "<init>", desc := "(LBonnetValley;)V" } : Jvm.MethodName) "BonnetValley") ∈ lw_tbl := lw_at lw_m1 37 rfl
theorem q154 : (Jvm.Cond.classLink "BonnetValley" (66 : Nat) "BonnetValley$Turned") ∈ lw_all := lw_g (lw_at lw_m1 45 rfl) rfl
theorem q156 : (Jvm.Cond.methodLinkNest "BonnetValley" (68 : Nat) ({ cls := "BonnetValley$Turned", name := "<init>", desc := "(LBonnetValley;)V" } : Jvm.MethodName) "BonnetValley") ∈ lw_tbl := lw_at lw_m1 47 rfl
theorem q168 : (Jvm.Cond.classLink "BonnetValley" (73 : Nat) "BonnetValley$Trimmed") ∈ lw_all := lw_g (lw_at lw_m1 59 rfl) rfl
theorem q170 : (Jvm.Cond.methodLinkNest "BonnetValley" (75 : Nat) ({ cls := "BonnetValley$Trimmed", name := "<init>", desc := "(LBonnetValley;)V" } : Jvm.MethodName) "BonnetValley") ∈ lw_tbl := lw_at lw_m1 61 rfl
theorem q182 : (Jvm.Cond.classLink "BonnetValley" (35 : Nat) "BonnetValley$Upland") ∈ lw_all := lw_g (lw_at lw_m1 73 rfl) rfl
theorem q184 : (Jvm.Cond.methodLinkNest "BonnetValley" (83 : Nat) ({ cls := "BonnetValley$Upland", name := "<init>", desc := "()V" } : Jvm.MethodName) "BonnetValley") ∈ lw_tbl := lw_at lw_m1 75 rfl
theorem q191 : (Jvm.Cond.fieldLink "BonnetValley" (217 : Nat) "BonnetValley$Upland" "at" "[I") ∈ lw_all := lw_g (lw_at lw_m1 82 rfl) rfl
theorem q195 : (Jvm.Cond.fieldLink "BonnetValley" (219 : Nat) "BonnetValley$Upland" "facing" "[I") ∈ lw_all := lw_g (lw_at lw_m1 86 rfl) rfl
theorem q198 : (Jvm.Cond.fieldLink "BonnetValley" (222 : Nat) "BonnetValley$Upland" "brim" "[I") ∈ lw_all := lw_g (lw_at lw_m1 89 rfl) rfl
theorem q201 : (Jvm.Cond.fieldLink "BonnetValley" (225 : Nat) "BonnetValley$Upland" "knows" "[I") ∈ lw_all := lw_g (lw_at lw_m1 92 rfl) rfl
theorem q204 : (Jvm.Cond.fieldLink "BonnetValley" (228 : Nat) "BonnetValley$Upland" "lies" "[I") ∈ lw_all := lw_g (lw_at lw_m1 95 rfl) rfl
theorem q206 : (Jvm.Cond.fieldLink "BonnetValley" (34 : Nat) "BonnetValley$Upland" "hour" "I") ∈ lw_all := lw_g (lw_at lw_m1 97 rfl) rfl
theorem q223 : (Jvm.Cond.classLink "BonnetValley" (116 : Nat) "[[I") ∈ lw_all := lw_g (lw_at lw_m1 114 rfl) rfl
theorem q225 : (Jvm.Cond.classLink "BonnetValley" (133 : Nat) "BonnetValley$Page") ∈ lw_all := lw_g (lw_at lw_m1 116 rfl) rfl
theorem q227 : (Jvm.Cond.fieldLink "BonnetValley" (62 : Nat) "BonnetValley" "look" "LBonnetValley$Look;") ∈ lw_all := lw_g (lw_at lw_m1 118 rfl) rfl
theorem q228 : (Jvm.Cond.fieldLink "BonnetValley" (69 : Nat) "BonnetValley" "turned" "LBonnetValley$Turned;") ∈ lw_all := lw_g (lw_at lw_m1 119 rfl) rfl
theorem q229 : (Jvm.Cond.fieldLink "BonnetValley" (76 : Nat) "BonnetValley" "trimmed" "LBonnetValley$Trimmed;") ∈ lw_all := lw_g (lw_at lw_m1 120 rfl) rfl
theorem q232 : (Jvm.Cond.fieldLink "BonnetValley" (80 : Nat) "BonnetValley" "rows" "I") ∈ lw_all := lw_g (lw_at lw_m1 123 rfl) rfl
theorem q234 : (Jvm.Cond.fieldLink "BonnetValley" (13 : Nat) "BonnetValley" "columns" "I") ∈ lw_all := lw_g (lw_at lw_m1 125 rfl) rfl
theorem q237 : (Jvm.Cond.fieldLink "BonnetValley" (150 : Nat) "BonnetValley" "men" "I") ∈ lw_all := lw_g (lw_at lw_m1 128 rfl) rfl
theorem q239 : (Jvm.Cond.fieldLink "BonnetValley" (153 : Nat) "BonnetValley" "things" "I") ∈ lw_all := lw_g (lw_at lw_m1 130 rfl) rfl
theorem q241 : (Jvm.Cond.fieldLink "BonnetValley" (199 : Nat) "BonnetValley" "came" "I") ∈ lw_all := lw_g (lw_at lw_m1 132 rfl) rfl
theorem q242 : (Jvm.Cond.fieldLink "BonnetValley" (196 : Nat) "BonnetValley" "undoMany" "I") ∈ lw_all := lw_g (lw_at lw_m1 133 rfl) rfl
theorem q243 : (Jvm.Cond.fieldLink "BonnetValley" (22 : Nat) "BonnetValley" "rocks" "J") ∈ lw_all := lw_g (lw_at lw_m1 134 rfl) rfl
theorem q245 : (Jvm.Cond.fieldLink "BonnetValley" (84 : Nat) "BonnetValley" "now" "LBonnetValley$Upland;") ∈ lw_all := lw_g (lw_at lw_m1 136 rfl) rfl
theorem q246 : (Jvm.Cond.fieldLink "BonnetValley" (88 : Nat) "BonnetValley" "aside" "LBonnetValley$Upland;") ∈ lw_all := lw_g (lw_at lw_m1 137 rfl) rfl
theorem q247 : (Jvm.Cond.fieldLink "BonnetValley" (91 : Nat) "BonnetValley" "tried" "LBonnetValley$Upland;") ∈ lw_all := lw_g (lw_at lw_m1 138 rfl) rfl
theorem q248 : (Jvm.Cond.fieldLink "BonnetValley" (94 : Nat) "BonnetValley" "ahead" "[LBonnetValley$Upland;") ∈ lw_all := lw_g (lw_at lw_m1 139 rfl) rfl
theorem q249 : (Jvm.Cond.fieldLink "BonnetValley" (98 : Nat) "BonnetValley" "light" "[B") ∈ lw_all := lw_g (lw_at lw_m1 140 rfl) rfl
theorem q250 : (Jvm.Cond.fieldLink "BonnetValley" (102 : Nat) "BonnetValley" "text" "[B") ∈ lw_all := lw_g (lw_at lw_m1 141 rfl) rfl
theorem q251 : (Jvm.Cond.fieldLink "BonnetValley" (160 : Nat) "BonnetValley" "typed" "I") ∈ lw_all := lw_g (lw_at lw_m1 142 rfl) rfl
theorem q252 : (Jvm.Cond.fieldLink "BonnetValley" (105 : Nat) "BonnetValley" "row" "[J") ∈ lw_all := lw_g (lw_at lw_m1 143 rfl) rfl
theorem q253 : (Jvm.Cond.fieldLink "BonnetValley" (139 : Nat) "BonnetValley" "rowMany" "I") ∈ lw_all := lw_g (lw_at lw_m1 144 rfl) rfl
theorem q254 : (Jvm.Cond.fieldLink "BonnetValley" (30 : Nat) "BonnetValley" "rule" "LBonnetValley$Rule;") ∈ lw_all := lw_g (lw_at lw_m1 145 rfl) rfl
theorem q255 : (Jvm.Cond.fieldLink "BonnetValley" (109 : Nat) "BonnetValley" "then" "[I") ∈ lw_all := lw_g (lw_at lw_m1 146 rfl) rfl
theorem q256 : (Jvm.Cond.fieldLink "BonnetValley" (113 : Nat) "BonnetValley" "fieldsOf" "[J") ∈ lw_all := lw_g (lw_at lw_m1 147 rfl) rfl
theorem q257 : (Jvm.Cond.fieldLink "BonnetValley" (118 : Nat) "BonnetValley" "by" "[[I") ∈ lw_all := lw_g (lw_at lw_m1 148 rfl) rfl
theorem q258 : (Jvm.Cond.fieldLink "BonnetValley" (121 : Nat) "BonnetValley" "fewest" "[[I") ∈ lw_all := lw_g (lw_at lw_m1 149 rfl) rfl
theorem q259 : (Jvm.Cond.fieldLink "BonnetValley" (124 : Nat) "BonnetValley" "far" "[I") ∈ lw_all := lw_g (lw_at lw_m1 150 rfl) rfl
theorem q260 : (Jvm.Cond.fieldLink "BonnetValley" (127 : Nat) "BonnetValley" "heardOf" "[I") ∈ lw_all := lw_g (lw_at lw_m1 151 rfl) rfl
theorem q261 : (Jvm.Cond.fieldLink "BonnetValley" (190 : Nat) "BonnetValley" "heardMany" "I") ∈ lw_all := lw_g (lw_at lw_m1 152 rfl) rfl
theorem q262 : (Jvm.Cond.fieldLink "BonnetValley" (454 : Nat) "BonnetValley" "heardBits" "I") ∈ lw_all := lw_g (lw_at lw_m1 153 rfl) rfl
theorem q263 : (Jvm.Cond.fieldLink "BonnetValley" (130 : Nat) "BonnetValley" "wins" "[[I") ∈ lw_all := lw_g (lw_at lw_m1 154 rfl) rfl
theorem q264 : (Jvm.Cond.fieldLink "BonnetValley" (480 : Nat) "BonnetValley" "drawn" "I") ∈ lw_all := lw_g (lw_at lw_m1 155 rfl) rfl
theorem q265 : (Jvm.Cond.fieldLink "BonnetValley" (135 : Nat) "BonnetValley" "pages" "[LBonnetValley$Page;") ∈ lw_all := lw_g (lw_at lw_m1 156 rfl) rfl
theorem q266 : (Jvm.Cond.laysFinal "BonnetValley" "BonnetValley" "look" "LBonnetValley$Look;") ∈ lw_all := lw_g (lw_at lw_m1 157 rfl) rfl
theorem q267 : (Jvm.Cond.soleField "BonnetValley" "look") ∈ lw_all := lw_g (lw_at lw_m1 158 rfl) rfl
theorem q268 : (Jvm.Cond.laysFinal "BonnetValley" "BonnetValley" "turned" "LBonnetValley$Turned;") ∈ lw_all := lw_g (lw_at lw_m1 159 rfl) rfl
theorem q269 : (Jvm.Cond.soleField "BonnetValley" "turned") ∈ lw_all := lw_g (lw_at lw_m1 160 rfl) rfl
theorem q270 : (Jvm.Cond.laysFinal "BonnetValley" "BonnetValley" "trimmed" "LBonnetValley$Trimmed;") ∈ lw_all := lw_g (lw_at lw_m1 161 rfl) rfl
theorem q271 : (Jvm.Cond.soleField "BonnetValley" "trimmed") ∈ lw_all := lw_g (lw_at lw_m1 162 rfl) rfl
theorem q272 : (Jvm.Cond.lays "BonnetValley" "BonnetValley" "rows" "I") ∈ lw_all := lw_g (lw_at lw_m1 163 rfl) rfl
theorem q273 : (Jvm.Cond.soleField "BonnetValley" "rows") ∈ lw_all := lw_g (lw_at lw_m1 164 rfl) rfl
theorem q274 : (Jvm.Cond.lays "BonnetValley" "BonnetValley" "columns" "I") ∈ lw_all := lw_g (lw_at lw_m1 165 rfl) rfl
theorem q275 : (Jvm.Cond.soleField "BonnetValley" "columns") ∈ lw_all := lw_g (lw_at lw_m1 166 rfl) rfl
theorem q276 : (Jvm.Cond.lays "BonnetValley" "BonnetValley" "men" "I") ∈ lw_all := lw_g (lw_at lw_m1 167 rfl) rfl
theorem q277 : (Jvm.Cond.soleField "BonnetValley" "men") ∈ lw_all := lw_g (lw_at lw_m1 168 rfl) rfl
theorem q278 : (Jvm.Cond.lays "BonnetValley" "BonnetValley" "things" "I") ∈ lw_all := lw_g (lw_at lw_m1 169 rfl) rfl
theorem q279 : (Jvm.Cond.soleField "BonnetValley" "things") ∈ lw_all := lw_g (lw_at lw_m1 170 rfl) rfl
theorem q280 : (Jvm.Cond.lays "BonnetValley" "BonnetValley" "came" "I") ∈ lw_all := lw_g (lw_at lw_m1 171 rfl) rfl
theorem q281 : (Jvm.Cond.soleField "BonnetValley" "came") ∈ lw_all := lw_g (lw_at lw_m1 172 rfl) rfl
theorem q282 : (Jvm.Cond.lays "BonnetValley" "BonnetValley" "undoMany" "I") ∈ lw_all := lw_g (lw_at lw_m1 173 rfl) rfl
theorem q283 : (Jvm.Cond.soleField "BonnetValley" "undoMany") ∈ lw_all := lw_g (lw_at lw_m1 174 rfl) rfl
theorem q284 : (Jvm.Cond.lays "BonnetValley" "BonnetValley" "rocks" "J") ∈ lw_all := lw_g (lw_at lw_m1 175 rfl) rfl
theorem q285 : (Jvm.Cond.soleField "BonnetValley" "rocks") ∈ lw_all := lw_g (lw_at lw_m1 176 rfl) rfl
theorem q286 : (Jvm.Cond.laysFinal "BonnetValley" "BonnetValley" "now" "LBonnetValley$Upland;") ∈ lw_all := lw_g (lw_at lw_m1 177 rfl) rfl
theorem q287 : (Jvm.Cond.soleField "BonnetValley" "now") ∈ lw_all := lw_g (lw_at lw_m1 178 rfl) rfl
theorem q288 : (Jvm.Cond.laysFinal "BonnetValley" "BonnetValley" "aside" "LBonnetValley$Upland;") ∈ lw_all := lw_g (lw_at lw_m1 179 rfl) rfl
theorem q289 : (Jvm.Cond.soleField "BonnetValley" "aside") ∈ lw_all := lw_g (lw_at lw_m1 180 rfl) rfl
theorem q290 : (Jvm.Cond.laysFinal "BonnetValley" "BonnetValley" "tried" "LBonnetValley$Upland;") ∈ lw_all := lw_g (lw_at lw_m1 181 rfl) rfl
theorem q291 : (Jvm.Cond.soleField "BonnetValley" "tried") ∈ lw_all := lw_g (lw_at lw_m1 182 rfl) rfl
theorem q292 : (Jvm.Cond.laysFinal "BonnetValley" "BonnetValley" "ahead" "[LBonnetValley$Upland;") ∈ lw_all := lw_g (lw_at lw_m1 183 rfl) rfl
theorem q293 : (Jvm.Cond.soleField "BonnetValley" "ahead") ∈ lw_all := lw_g (lw_at lw_m1 184 rfl) rfl
theorem q294 : (Jvm.Cond.lays "BonnetValley" "BonnetValley" "light" "[B") ∈ lw_all := lw_g (lw_at lw_m1 185 rfl) rfl
theorem q295 : (Jvm.Cond.soleField "BonnetValley" "light") ∈ lw_all := lw_g (lw_at lw_m1 186 rfl) rfl
theorem q296 : (Jvm.Cond.laysFinal "BonnetValley" "BonnetValley" "text" "[B") ∈ lw_all := lw_g (lw_at lw_m1 187 rfl) rfl
theorem q297 : (Jvm.Cond.soleField "BonnetValley" "text") ∈ lw_all := lw_g (lw_at lw_m1 188 rfl) rfl
theorem q298 : (Jvm.Cond.lays "BonnetValley" "BonnetValley" "typed" "I") ∈ lw_all := lw_g (lw_at lw_m1 189 rfl) rfl
theorem q299 : (Jvm.Cond.soleField "BonnetValley" "typed") ∈ lw_all := lw_g (lw_at lw_m1 190 rfl) rfl
theorem q300 : (Jvm.Cond.laysFinal "BonnetValley" "BonnetValley" "row" "[J") ∈ lw_all := lw_g (lw_at lw_m1 191 rfl) rfl
theorem q301 : (Jvm.Cond.soleField "BonnetValley" "row") ∈ lw_all := lw_g (lw_at lw_m1 192 rfl) rfl
theorem q302 : (Jvm.Cond.lays "BonnetValley" "BonnetValley" "rowMany" "I") ∈ lw_all := lw_g (lw_at lw_m1 193 rfl) rfl
theorem q303 : (Jvm.Cond.soleField "BonnetValley" "rowMany") ∈ lw_all := lw_g (lw_at lw_m1 194 rfl) rfl
theorem q304 : (Jvm.Cond.lays "BonnetValley" "BonnetValley" "rule" "LBonnetValley$Rule;") ∈ lw_all := lw_g (lw_at lw_m1 195 rfl) rfl
theorem q305 : (Jvm.Cond.soleField "BonnetValley" "rule") ∈ lw_all := lw_g (lw_at lw_m1 196 rfl) rfl
theorem q306 : (Jvm.Cond.laysFinal "BonnetValley" "BonnetValley" "then" "[I") ∈ lw_all := lw_g (lw_at lw_m1 197 rfl) rfl
theorem q307 : (Jvm.Cond.soleField "BonnetValley" "then") ∈ lw_all := lw_g (lw_at lw_m1 198 rfl) rfl
theorem q308 : (Jvm.Cond.laysFinal "BonnetValley" "BonnetValley" "fieldsOf" "[J") ∈ lw_all := lw_g (lw_at lw_m1 199 rfl) rfl
theorem q309 : (Jvm.Cond.soleField "BonnetValley" "fieldsOf") ∈ lw_all := lw_g (lw_at lw_m1 200 rfl) rfl
theorem q310 : (Jvm.Cond.laysFinal "BonnetValley" "BonnetValley" "by" "[[I") ∈ lw_all := lw_g (lw_at lw_m1 201 rfl) rfl
theorem q311 : (Jvm.Cond.soleField "BonnetValley" "by") ∈ lw_all := lw_g (lw_at lw_m1 202 rfl) rfl
theorem q312 : (Jvm.Cond.laysFinal "BonnetValley" "BonnetValley" "fewest" "[[I") ∈ lw_all := lw_g (lw_at lw_m1 203 rfl) rfl
theorem q313 : (Jvm.Cond.soleField "BonnetValley" "fewest") ∈ lw_all := lw_g (lw_at lw_m1 204 rfl) rfl
theorem q314 : (Jvm.Cond.laysFinal "BonnetValley" "BonnetValley" "far" "[I") ∈ lw_all := lw_g (lw_at lw_m1 205 rfl) rfl
theorem q315 : (Jvm.Cond.soleField "BonnetValley" "far") ∈ lw_all := lw_g (lw_at lw_m1 206 rfl) rfl
theorem q316 : (Jvm.Cond.laysFinal "BonnetValley" "BonnetValley" "heardOf" "[I") ∈ lw_all := lw_g (lw_at lw_m1 207 rfl) rfl
theorem q317 : (Jvm.Cond.soleField "BonnetValley" "heardOf") ∈ lw_all := lw_g (lw_at lw_m1 208 rfl) rfl
theorem q318 : (Jvm.Cond.lays "BonnetValley" "BonnetValley" "heardMany" "I") ∈ lw_all := lw_g (lw_at lw_m1 209 rfl) rfl
theorem q319 : (Jvm.Cond.soleField "BonnetValley" "heardMany") ∈ lw_all := lw_g (lw_at lw_m1 210 rfl) rfl
theorem q320 : (Jvm.Cond.lays "BonnetValley" "BonnetValley" "heardBits" "I") ∈ lw_all := lw_g (lw_at lw_m1 211 rfl) rfl
theorem q321 : (Jvm.Cond.soleField "BonnetValley" "heardBits") ∈ lw_all := lw_g (lw_at lw_m1 212 rfl) rfl
theorem q322 : (Jvm.Cond.laysFinal "BonnetValley" "BonnetValley" "wins" "[[I") ∈ lw_all := lw_g (lw_at lw_m1 213 rfl) rfl
theorem q323 : (Jvm.Cond.soleField "BonnetValley" "wins") ∈ lw_all := lw_g (lw_at lw_m1 214 rfl) rfl
theorem q324 : (Jvm.Cond.lays "BonnetValley" "BonnetValley" "drawn" "I") ∈ lw_all := lw_g (lw_at lw_m1 215 rfl) rfl
theorem q325 : (Jvm.Cond.soleField "BonnetValley" "drawn") ∈ lw_all := lw_g (lw_at lw_m1 216 rfl) rfl
theorem q326 : (Jvm.Cond.laysFinal "BonnetValley" "BonnetValley" "pages" "[LBonnetValley$Page;") ∈ lw_all := lw_g (lw_at lw_m1 217 rfl) rfl
theorem q327 : (Jvm.Cond.soleField "BonnetValley" "pages") ∈ lw_all := lw_g (lw_at lw_m1 218 rfl) rfl
theorem q328 : (Jvm.Cond.superclass "BonnetValley" "java/lang/Object") ∈ lw_all := lw_g (lw_at lw_m1 219 rfl) rfl
theorem q332 : (Jvm.Cond.instanceMethod ({ cls := "BonnetValley", name := "sign", desc := "(I)I" } : Jvm.MethodName)) ∈ lw_all := lw_g (lw_at lw_m1 223 rfl) rfl
theorem q333 : (Jvm.Cond.selects "BonnetValley" ({ cls := "BonnetValley", name := "sign", desc := "(I)I" } : Jvm.MethodName) ({ cls := "BonnetValley", name := "sign", desc := "(I)I" } : Jvm.MethodName)) ∈ lw_all := lw_g (lw_at lw_m1 224 rfl) rfl
theorem q334 : (Jvm.Cond.code ({ cls := "BonnetValley", name := "sign", desc := "(I)I" } : Jvm.MethodName) prog_1_method_18_code (3 : Nat) (Option.some Jvm.ClassFile.FieldType.int)) ∈ lw_all := lw_g (lw_at lw_m1 225 rfl) rfl
theorem q336 : (Jvm.Cond.instanceMethod ({ cls := "BonnetValley", name := "end", desc := "(I)Z" } : Jvm.MethodName)) ∈ lw_all := lw_g (lw_at lw_m1 227 rfl) rfl
theorem q337 : (Jvm.Cond.selects "BonnetValley" ({ cls := "BonnetValley", name := "end", desc := "(I)Z" } : Jvm.MethodName) ({ cls := "BonnetValley", name := "end", desc := "(I)Z" } : Jvm.MethodName)) ∈ lw_all := lw_g (lw_at lw_m1 228 rfl) rfl
theorem q338 : (Jvm.Cond.code ({ cls := "BonnetValley", name := "end", desc := "(I)Z" } : Jvm.MethodName) prog_1_method_19_code (2 : Nat) (Option.some Jvm.ClassFile.FieldType.boolean)) ∈ lw_all := lw_g (lw_at lw_m1 229 rfl) rfl
theorem q339 : (Jvm.Cond.methodLink "BonnetValley" (146 : Nat) ({ cls := "BonnetValley", name := "in", desc := "(JJJ)Z" } : Jvm.MethodName)) ∈ lw_all := lw_g (lw_at lw_m1 230 rfl) rfl
theorem q340 : (Jvm.Cond.static ({ cls := "BonnetValley", name := "in", desc := "(JJJ)Z" } : Jvm.MethodName)) ∈ lw_all := lw_g (lw_at lw_m1 231 rfl) rfl
theorem q341 : (Jvm.Cond.code ({ cls := "BonnetValley", name := "in", desc := "(JJJ)Z" } : Jvm.MethodName) prog_1_method_1_code (6 : Nat) (Option.some Jvm.ClassFile.FieldType.boolean)) ∈ lw_all := lw_g (lw_at lw_m1 232 rfl) rfl
theorem q343 : (Jvm.Cond.instanceMethod ({ cls := "BonnetValley", name := "valley", desc := "()I" } : Jvm.MethodName)) ∈ lw_all := lw_g (lw_at lw_m1 234 rfl) rfl
theorem q344 : (Jvm.Cond.selects "BonnetValley" ({ cls := "BonnetValley", name := "valley", desc := "()I" } : Jvm.MethodName) ({ cls := "BonnetValley", name := "valley", desc := "()I" } : Jvm.MethodName)) ∈ lw_all := lw_g (lw_at lw_m1 235 rfl) rfl
theorem q345 : (Jvm.Cond.codeWith ({ cls := "BonnetValley", name := "valley", desc := "()I" } : Jvm.MethodName) prog_1_method_20_code (7 : Nat) (Option.some Jvm.ClassFile.FieldType.int) [((10 : Nat), (82 : Nat), (85 : Nat), (185 : Nat))]) ∈ lw_all := lw_g (lw_at lw_m1 236 rfl) rfl
theorem q346 : (Jvm.Cond.classLink "BonnetValley" (185 : Nat) "BonnetValley$Fault") ∈ lw_all := lw_g (lw_at lw_m1 237 rfl) rfl
theorem q347 : (Jvm.Cond.methodLink "BonnetValley" (166 : Nat) ({ cls := "BonnetValley", name := "words", desc := "(I)LBonnetValley$Words;" } : Jvm.MethodName)) ∈ lw_all := lw_g (lw_at lw_m1 238 rfl) rfl
theorem q348 : (Jvm.Cond.privateMethod ({ cls := "BonnetValley", name := "words", desc := "(I)LBonnetValley$Words;" } : Jvm.MethodName)) ∈ lw_tbl := lw_at lw_m1 239 rfl
theorem q349 : (Jvm.Cond.instanceMethod ({ cls := "BonnetValley", name := "words", desc := "(I)LBonnetValley$Words;" } : Jvm.MethodName)) ∈ lw_all := lw_g (lw_at lw_m2 0 rfl) rfl
theorem q350 : (Jvm.Cond.code ({ cls := "BonnetValley", name := "words", desc := "(I)LBonnetValley$Words;" } : Jvm.MethodName) prog_1_method_17_code (3 : Nat) (Option.some (Jvm.ClassFile.FieldType.object "BonnetValley$Words"))) ∈ lw_all := lw_g (lw_at lw_m2 1 rfl) rfl
theorem q351 : (Jvm.Cond.classLink "BonnetValley" (158 : Nat) "BonnetValley$Words") ∈ lw_all := lw_g (lw_at lw_m2 2 rfl) rfl
theorem q353 : (Jvm.Cond.methodLink "BonnetValley" (163 : Nat) ({ cls := "BonnetValley$Words", name := "<init>", desc := "([BII)V" } : Jvm.MethodName)) ∈ lw_all := lw_g (lw_at lw_m2 4 rfl) rfl
theorem q362 : (Jvm.Cond.fieldLink "BonnetValley" (202 : Nat) "BonnetValley$Words" "size" "I") ∈ lw_all := lw_g (lw_at lw_m2 13 rfl) rfl
theorem q371 : (Jvm.Cond.fieldLink "BonnetValley" (213 : Nat) "BonnetValley$Words" "at" "I") ∈ lw_all := lw_g (lw_at lw_m2 22 rfl) rfl
theorem q381 : (Jvm.Cond.methodLink "BonnetValley" (170 : Nat) ({ cls := "BonnetValley$Words", name := "one", desc := "(CI)I" } : Jvm.MethodName)) ∈ lw_all := lw_g (lw_at lw_m2 32 rfl) rfl
theorem q450 : (Jvm.Cond.fieldLinkNest "BonnetValley" (187 : Nat) "BonnetValley$Fault" "at" "I" "BonnetValley") ∈ lw_tbl := lw_at lw_m2 101 rfl
theorem q466 : (Jvm.Cond.methodLink "BonnetValley" (174 : Nat) ({ cls := "BonnetValley$Words", name := "passes", desc := "(C)Z" } : Jvm.MethodName)) ∈ lw_all := lw_g (lw_at lw_m2 117 rfl) rfl
theorem q473 : (Jvm.Cond.methodLink "BonnetValley" (178 : Nat) ({ cls := "BonnetValley$Words", name := "need", desc := "(Z)V" } : Jvm.MethodName)) ∈ lw_all := lw_g (lw_at lw_m2 124 rfl) rfl
theorem q474 : (Jvm.Cond.methodLink "BonnetValley" (182 : Nat) ({ cls := "BonnetValley$Words", name := "needEnd", desc := "()V" } : Jvm.MethodName)) ∈ lw_all := lw_g (lw_at lw_m2 125 rfl) rfl
theorem q481 : (Jvm.Cond.methodLink "BonnetValley" (193 : Nat) ({ cls := "BonnetValley", name := "comes", desc := "()V" } : Jvm.MethodName)) ∈ lw_all := lw_g (lw_at lw_m2 132 rfl) rfl
theorem q482 : (Jvm.Cond.privateMethod ({ cls := "BonnetValley", name := "comes", desc := "()V" } : Jvm.MethodName)) ∈ lw_tbl := lw_at lw_m2 133 rfl
theorem q483 : (Jvm.Cond.instanceMethod ({ cls := "BonnetValley", name := "comes", desc := "()V" } : Jvm.MethodName)) ∈ lw_all := lw_g (lw_at lw_m2 134 rfl) rfl
theorem q484 : (Jvm.Cond.code ({ cls := "BonnetValley", name := "comes", desc := "()V" } : Jvm.MethodName) prog_1_method_21_code (1 : Nat) (Option.none : Option Jvm.ClassFile.FieldType)) ∈ lw_all := lw_g (lw_at lw_m2 135 rfl) rfl
theorem q486 : (Jvm.Cond.instanceMethod ({ cls := "BonnetValley", name := "people", desc := "()I" } : Jvm.MethodName)) ∈ lw_all := lw_g (lw_at lw_m2 137 rfl) rfl
theorem q487 : (Jvm.Cond.selects "BonnetValley" ({ cls := "BonnetValley", name := "people", desc := "()I" } : Jvm.MethodName) ({ cls := "BonnetValley", name := "people", desc := "()I" } : Jvm.MethodName)) ∈ lw_all := lw_g (lw_at lw_m2 138 rfl) rfl
theorem q488 : (Jvm.Cond.codeWith ({ cls := "BonnetValley", name := "people", desc := "()I" } : Jvm.MethodName) prog_1_method_23_code (5 : Nat) (Option.some Jvm.ClassFile.FieldType.int) [((26 : Nat), (123 : Nat), (126 : Nat), (185 : Nat))]) ∈ lw_all := lw_g (lw_at lw_m2 139 rfl) rfl
theorem q489 : (Jvm.Cond.methodLink "BonnetValley" (205 : Nat) ({ cls := "BonnetValley", name := "field", desc := "(LBonnetValley$Words;)I" } : Jvm.MethodName)) ∈ lw_all := lw_g (lw_at lw_m2 140 rfl) rfl
theorem q490 : (Jvm.Cond.privateMethod ({ cls := "BonnetValley", name := "field", desc := "(LBonnetValley$Words;)I" } : Jvm.MethodName)) ∈ lw_tbl := lw_at lw_m2 141 rfl
theorem q491 : (Jvm.Cond.instanceMethod ({ cls := "BonnetValley", name := "field", desc := "(LBonnetValley$Words;)I" } : Jvm.MethodName)) ∈ lw_all := lw_g (lw_at lw_m2 142 rfl) rfl
theorem q492 : (Jvm.Cond.code ({ cls := "BonnetValley", name := "field", desc := "(LBonnetValley$Words;)I" } : Jvm.MethodName) prog_1_method_22_code (3 : Nat) (Option.some Jvm.ClassFile.FieldType.int)) ∈ lw_all := lw_g (lw_at lw_m2 143 rfl) rfl
theorem q493 : (Jvm.Cond.methodLink "BonnetValley" (209 : Nat) ({ cls := "BonnetValley", name := "isRock", desc := "(I)Z" } : Jvm.MethodName)) ∈ lw_all := lw_g (lw_at lw_m2 144 rfl) rfl
theorem q494 : (Jvm.Cond.privateMethod ({ cls := "BonnetValley", name := "isRock", desc := "(I)Z" } : Jvm.MethodName)) ∈ lw_tbl := lw_at lw_m2 145 rfl
theorem q495 : (Jvm.Cond.instanceMethod ({ cls := "BonnetValley", name := "isRock", desc := "(I)Z" } : Jvm.MethodName)) ∈ lw_all := lw_g (lw_at lw_m2 146 rfl) rfl
theorem q496 : (Jvm.Cond.code ({ cls := "BonnetValley", name := "isRock", desc := "(I)Z" } : Jvm.MethodName) prog_1_method_16_code (2 : Nat) (Option.some Jvm.ClassFile.FieldType.boolean)) ∈ lw_all := lw_g (lw_at lw_m2 147 rfl) rfl
theorem q497 : (Jvm.Cond.methodLink "BonnetValley" (26 : Nat) ({ cls := "BonnetValley", name := "has", desc := "(JI)Z" } : Jvm.MethodName)) ∈ lw_all := lw_g (lw_at lw_m2 148 rfl) rfl
theorem q498 : (Jvm.Cond.static ({ cls := "BonnetValley", name := "has", desc := "(JI)Z" } : Jvm.MethodName)) ∈ lw_all := lw_g (lw_at lw_m2 149 rfl) rfl
theorem q499 : (Jvm.Cond.code ({ cls := "BonnetValley", name := "has", desc := "(JI)Z" } : Jvm.MethodName) prog_1_method_2_code (3 : Nat) (Option.some Jvm.ClassFile.FieldType.boolean)) ∈ lw_all := lw_g (lw_at lw_m2 150 rfl) rfl
theorem q500 : (Jvm.Cond.methodLink "BonnetValley" (214 : Nat) ({ cls := "BonnetValley$Fault", name := "<init>", desc := "(I)V" } : Jvm.MethodName)) ∈ lw_all := lw_g (lw_at lw_m2 151 rfl) rfl
theorem q502 : (Jvm.Cond.instanceMethod ({ cls := "BonnetValley", name := "things", desc := "()I" } : Jvm.MethodName)) ∈ lw_all := lw_g (lw_at lw_m2 153 rfl) rfl
theorem q503 : (Jvm.Cond.selects "BonnetValley" ({ cls := "BonnetValley", name := "things", desc := "()I" } : Jvm.MethodName) ({ cls := "BonnetValley", name := "things", desc := "()I" } : Jvm.MethodName)) ∈ lw_all := lw_g (lw_at lw_m2 154 rfl) rfl
theorem q504 : (Jvm.Cond.codeWith ({ cls := "BonnetValley", name := "things", desc := "()I" } : Jvm.MethodName) prog_1_method_24_code (5 : Nat) (Option.some Jvm.ClassFile.FieldType.int) [((23 : Nat), (67 : Nat), (70 : Nat), (185 : Nat))]) ∈ lw_all := lw_g (lw_at lw_m2 155 rfl) rfl
theorem q506 : (Jvm.Cond.instanceMethod ({ cls := "BonnetValley", name := "light", desc := "()I" } : Jvm.MethodName)) ∈ lw_all := lw_g (lw_at lw_m2 157 rfl) rfl
theorem q507 : (Jvm.Cond.selects "BonnetValley" ({ cls := "BonnetValley", name := "light", desc := "()I" } : Jvm.MethodName) ({ cls := "BonnetValley", name := "light", desc := "()I" } : Jvm.MethodName)) ∈ lw_all := lw_g (lw_at lw_m2 158 rfl) rfl
theorem q508 : (Jvm.Cond.codeWith ({ cls := "BonnetValley", name := "light", desc := "()I" } : Jvm.MethodName) prog_1_method_25_code (4 : Nat) (Option.some Jvm.ClassFile.FieldType.int) [((23 : Nat), (50 : Nat), (53 : Nat), (185 : Nat))]) ∈ lw_all := lw_g (lw_at lw_m2 159 rfl) rfl
theorem q509 : (Jvm.Cond.methodLink "BonnetValley" (9 : Nat) ({ cls := "java/lang/Math", name := "min", desc := "(II)I" } : Jvm.MethodName)) ∈ lw_all := lw_g (lw_at lw_m2 160 rfl) rfl
theorem q510 : (Jvm.Cond.methodLink "BonnetValley" (48 : Nat) ({ cls := "java/lang/Math", name := "max", desc := "(II)I" } : Jvm.MethodName)) ∈ lw_all := lw_g (lw_at lw_m2 161 rfl) rfl
theorem q513 : (Jvm.Cond.methodLink "BonnetValley" (231 : Nat) ({ cls := "BonnetValley$Words", name := "here", desc := "()I" } : Jvm.MethodName)) ∈ lw_all := lw_g (lw_at lw_m2 164 rfl) rfl
theorem q515 : (Jvm.Cond.instanceMethod ({ cls := "BonnetValley", name := "rule", desc := "()I" } : Jvm.MethodName)) ∈ lw_all := lw_g (lw_at lw_m2 166 rfl) rfl
theorem q516 : (Jvm.Cond.selects "BonnetValley" ({ cls := "BonnetValley", name := "rule", desc := "()I" } : Jvm.MethodName) ({ cls := "BonnetValley", name := "rule", desc := "()I" } : Jvm.MethodName)) ∈ lw_all := lw_g (lw_at lw_m2 167 rfl) rfl
theorem q517 : (Jvm.Cond.codeWith ({ cls := "BonnetValley", name := "rule", desc := "()I" } : Jvm.MethodName) prog_1_method_27_code (4 : Nat) (Option.some Jvm.ClassFile.FieldType.int) [((32 : Nat), (50 : Nat), (51 : Nat), (185 : Nat))]) ∈ lw_all := lw_g (lw_at lw_m2 168 rfl) rfl
theorem q518 : (Jvm.Cond.methodLink "BonnetValley" (234 : Nat) ({ cls := "[B", name := "clone", desc := "()Ljava/lang/Object;" } : Jvm.MethodName)) ∈ lw_all := lw_g (lw_at lw_m2 169 rfl) rfl
theorem q524 : (Jvm.Cond.classLink "BonnetValley" (235 : Nat) "[B") ∈ lw_all := lw_g (lw_at lw_m2 175 rfl) rfl
theorem q525 : (Jvm.Cond.classLink "BonnetValley" (43 : Nat) "BonnetValley$Rule") ∈ lw_all := lw_g (lw_at lw_m2 176 rfl) rfl
theorem q527 : (Jvm.Cond.methodLink "BonnetValley" (239 : Nat) ({ cls := "BonnetValley$Rule", name := "<init>", desc := "(LBonnetValley;[BI)V" } : Jvm.MethodName)) ∈ lw_all := lw_g (lw_at lw_m2 178 rfl) rfl
theorem q548 : (Jvm.Cond.methodLink "BonnetValley" (242 : Nat) ({ cls := "BonnetValley$Rule", name := "read", desc := "()LBonnetValley$Rule;" } : Jvm.MethodName)) ∈ lw_all := lw_g (lw_at lw_m2 199 rfl) rfl
theorem q680 : (Jvm.Cond.privateMethod ({ cls := "BonnetValley", name := "lightOf", desc := "(I)I" } : Jvm.MethodName)) ∈ lw_tbl := lw_at lw_m3 91 rfl
theorem q681 : (Jvm.Cond.instanceMethod ({ cls := "BonnetValley", name := "lightOf", desc := "(I)I" } : Jvm.MethodName)) ∈ lw_all := lw_g (lw_at lw_m3 92 rfl) rfl
theorem q682 : (Jvm.Cond.code ({ cls := "BonnetValley", name := "lightOf", desc := "(I)I" } : Jvm.MethodName) prog_1_method_26_code (2 : Nat) (Option.some Jvm.ClassFile.FieldType.int)) ∈ lw_all := lw_g (lw_at lw_m3 93 rfl) rfl
theorem q690 : (Jvm.Cond.privateMethod ({ cls := "BonnetValley", name := "peopleOn", desc := "(LBonnetValley$Upland;J)I" } : Jvm.MethodName)) ∈ lw_tbl := lw_at lw_m3 101 rfl
theorem q691 : (Jvm.Cond.instanceMethod ({ cls := "BonnetValley", name := "peopleOn", desc := "(LBonnetValley$Upland;J)I" } : Jvm.MethodName)) ∈ lw_all := lw_g (lw_at lw_m3 102 rfl) rfl
theorem q692 : (Jvm.Cond.code ({ cls := "BonnetValley", name := "peopleOn", desc := "(LBonnetValley$Upland;J)I" } : Jvm.MethodName) prog_1_method_28_code (6 : Nat) (Option.some Jvm.ClassFile.FieldType.int)) ∈ lw_all := lw_g (lw_at lw_m3 103 rfl) rfl
theorem q698 : (Jvm.Cond.instanceMethod ({ cls := "BonnetValley", name := "sheet", desc := "(IIII)I" } : Jvm.MethodName)) ∈ lw_all := lw_g (lw_at lw_m3 109 rfl) rfl
theorem q699 : (Jvm.Cond.selects "BonnetValley" ({ cls := "BonnetValley", name := "sheet", desc := "(IIII)I" } : Jvm.MethodName) ({ cls := "BonnetValley", name := "sheet", desc := "(IIII)I" } : Jvm.MethodName)) ∈ lw_all := lw_g (lw_at lw_m3 110 rfl) rfl
theorem q700 : (Jvm.Cond.codeWith ({ cls := "BonnetValley", name := "sheet", desc := "(IIII)I" } : Jvm.MethodName) prog_1_method_37_code (7 : Nat) (Option.some Jvm.ClassFile.FieldType.int) [((28 : Nat), (38 : Nat), (41 : Nat), (282 : Nat))]) ∈ lw_all := lw_g (lw_at lw_m3 111 rfl) rfl
theorem q701 : (Jvm.Cond.classLink "BonnetValley" (282 : Nat) "java/lang/NegativeArraySizeException") ∈ lw_all := lw_g (lw_at lw_m3 112 rfl) rfl
theorem q730 : (Jvm.Cond.constantLong "BonnetValley" (276 : Nat) (3 : Int64)) ∈ lw_all := lw_g (lw_at lw_m3 141 rfl) rfl
theorem q731 : (Jvm.Cond.methodLink "BonnetValley" (278 : Nat) ({ cls := "BonnetValley", name := "rowOf", desc := "(IIII)Ljava/lang/Object;" } : Jvm.MethodName)) ∈ lw_all := lw_g (lw_at lw_m3 142 rfl) rfl
theorem q732 : (Jvm.Cond.static ({ cls := "BonnetValley", name := "rowOf", desc := "(IIII)Ljava/lang/Object;" } : Jvm.MethodName)) ∈ lw_all := lw_g (lw_at lw_m3 143 rfl) rfl
theorem q733 : (Jvm.Cond.code ({ cls := "BonnetValley", name := "rowOf", desc := "(IIII)Ljava/lang/Object;" } : Jvm.MethodName) prog_1_method_35_code (7 : Nat) (Option.some (Jvm.ClassFile.FieldType.object "java/lang/Object"))) ∈ lw_all := lw_g (lw_at lw_m3 144 rfl) rfl
theorem q734 : (Jvm.Cond.methodLink "BonnetValley" (284 : Nat) ({ cls := "BonnetValley", name := "entry", desc := "(Ljava/lang/Object;I)I" } : Jvm.MethodName)) ∈ lw_all := lw_g (lw_at lw_m3 145 rfl) rfl
theorem q735 : (Jvm.Cond.static ({ cls := "BonnetValley", name := "entry", desc := "(Ljava/lang/Object;I)I" } : Jvm.MethodName)) ∈ lw_all := lw_g (lw_at lw_m3 146 rfl) rfl
theorem q736 : (Jvm.Cond.code ({ cls := "BonnetValley", name := "entry", desc := "(Ljava/lang/Object;I)I" } : Jvm.MethodName) prog_1_method_36_code (2 : Nat) (Option.some Jvm.ClassFile.FieldType.int)) ∈ lw_all := lw_g (lw_at lw_m3 147 rfl) rfl
theorem q737 : (Jvm.Cond.classLink "BonnetValley" (273 : Nat) "[S") ∈ lw_all := lw_g (lw_at lw_m3 148 rfl) rfl
theorem q738 : (Jvm.Cond.classLink "BonnetValley" (275 : Nat) "[I") ∈ lw_all := lw_g (lw_at lw_m3 149 rfl) rfl
theorem q739 : (Jvm.Cond.methodLink "BonnetValley" (288 : Nat) ({ cls := "BonnetValley", name := "brims", desc := "(LBonnetValley$Upland;)I" } : Jvm.MethodName)) ∈ lw_all := lw_g (lw_at lw_m3 150 rfl) rfl
theorem q740 : (Jvm.Cond.privateMethod ({ cls := "BonnetValley", name := "brims", desc := "(LBonnetValley$Upland;)I" } : Jvm.MethodName)) ∈ lw_tbl := lw_at lw_m3 151 rfl
theorem q741 : (Jvm.Cond.instanceMethod ({ cls := "BonnetValley", name := "brims", desc := "(LBonnetValley$Upland;)I" } : Jvm.MethodName)) ∈ lw_all := lw_g (lw_at lw_m3 152 rfl) rfl
theorem q742 : (Jvm.Cond.code ({ cls := "BonnetValley", name := "brims", desc := "(LBonnetValley$Upland;)I" } : Jvm.MethodName) prog_1_method_34_code (4 : Nat) (Option.some Jvm.ClassFile.FieldType.int)) ∈ lw_all := lw_g (lw_at lw_m3 153 rfl) rfl
theorem q745 : (Jvm.Cond.instanceMethod ({ cls := "BonnetValley", name := "hours", desc := "(I)I" } : Jvm.MethodName)) ∈ lw_all := lw_g (lw_at lw_m3 156 rfl) rfl
theorem q746 : (Jvm.Cond.selects "BonnetValley" ({ cls := "BonnetValley", name := "hours", desc := "(I)I" } : Jvm.MethodName) ({ cls := "BonnetValley", name := "hours", desc := "(I)I" } : Jvm.MethodName)) ∈ lw_all := lw_g (lw_at lw_m3 157 rfl) rfl
theorem q747 : (Jvm.Cond.code ({ cls := "BonnetValley", name := "hours", desc := "(I)I" } : Jvm.MethodName) prog_1_method_45_code (5 : Nat) (Option.some Jvm.ClassFile.FieldType.int)) ∈ lw_all := lw_g (lw_at lw_m3 158 rfl) rfl
theorem q748 : (Jvm.Cond.constantLong "BonnetValley" (318 : Nat) (60 : Int64)) ∈ lw_all := lw_g (lw_at lw_m3 159 rfl) rfl
theorem q749 : (Jvm.Cond.methodLink "BonnetValley" (320 : Nat) ({ cls := "BonnetValley", name := "remember", desc := "(LBonnetValley$Upland;)V" } : Jvm.MethodName)) ∈ lw_all := lw_g (lw_at lw_m3 160 rfl) rfl
theorem q750 : (Jvm.Cond.privateMethod ({ cls := "BonnetValley", name := "remember", desc := "(LBonnetValley$Upland;)V" } : Jvm.MethodName)) ∈ lw_tbl := lw_at lw_m3 161 rfl
theorem q751 : (Jvm.Cond.instanceMethod ({ cls := "BonnetValley", name := "remember", desc := "(LBonnetValley$Upland;)V" } : Jvm.MethodName)) ∈ lw_all := lw_g (lw_at lw_m3 162 rfl) rfl
theorem q752 : (Jvm.Cond.code ({ cls := "BonnetValley", name := "remember", desc := "(LBonnetValley$Upland;)V" } : Jvm.MethodName) prog_1_method_38_code (3 : Nat) (Option.none : Option Jvm.ClassFile.FieldType)) ∈ lw_all := lw_g (lw_at lw_m3 163 rfl) rfl
theorem q753 : (Jvm.Cond.methodLink "BonnetValley" (292 : Nat) ({ cls := "java/lang/System", name := "arraycopy", desc := "(Ljava/lang/Object;ILjava/lang/Object;II)V" } : Jvm.MethodName)) ∈ lw_all := lw_g (lw_at lw_m3 164 rfl) rfl
theorem q756 : (Jvm.Cond.methodLink "BonnetValley" (298 : Nat) ({ cls := "BonnetValley$Upland", name := "be", desc := "(LBonnetValley$Upland;)V" } : Jvm.MethodName)) ∈ lw_all := lw_g (lw_at lw_m3 167 rfl) rfl
theorem q761 : (Jvm.Cond.methodLink "BonnetValley" (323 : Nat) ({ cls := "BonnetValley", name := "known", desc := "(LBonnetValley$Upland;)I" } : Jvm.MethodName)) ∈ lw_all := lw_g (lw_at lw_m3 172 rfl) rfl
theorem q762 : (Jvm.Cond.privateMethod ({ cls := "BonnetValley", name := "known", desc := "(LBonnetValley$Upland;)I" } : Jvm.MethodName)) ∈ lw_tbl := lw_at lw_m3 173 rfl
theorem q763 : (Jvm.Cond.instanceMethod ({ cls := "BonnetValley", name := "known", desc := "(LBonnetValley$Upland;)I" } : Jvm.MethodName)) ∈ lw_all := lw_g (lw_at lw_m3 174 rfl) rfl
theorem q764 : (Jvm.Cond.code ({ cls := "BonnetValley", name := "known", desc := "(LBonnetValley$Upland;)I" } : Jvm.MethodName) prog_1_method_44_code (4 : Nat) (Option.some Jvm.ClassFile.FieldType.int)) ∈ lw_all := lw_g (lw_at lw_m3 175 rfl) rfl
theorem q765 : (Jvm.Cond.methodLink "BonnetValley" (315 : Nat) ({ cls := "java/lang/Integer", name := "bitCount", desc := "(I)I" } : Jvm.MethodName)) ∈ lw_all := lw_g (lw_at lw_m3 176 rfl) rfl
theorem q766 : (Jvm.Cond.methodLink "BonnetValley" (326 : Nat) ({ cls := "BonnetValley", name := "goHours", desc := "(LBonnetValley$Upland;I)V" } : Jvm.MethodName)) ∈ lw_all := lw_g (lw_at lw_m3 177 rfl) rfl
theorem q767 : (Jvm.Cond.privateMethod ({ cls := "BonnetValley", name := "goHours", desc := "(LBonnetValley$Upland;I)V" } : Jvm.MethodName)) ∈ lw_tbl := lw_at lw_m3 178 rfl
theorem q768 : (Jvm.Cond.instanceMethod ({ cls := "BonnetValley", name := "goHours", desc := "(LBonnetValley$Upland;I)V" } : Jvm.MethodName)) ∈ lw_all := lw_g (lw_at lw_m3 179 rfl) rfl
theorem q769 : (Jvm.Cond.code ({ cls := "BonnetValley", name := "goHours", desc := "(LBonnetValley$Upland;I)V" } : Jvm.MethodName) prog_1_method_43_code (4 : Nat) (Option.none : Option Jvm.ClassFile.FieldType)) ∈ lw_all := lw_g (lw_at lw_m3 180 rfl) rfl
theorem q770 : (Jvm.Cond.methodLink "BonnetValley" (312 : Nat) ({ cls := "BonnetValley", name := "goHour", desc := "(LBonnetValley$Upland;)V" } : Jvm.MethodName)) ∈ lw_all := lw_g (lw_at lw_m3 181 rfl) rfl
theorem q771 : (Jvm.Cond.privateMethod ({ cls := "BonnetValley", name := "goHour", desc := "(LBonnetValley$Upland;)V" } : Jvm.MethodName)) ∈ lw_tbl := lw_at lw_m3 182 rfl
theorem q772 : (Jvm.Cond.instanceMethod ({ cls := "BonnetValley", name := "goHour", desc := "(LBonnetValley$Upland;)V" } : Jvm.MethodName)) ∈ lw_all := lw_g (lw_at lw_m3 183 rfl) rfl
theorem q773 : (Jvm.Cond.code ({ cls := "BonnetValley", name := "goHour", desc := "(LBonnetValley$Upland;)V" } : Jvm.MethodName) prog_1_method_42_code (4 : Nat) (Option.none : Option Jvm.ClassFile.FieldType)) ∈ lw_all := lw_g (lw_at lw_m3 184 rfl) rfl
theorem q774 : (Jvm.Cond.methodLink "BonnetValley" (260 : Nat) ({ cls := "BonnetValley$Look", name := "things", desc := "(LBonnetValley$Upland;I)I" } : Jvm.MethodName)) ∈ lw_all := lw_g (lw_at lw_m3 185 rfl) rfl
theorem q800 : (Jvm.Cond.privateMethod ({ cls := "BonnetValley", name := "reachBy", desc := "(LBonnetValley$Upland;II)I" } : Jvm.MethodName)) ∈ lw_tbl := lw_at lw_m3 211 rfl
theorem q801 : (Jvm.Cond.instanceMethod ({ cls := "BonnetValley", name := "reachBy", desc := "(LBonnetValley$Upland;II)I" } : Jvm.MethodName)) ∈ lw_all := lw_g (lw_at lw_m3 212 rfl) rfl
theorem q802 : (Jvm.Cond.code ({ cls := "BonnetValley", name := "reachBy", desc := "(LBonnetValley$Upland;II)I" } : Jvm.MethodName) prog_1_method_6_code (5 : Nat) (Option.some Jvm.ClassFile.FieldType.int)) ∈ lw_all := lw_g (lw_at lw_m3 213 rfl) rfl
theorem q803 : (Jvm.Cond.methodLink "BonnetValley" (39 : Nat) ({ cls := "BonnetValley", name := "lightOf", desc := "(I)I" } : Jvm.MethodName)) ∈ lw_all := lw_g (lw_at lw_m3 214 rfl) rfl
theorem q804 : (Jvm.Cond.methodLink "BonnetValley" (42 : Nat) ({ cls := "BonnetValley$Rule", name := "of", desc := "(LBonnetValley$Upland;II)I" } : Jvm.MethodName)) ∈ lw_all := lw_g (lw_at lw_m3 215 rfl) rfl
theorem q822 : (Jvm.Cond.static ({ cls := "BonnetValley", name := "wayOf", desc := "(II)I" } : Jvm.MethodName)) ∈ lw_all := lw_g (lw_at lw_m3 233 rfl) rfl
theorem q823 : (Jvm.Cond.code ({ cls := "BonnetValley", name := "wayOf", desc := "(II)I" } : Jvm.MethodName) prog_1_method_4_code (4 : Nat) (Option.some Jvm.ClassFile.FieldType.int)) ∈ lw_all := lw_g (lw_at lw_m3 234 rfl) rfl
theorem q824 : (Jvm.Cond.methodLink "BonnetValley" (3 : Nat) ({ cls := "java/lang/Math", name := "abs", desc := "(I)I" } : Jvm.MethodName)) ∈ lw_all := lw_g (lw_at lw_m3 235 rfl) rfl
theorem q826 : (Jvm.Cond.static ({ cls := "BonnetValley", name := "offBy", desc := "(II)I" } : Jvm.MethodName)) ∈ lw_all := lw_g (lw_at lw_m3 237 rfl) rfl
theorem q827 : (Jvm.Cond.code ({ cls := "BonnetValley", name := "offBy", desc := "(II)I" } : Jvm.MethodName) prog_1_method_3_code (3 : Nat) (Option.some Jvm.ClassFile.FieldType.int)) ∈ lw_all := lw_g (lw_at lw_m3 238 rfl) rfl
theorem q838 : (Jvm.Cond.privateMethod ({ cls := "BonnetValley", name := "isClear", desc := "(II)Z" } : Jvm.MethodName)) ∈ lw_tbl := lw_at lw_m4 9 rfl
theorem q839 : (Jvm.Cond.instanceMethod ({ cls := "BonnetValley", name := "isClear", desc := "(II)Z" } : Jvm.MethodName)) ∈ lw_all := lw_g (lw_at lw_m4 10 rfl) rfl
theorem q840 : (Jvm.Cond.code ({ cls := "BonnetValley", name := "isClear", desc := "(II)Z" } : Jvm.MethodName) prog_1_method_5_code (6 : Nat) (Option.some Jvm.ClassFile.FieldType.boolean)) ∈ lw_all := lw_g (lw_at lw_m4 11 rfl) rfl
theorem q841 : (Jvm.Cond.methodLink "BonnetValley" (17 : Nat) ({ cls := "java/lang/Integer", name := "signum", desc := "(I)I" } : Jvm.MethodName)) ∈ lw_all := lw_g (lw_at lw_m4 12 rfl) rfl
theorem q844 : (Jvm.Cond.methodLink "BonnetValley" (309 : Nat) ({ cls := "BonnetValley", name := "tell", desc := "(LBonnetValley$Upland;II)Z" } : Jvm.MethodName)) ∈ lw_all := lw_g (lw_at lw_m4 15 rfl) rfl
theorem q845 : (Jvm.Cond.privateMethod ({ cls := "BonnetValley", name := "tell", desc := "(LBonnetValley$Upland;II)Z" } : Jvm.MethodName)) ∈ lw_tbl := lw_at lw_m4 16 rfl
theorem q846 : (Jvm.Cond.instanceMethod ({ cls := "BonnetValley", name := "tell", desc := "(LBonnetValley$Upland;II)Z" } : Jvm.MethodName)) ∈ lw_all := lw_g (lw_at lw_m4 17 rfl) rfl
theorem q847 : (Jvm.Cond.code ({ cls := "BonnetValley", name := "tell", desc := "(LBonnetValley$Upland;II)Z" } : Jvm.MethodName) prog_1_method_41_code (4 : Nat) (Option.some Jvm.ClassFile.FieldType.boolean)) ∈ lw_all := lw_g (lw_at lw_m4 18 rfl) rfl
theorem q848 : (Jvm.Cond.methodLink "BonnetValley" (302 : Nat) ({ cls := "BonnetValley", name := "areNear", desc := "(II)Z" } : Jvm.MethodName)) ∈ lw_all := lw_g (lw_at lw_m4 19 rfl) rfl
theorem q849 : (Jvm.Cond.privateMethod ({ cls := "BonnetValley", name := "areNear", desc := "(II)Z" } : Jvm.MethodName)) ∈ lw_tbl := lw_at lw_m4 20 rfl
theorem q850 : (Jvm.Cond.instanceMethod ({ cls := "BonnetValley", name := "areNear", desc := "(II)Z" } : Jvm.MethodName)) ∈ lw_all := lw_g (lw_at lw_m4 21 rfl) rfl
theorem q851 : (Jvm.Cond.code ({ cls := "BonnetValley", name := "areNear", desc := "(II)Z" } : Jvm.MethodName) prog_1_method_40_code (3 : Nat) (Option.some Jvm.ClassFile.FieldType.boolean)) ∈ lw_all := lw_g (lw_at lw_m4 22 rfl) rfl
theorem q852 : (Jvm.Cond.methodLink "BonnetValley" (306 : Nat) ({ cls := "BonnetValley", name := "meet", desc := "(LBonnetValley$Upland;II)Z" } : Jvm.MethodName)) ∈ lw_all := lw_g (lw_at lw_m4 23 rfl) rfl
theorem q853 : (Jvm.Cond.privateMethod ({ cls := "BonnetValley", name := "meet", desc := "(LBonnetValley$Upland;II)Z" } : Jvm.MethodName)) ∈ lw_tbl := lw_at lw_m4 24 rfl
theorem q854 : (Jvm.Cond.instanceMethod ({ cls := "BonnetValley", name := "meet", desc := "(LBonnetValley$Upland;II)Z" } : Jvm.MethodName)) ∈ lw_all := lw_g (lw_at lw_m4 25 rfl) rfl
theorem q855 : (Jvm.Cond.code ({ cls := "BonnetValley", name := "meet", desc := "(LBonnetValley$Upland;II)Z" } : Jvm.MethodName) prog_1_method_39_code (4 : Nat) (Option.some Jvm.ClassFile.FieldType.boolean)) ∈ lw_all := lw_g (lw_at lw_m4 26 rfl) rfl
theorem q856 : (Jvm.Cond.methodLink "BonnetValley" (246 : Nat) ({ cls := "BonnetValley$Look", name := "sees", desc := "(LBonnetValley$Upland;II)Z" } : Jvm.MethodName)) ∈ lw_all := lw_g (lw_at lw_m4 27 rfl) rfl
theorem q857 : (Jvm.Cond.methodLink "BonnetValley" (330 : Nat) ({ cls := "BonnetValley", name := "tell", desc := "(J)V" } : Jvm.MethodName)) ∈ lw_all := lw_g (lw_at lw_m4 28 rfl) rfl
theorem q858 : (Jvm.Cond.privateMethod ({ cls := "BonnetValley", name := "tell", desc := "(J)V" } : Jvm.MethodName)) ∈ lw_tbl := lw_at lw_m4 29 rfl
theorem q859 : (Jvm.Cond.instanceMethod ({ cls := "BonnetValley", name := "tell", desc := "(J)V" } : Jvm.MethodName)) ∈ lw_all := lw_g (lw_at lw_m4 30 rfl) rfl
theorem q860 : (Jvm.Cond.code ({ cls := "BonnetValley", name := "tell", desc := "(J)V" } : Jvm.MethodName) prog_1_method_8_code (3 : Nat) (Option.none : Option Jvm.ClassFile.FieldType)) ∈ lw_all := lw_g (lw_at lw_m4 31 rfl) rfl
theorem q862 : (Jvm.Cond.instanceMethod ({ cls := "BonnetValley", name := "faces", desc := "(II)I" } : Jvm.MethodName)) ∈ lw_all := lw_g (lw_at lw_m4 33 rfl) rfl
theorem q863 : (Jvm.Cond.selects "BonnetValley" ({ cls := "BonnetValley", name := "faces", desc := "(II)I" } : Jvm.MethodName) ({ cls := "BonnetValley", name := "faces", desc := "(II)I" } : Jvm.MethodName)) ∈ lw_all := lw_g (lw_at lw_m4 34 rfl) rfl
theorem q864 : (Jvm.Cond.code ({ cls := "BonnetValley", name := "faces", desc := "(II)I" } : Jvm.MethodName) prog_1_method_47_code (4 : Nat) (Option.some Jvm.ClassFile.FieldType.int)) ∈ lw_all := lw_g (lw_at lw_m4 35 rfl) rfl
theorem q865 : (Jvm.Cond.methodLink "BonnetValley" (335 : Nat) ({ cls := "BonnetValley", name := "canFace", desc := "(II)Z" } : Jvm.MethodName)) ∈ lw_all := lw_g (lw_at lw_m4 36 rfl) rfl
theorem q866 : (Jvm.Cond.privateMethod ({ cls := "BonnetValley", name := "canFace", desc := "(II)Z" } : Jvm.MethodName)) ∈ lw_tbl := lw_at lw_m4 37 rfl
theorem q867 : (Jvm.Cond.instanceMethod ({ cls := "BonnetValley", name := "canFace", desc := "(II)Z" } : Jvm.MethodName)) ∈ lw_all := lw_g (lw_at lw_m4 38 rfl) rfl
theorem q868 : (Jvm.Cond.code ({ cls := "BonnetValley", name := "canFace", desc := "(II)Z" } : Jvm.MethodName) prog_1_method_46_code (3 : Nat) (Option.some Jvm.ClassFile.FieldType.boolean)) ∈ lw_all := lw_g (lw_at lw_m4 39 rfl) rfl
theorem q869 : (Jvm.Cond.methodLink "BonnetValley" (250 : Nat) ({ cls := "BonnetValley", name := "isMan", desc := "(I)Z" } : Jvm.MethodName)) ∈ lw_all := lw_g (lw_at lw_m4 40 rfl) rfl
theorem q870 : (Jvm.Cond.privateMethod ({ cls := "BonnetValley", name := "isMan", desc := "(I)Z" } : Jvm.MethodName)) ∈ lw_tbl := lw_at lw_m4 41 rfl
theorem q871 : (Jvm.Cond.instanceMethod ({ cls := "BonnetValley", name := "isMan", desc := "(I)Z" } : Jvm.MethodName)) ∈ lw_all := lw_g (lw_at lw_m4 42 rfl) rfl
theorem q872 : (Jvm.Cond.code ({ cls := "BonnetValley", name := "isMan", desc := "(I)Z" } : Jvm.MethodName) prog_1_method_11_code (2 : Nat) (Option.some Jvm.ClassFile.FieldType.boolean)) ∈ lw_all := lw_g (lw_at lw_m4 43 rfl) rfl
theorem q873 : (Jvm.Cond.constantLong "BonnetValley" (333 : Nat) (7 : Int64)) ∈ lw_all := lw_g (lw_at lw_m4 44 rfl) rfl
theorem q874 : (Jvm.Cond.methodLink "BonnetValley" (338 : Nat) ({ cls := "BonnetValley", name := "offBy", desc := "(II)I" } : Jvm.MethodName)) ∈ lw_all := lw_g (lw_at lw_m4 45 rfl) rfl
theorem q876 : (Jvm.Cond.instanceMethod ({ cls := "BonnetValley", name := "steps", desc := "(II)I" } : Jvm.MethodName)) ∈ lw_all := lw_g (lw_at lw_m4 47 rfl) rfl
theorem q877 : (Jvm.Cond.selects "BonnetValley" ({ cls := "BonnetValley", name := "steps", desc := "(II)I" } : Jvm.MethodName) ({ cls := "BonnetValley", name := "steps", desc := "(II)I" } : Jvm.MethodName)) ∈ lw_all := lw_g (lw_at lw_m4 48 rfl) rfl
theorem q878 : (Jvm.Cond.code ({ cls := "BonnetValley", name := "steps", desc := "(II)I" } : Jvm.MethodName) prog_1_method_50_code (4 : Nat) (Option.some Jvm.ClassFile.FieldType.int)) ∈ lw_all := lw_g (lw_at lw_m4 49 rfl) rfl
theorem q879 : (Jvm.Cond.methodLink "BonnetValley" (350 : Nat) ({ cls := "BonnetValley", name := "refusesStep", desc := "(LBonnetValley$Upland;II)I" } : Jvm.MethodName)) ∈ lw_all := lw_g (lw_at lw_m4 50 rfl) rfl
theorem q880 : (Jvm.Cond.privateMethod ({ cls := "BonnetValley", name := "refusesStep", desc := "(LBonnetValley$Upland;II)I" } : Jvm.MethodName)) ∈ lw_tbl := lw_at lw_m4 51 rfl
theorem q881 : (Jvm.Cond.instanceMethod ({ cls := "BonnetValley", name := "refusesStep", desc := "(LBonnetValley$Upland;II)I" } : Jvm.MethodName)) ∈ lw_all := lw_g (lw_at lw_m4 52 rfl) rfl
theorem q882 : (Jvm.Cond.code ({ cls := "BonnetValley", name := "refusesStep", desc := "(LBonnetValley$Upland;II)I" } : Jvm.MethodName) prog_1_method_49_code (4 : Nat) (Option.some Jvm.ClassFile.FieldType.int)) ∈ lw_all := lw_g (lw_at lw_m4 53 rfl) rfl
theorem q883 : (Jvm.Cond.methodLink "BonnetValley" (347 : Nat) ({ cls := "BonnetValley", name := "stepOf", desc := "(II)I" } : Jvm.MethodName)) ∈ lw_all := lw_g (lw_at lw_m4 54 rfl) rfl
theorem q884 : (Jvm.Cond.privateMethod ({ cls := "BonnetValley", name := "stepOf", desc := "(II)I" } : Jvm.MethodName)) ∈ lw_tbl := lw_at lw_m4 55 rfl
theorem q885 : (Jvm.Cond.instanceMethod ({ cls := "BonnetValley", name := "stepOf", desc := "(II)I" } : Jvm.MethodName)) ∈ lw_all := lw_g (lw_at lw_m4 56 rfl) rfl
theorem q886 : (Jvm.Cond.code ({ cls := "BonnetValley", name := "stepOf", desc := "(II)I" } : Jvm.MethodName) prog_1_method_48_code (5 : Nat) (Option.some Jvm.ClassFile.FieldType.int)) ∈ lw_all := lw_g (lw_at lw_m4 57 rfl) rfl
theorem q887 : (Jvm.Cond.fieldLink "BonnetValley" (341 : Nat) "BonnetValley" "DOWN" "[I") ∈ lw_all := lw_g (lw_at lw_m4 58 rfl) rfl
theorem q888 : (Jvm.Cond.laysStatic "BonnetValley" "DOWN" "[I") ∈ lw_tbl := lw_at lw_m4 59 rfl
theorem q889 : (Jvm.Cond.fieldLink "BonnetValley" (344 : Nat) "BonnetValley" "OVER" "[I") ∈ lw_all := lw_g (lw_at lw_m4 60 rfl) rfl
theorem q890 : (Jvm.Cond.laysStatic "BonnetValley" "OVER" "[I") ∈ lw_tbl := lw_at lw_m4 61 rfl
theorem q892 : (Jvm.Cond.instanceMethod ({ cls := "BonnetValley", name := "trims", desc := "(II)I" } : Jvm.MethodName)) ∈ lw_all := lw_g (lw_at lw_m4 63 rfl) rfl
theorem q893 : (Jvm.Cond.selects "BonnetValley" ({ cls := "BonnetValley", name := "trims", desc := "(II)I" } : Jvm.MethodName) ({ cls := "BonnetValley", name := "trims", desc := "(II)I" } : Jvm.MethodName)) ∈ lw_all := lw_g (lw_at lw_m4 64 rfl) rfl
theorem q894 : (Jvm.Cond.code ({ cls := "BonnetValley", name := "trims", desc := "(II)I" } : Jvm.MethodName) prog_1_method_52_code (4 : Nat) (Option.some Jvm.ClassFile.FieldType.int)) ∈ lw_all := lw_g (lw_at lw_m4 65 rfl) rfl
theorem q895 : (Jvm.Cond.methodLink "BonnetValley" (355 : Nat) ({ cls := "BonnetValley", name := "canTrim", desc := "(II)Z" } : Jvm.MethodName)) ∈ lw_all := lw_g (lw_at lw_m4 66 rfl) rfl
theorem q896 : (Jvm.Cond.privateMethod ({ cls := "BonnetValley", name := "canTrim", desc := "(II)Z" } : Jvm.MethodName)) ∈ lw_tbl := lw_at lw_m4 67 rfl
theorem q897 : (Jvm.Cond.instanceMethod ({ cls := "BonnetValley", name := "canTrim", desc := "(II)Z" } : Jvm.MethodName)) ∈ lw_all := lw_g (lw_at lw_m4 68 rfl) rfl
theorem q898 : (Jvm.Cond.code ({ cls := "BonnetValley", name := "canTrim", desc := "(II)Z" } : Jvm.MethodName) prog_1_method_51_code (3 : Nat) (Option.some Jvm.ClassFile.FieldType.boolean)) ∈ lw_all := lw_g (lw_at lw_m4 69 rfl) rfl
theorem q899 : (Jvm.Cond.constantLong "BonnetValley" (353 : Nat) (4 : Int64)) ∈ lw_all := lw_g (lw_at lw_m4 70 rfl) rfl
theorem q901 : (Jvm.Cond.instanceMethod ({ cls := "BonnetValley", name := "puts", desc := "(II)I" } : Jvm.MethodName)) ∈ lw_all := lw_g (lw_at lw_m4 72 rfl) rfl
theorem q902 : (Jvm.Cond.selects "BonnetValley" ({ cls := "BonnetValley", name := "puts", desc := "(II)I" } : Jvm.MethodName) ({ cls := "BonnetValley", name := "puts", desc := "(II)I" } : Jvm.MethodName)) ∈ lw_all := lw_g (lw_at lw_m4 73 rfl) rfl
theorem q903 : (Jvm.Cond.code ({ cls := "BonnetValley", name := "puts", desc := "(II)I" } : Jvm.MethodName) prog_1_method_54_code (5 : Nat) (Option.some Jvm.ClassFile.FieldType.int)) ∈ lw_all := lw_g (lw_at lw_m4 74 rfl) rfl
theorem q904 : (Jvm.Cond.methodLink "BonnetValley" (361 : Nat) ({ cls := "BonnetValley", name := "refusesPut", desc := "(II)I" } : Jvm.MethodName)) ∈ lw_all := lw_g (lw_at lw_m4 75 rfl) rfl
theorem q905 : (Jvm.Cond.privateMethod ({ cls := "BonnetValley", name := "refusesPut", desc := "(II)I" } : Jvm.MethodName)) ∈ lw_tbl := lw_at lw_m4 76 rfl
theorem q906 : (Jvm.Cond.instanceMethod ({ cls := "BonnetValley", name := "refusesPut", desc := "(II)I" } : Jvm.MethodName)) ∈ lw_all := lw_g (lw_at lw_m4 77 rfl) rfl
theorem q907 : (Jvm.Cond.code ({ cls := "BonnetValley", name := "refusesPut", desc := "(II)I" } : Jvm.MethodName) prog_1_method_53_code (3 : Nat) (Option.some Jvm.ClassFile.FieldType.int)) ∈ lw_all := lw_g (lw_at lw_m4 78 rfl) rfl
theorem q908 : (Jvm.Cond.methodLink "BonnetValley" (262 : Nat) ({ cls := "BonnetValley", name := "isThing", desc := "(I)Z" } : Jvm.MethodName)) ∈ lw_all := lw_g (lw_at lw_m4 79 rfl) rfl
theorem q909 : (Jvm.Cond.privateMethod ({ cls := "BonnetValley", name := "isThing", desc := "(I)Z" } : Jvm.MethodName)) ∈ lw_tbl := lw_at lw_m4 80 rfl
theorem q910 : (Jvm.Cond.instanceMethod ({ cls := "BonnetValley", name := "isThing", desc := "(I)Z" } : Jvm.MethodName)) ∈ lw_all := lw_g (lw_at lw_m4 81 rfl) rfl
theorem q911 : (Jvm.Cond.code ({ cls := "BonnetValley", name := "isThing", desc := "(I)Z" } : Jvm.MethodName) prog_1_method_12_code (2 : Nat) (Option.some Jvm.ClassFile.FieldType.boolean)) ∈ lw_all := lw_g (lw_at lw_m4 82 rfl) rfl
theorem q912 : (Jvm.Cond.methodLink "BonnetValley" (358 : Nat) ({ cls := "BonnetValley", name := "isField", desc := "(I)Z" } : Jvm.MethodName)) ∈ lw_all := lw_g (lw_at lw_m4 83 rfl) rfl
theorem q913 : (Jvm.Cond.privateMethod ({ cls := "BonnetValley", name := "isField", desc := "(I)Z" } : Jvm.MethodName)) ∈ lw_tbl := lw_at lw_m4 84 rfl
theorem q914 : (Jvm.Cond.instanceMethod ({ cls := "BonnetValley", name := "isField", desc := "(I)Z" } : Jvm.MethodName)) ∈ lw_all := lw_g (lw_at lw_m4 85 rfl) rfl
theorem q915 : (Jvm.Cond.code ({ cls := "BonnetValley", name := "isField", desc := "(I)Z" } : Jvm.MethodName) prog_1_method_10_code (2 : Nat) (Option.some Jvm.ClassFile.FieldType.boolean)) ∈ lw_all := lw_g (lw_at lw_m4 86 rfl) rfl
theorem q916 : (Jvm.Cond.methodLink "BonnetValley" (142 : Nat) ({ cls := "BonnetValley", name := "fields", desc := "()I" } : Jvm.MethodName)) ∈ lw_all := lw_g (lw_at lw_m4 87 rfl) rfl
theorem q917 : (Jvm.Cond.privateMethod ({ cls := "BonnetValley", name := "fields", desc := "()I" } : Jvm.MethodName)) ∈ lw_tbl := lw_at lw_m4 88 rfl
theorem q918 : (Jvm.Cond.instanceMethod ({ cls := "BonnetValley", name := "fields", desc := "()I" } : Jvm.MethodName)) ∈ lw_all := lw_g (lw_at lw_m4 89 rfl) rfl
theorem q919 : (Jvm.Cond.code ({ cls := "BonnetValley", name := "fields", desc := "()I" } : Jvm.MethodName) prog_1_method_9_code (1 : Nat) (Option.some Jvm.ClassFile.FieldType.int)) ∈ lw_all := lw_g (lw_at lw_m4 90 rfl) rfl
theorem q921 : (Jvm.Cond.instanceMethod ({ cls := "BonnetValley", name := "day", desc := "()I" } : Jvm.MethodName)) ∈ lw_all := lw_g (lw_at lw_m4 92 rfl) rfl
theorem q922 : (Jvm.Cond.selects "BonnetValley" ({ cls := "BonnetValley", name := "day", desc := "()I" } : Jvm.MethodName) ({ cls := "BonnetValley", name := "day", desc := "()I" } : Jvm.MethodName)) ∈ lw_all := lw_g (lw_at lw_m4 93 rfl) rfl
theorem q923 : (Jvm.Cond.codeWith ({ cls := "BonnetValley", name := "day", desc := "()I" } : Jvm.MethodName) prog_1_method_55_code (3 : Nat) (Option.some Jvm.ClassFile.FieldType.int) [((22 : Nat), (26 : Nat), (29 : Nat), (185 : Nat))]) ∈ lw_all := lw_g (lw_at lw_m4 94 rfl) rfl
theorem q924 : (Jvm.Cond.classLink "BonnetValley" (364 : Nat) "BonnetValley$Order") ∈ lw_all := lw_g (lw_at lw_m4 95 rfl) rfl
theorem q926 : (Jvm.Cond.methodLink "BonnetValley" (366 : Nat) ({ cls := "BonnetValley$Order", name := "<init>", desc := "(LBonnetValley;[BI)V" } : Jvm.MethodName)) ∈ lw_all := lw_g (lw_at lw_m4 97 rfl) rfl
theorem q931 : (Jvm.Cond.fieldLink "BonnetValley" (372 : Nat) "BonnetValley$Order" "acts" "[C") ∈ lw_all := lw_g (lw_at lw_m4 102 rfl) rfl
theorem q933 : (Jvm.Cond.fieldLink "BonnetValley" (376 : Nat) "BonnetValley$Order" "first" "[I") ∈ lw_all := lw_g (lw_at lw_m4 104 rfl) rfl
theorem q935 : (Jvm.Cond.fieldLink "BonnetValley" (379 : Nat) "BonnetValley$Order" "second" "[I") ∈ lw_all := lw_g (lw_at lw_m4 106 rfl) rfl
theorem q937 : (Jvm.Cond.fieldLink "BonnetValley" (369 : Nat) "BonnetValley$Order" "many" "I") ∈ lw_all := lw_g (lw_at lw_m4 108 rfl) rfl
theorem q955 : (Jvm.Cond.methodLink "BonnetValley" (367 : Nat) ({ cls := "BonnetValley$Order", name := "read", desc := "()V" } : Jvm.MethodName)) ∈ lw_all := lw_g (lw_at lw_m4 126 rfl) rfl
theorem q978 : (Jvm.Cond.methodLink "BonnetValley" (382 : Nat) ({ cls := "BonnetValley", name := "act", desc := "(CII)Z" } : Jvm.MethodName)) ∈ lw_all := lw_g (lw_at lw_m4 149 rfl) rfl
theorem q979 : (Jvm.Cond.privateMethod ({ cls := "BonnetValley", name := "act", desc := "(CII)Z" } : Jvm.MethodName)) ∈ lw_tbl := lw_at lw_m4 150 rfl
theorem q980 : (Jvm.Cond.instanceMethod ({ cls := "BonnetValley", name := "act", desc := "(CII)Z" } : Jvm.MethodName)) ∈ lw_all := lw_g (lw_at lw_m4 151 rfl) rfl
theorem q981 : (Jvm.Cond.code ({ cls := "BonnetValley", name := "act", desc := "(CII)Z" } : Jvm.MethodName) prog_1_method_56_code (4 : Nat) (Option.some Jvm.ClassFile.FieldType.boolean)) ∈ lw_all := lw_g (lw_at lw_m4 152 rfl) rfl
theorem q983 : (Jvm.Cond.instanceMethod ({ cls := "BonnetValley", name := "undo", desc := "()I" } : Jvm.MethodName)) ∈ lw_all := lw_g (lw_at lw_m4 154 rfl) rfl
theorem q984 : (Jvm.Cond.selects "BonnetValley" ({ cls := "BonnetValley", name := "undo", desc := "()I" } : Jvm.MethodName) ({ cls := "BonnetValley", name := "undo", desc := "()I" } : Jvm.MethodName)) ∈ lw_all := lw_g (lw_at lw_m4 155 rfl) rfl
theorem q985 : (Jvm.Cond.code ({ cls := "BonnetValley", name := "undo", desc := "()I" } : Jvm.MethodName) prog_1_method_57_code (1 : Nat) (Option.some Jvm.ClassFile.FieldType.int)) ∈ lw_all := lw_g (lw_at lw_m4 156 rfl) rfl
theorem q987 : (Jvm.Cond.instanceMethod ({ cls := "BonnetValley", name := "sees", desc := "(I)J" } : Jvm.MethodName)) ∈ lw_all := lw_g (lw_at lw_m4 158 rfl) rfl
theorem q988 : (Jvm.Cond.selects "BonnetValley" ({ cls := "BonnetValley", name := "sees", desc := "(I)J" } : Jvm.MethodName) ({ cls := "BonnetValley", name := "sees", desc := "(I)J" } : Jvm.MethodName)) ∈ lw_all := lw_g (lw_at lw_m4 159 rfl) rfl
theorem q989 : (Jvm.Cond.code ({ cls := "BonnetValley", name := "sees", desc := "(I)J" } : Jvm.MethodName) prog_1_method_58_code (4 : Nat) (Option.some Jvm.ClassFile.FieldType.long)) ∈ lw_all := lw_g (lw_at lw_m4 160 rfl) rfl
theorem q990 : (Jvm.Cond.constantLong "BonnetValley" (156 : Nat) (-1 : Int64)) ∈ lw_all := lw_g (lw_at lw_m4 161 rfl) rfl
theorem q991 : (Jvm.Cond.methodLink "BonnetValley" (386 : Nat) ({ cls := "BonnetValley$Look", name := "fields", desc := "(LBonnetValley$Upland;I)J" } : Jvm.MethodName)) ∈ lw_all := lw_g (lw_at lw_m4 162 rfl) rfl
theorem q1002 : (Jvm.Cond.methodLink "BonnetValley" (389 : Nat) ({ cls := "java/lang/Long", name := "bitCount", desc := "(J)I" } : Jvm.MethodName)) ∈ lw_all := lw_g (lw_at lw_m4 173 rfl) rfl
theorem q1008 : (Jvm.Cond.methodLink "BonnetValley" (394 : Nat) ({ cls := "BonnetValley", name := "peopleOn", desc := "(LBonnetValley$Upland;J)I" } : Jvm.MethodName)) ∈ lw_all := lw_g (lw_at lw_m4 179 rfl) rfl
theorem q1010 : (Jvm.Cond.instanceMethod ({ cls := "BonnetValley", name := "seers", desc := "(I)I" } : Jvm.MethodName)) ∈ lw_all := lw_g (lw_at lw_m4 181 rfl) rfl
theorem q1011 : (Jvm.Cond.selects "BonnetValley" ({ cls := "BonnetValley", name := "seers", desc := "(I)I" } : Jvm.MethodName) ({ cls := "BonnetValley", name := "seers", desc := "(I)I" } : Jvm.MethodName)) ∈ lw_all := lw_g (lw_at lw_m4 182 rfl) rfl
theorem q1012 : (Jvm.Cond.code ({ cls := "BonnetValley", name := "seers", desc := "(I)I" } : Jvm.MethodName) prog_1_method_59_code (3 : Nat) (Option.some Jvm.ClassFile.FieldType.int)) ∈ lw_all := lw_g (lw_at lw_m4 183 rfl) rfl
theorem q1013 : (Jvm.Cond.methodLink "BonnetValley" (270 : Nat) ({ cls := "BonnetValley", name := "seersOf", desc := "(LBonnetValley$Upland;I)I" } : Jvm.MethodName)) ∈ lw_all := lw_g (lw_at lw_m4 184 rfl) rfl
theorem q1014 : (Jvm.Cond.privateMethod ({ cls := "BonnetValley", name := "seersOf", desc := "(LBonnetValley$Upland;I)I" } : Jvm.MethodName)) ∈ lw_tbl := lw_at lw_m4 185 rfl
theorem q1015 : (Jvm.Cond.instanceMethod ({ cls := "BonnetValley", name := "seersOf", desc := "(LBonnetValley$Upland;I)I" } : Jvm.MethodName)) ∈ lw_all := lw_g (lw_at lw_m4 186 rfl) rfl
theorem q1016 : (Jvm.Cond.code ({ cls := "BonnetValley", name := "seersOf", desc := "(LBonnetValley$Upland;I)I" } : Jvm.MethodName) prog_1_method_30_code (5 : Nat) (Option.some Jvm.ClassFile.FieldType.int)) ∈ lw_all := lw_g (lw_at lw_m4 187 rfl) rfl
theorem q1017 : (Jvm.Cond.methodLink "BonnetValley" (398 : Nat) ({ cls := "BonnetValley", name := "thingsOn", desc := "(J)I" } : Jvm.MethodName)) ∈ lw_all := lw_g (lw_at lw_m4 188 rfl) rfl
theorem q1018 : (Jvm.Cond.privateMethod ({ cls := "BonnetValley", name := "thingsOn", desc := "(J)I" } : Jvm.MethodName)) ∈ lw_tbl := lw_at lw_m4 189 rfl
theorem q1019 : (Jvm.Cond.instanceMethod ({ cls := "BonnetValley", name := "thingsOn", desc := "(J)I" } : Jvm.MethodName)) ∈ lw_all := lw_g (lw_at lw_m4 190 rfl) rfl
theorem q1020 : (Jvm.Cond.code ({ cls := "BonnetValley", name := "thingsOn", desc := "(J)I" } : Jvm.MethodName) prog_1_method_29_code (5 : Nat) (Option.some Jvm.ClassFile.FieldType.int)) ∈ lw_all := lw_g (lw_at lw_m4 191 rfl) rfl
theorem q1022 : (Jvm.Cond.instanceMethod ({ cls := "BonnetValley", name := "hidden", desc := "()J" } : Jvm.MethodName)) ∈ lw_all := lw_g (lw_at lw_m4 193 rfl) rfl
theorem q1023 : (Jvm.Cond.selects "BonnetValley" ({ cls := "BonnetValley", name := "hidden", desc := "()J" } : Jvm.MethodName) ({ cls := "BonnetValley", name := "hidden", desc := "()J" } : Jvm.MethodName)) ∈ lw_all := lw_g (lw_at lw_m4 194 rfl) rfl
theorem q1024 : (Jvm.Cond.code ({ cls := "BonnetValley", name := "hidden", desc := "()J" } : Jvm.MethodName) prog_1_method_61_code (3 : Nat) (Option.some Jvm.ClassFile.FieldType.long)) ∈ lw_all := lw_g (lw_at lw_m4 195 rfl) rfl
theorem q1025 : (Jvm.Cond.methodLink "BonnetValley" (401 : Nat) ({ cls := "BonnetValley", name := "open", desc := "()J" } : Jvm.MethodName)) ∈ lw_all := lw_g (lw_at lw_m4 196 rfl) rfl
theorem q1026 : (Jvm.Cond.privateMethod ({ cls := "BonnetValley", name := "open", desc := "()J" } : Jvm.MethodName)) ∈ lw_tbl := lw_at lw_m4 197 rfl
theorem q1027 : (Jvm.Cond.instanceMethod ({ cls := "BonnetValley", name := "open", desc := "()J" } : Jvm.MethodName)) ∈ lw_all := lw_g (lw_at lw_m4 198 rfl) rfl
theorem q1028 : (Jvm.Cond.code ({ cls := "BonnetValley", name := "open", desc := "()J" } : Jvm.MethodName) prog_1_method_15_code (1 : Nat) (Option.some Jvm.ClassFile.FieldType.long)) ∈ lw_all := lw_g (lw_at lw_m4 199 rfl) rfl
theorem q1029 : (Jvm.Cond.methodLink "BonnetValley" (405 : Nat) ({ cls := "BonnetValley", name := "seen", desc := "(LBonnetValley$Upland;)J" } : Jvm.MethodName)) ∈ lw_all := lw_g (lw_at lw_m4 200 rfl) rfl
theorem q1030 : (Jvm.Cond.privateMethod ({ cls := "BonnetValley", name := "seen", desc := "(LBonnetValley$Upland;)J" } : Jvm.MethodName)) ∈ lw_tbl := lw_at lw_m4 201 rfl
theorem q1031 : (Jvm.Cond.instanceMethod ({ cls := "BonnetValley", name := "seen", desc := "(LBonnetValley$Upland;)J" } : Jvm.MethodName)) ∈ lw_all := lw_g (lw_at lw_m4 202 rfl) rfl
theorem q1032 : (Jvm.Cond.code ({ cls := "BonnetValley", name := "seen", desc := "(LBonnetValley$Upland;)J" } : Jvm.MethodName) prog_1_method_60_code (5 : Nat) (Option.some Jvm.ClassFile.FieldType.long)) ∈ lw_all := lw_g (lw_at lw_m4 203 rfl) rfl
theorem q1034 : (Jvm.Cond.instanceMethod ({ cls := "BonnetValley", name := "pairs", desc := "()I" } : Jvm.MethodName)) ∈ lw_all := lw_g (lw_at lw_m4 205 rfl) rfl
theorem q1035 : (Jvm.Cond.selects "BonnetValley" ({ cls := "BonnetValley", name := "pairs", desc := "()I" } : Jvm.MethodName) ({ cls := "BonnetValley", name := "pairs", desc := "()I" } : Jvm.MethodName)) ∈ lw_all := lw_g (lw_at lw_m4 206 rfl) rfl
theorem q1036 : (Jvm.Cond.code ({ cls := "BonnetValley", name := "pairs", desc := "()I" } : Jvm.MethodName) prog_1_method_62_code (7 : Nat) (Option.some Jvm.ClassFile.FieldType.int)) ∈ lw_all := lw_g (lw_at lw_m4 207 rfl) rfl
theorem q1038 : (Jvm.Cond.instanceMethod ({ cls := "BonnetValley", name := "behind", desc := "(I)I" } : Jvm.MethodName)) ∈ lw_all := lw_g (lw_at lw_m4 209 rfl) rfl
theorem q1039 : (Jvm.Cond.selects "BonnetValley" ({ cls := "BonnetValley", name := "behind", desc := "(I)I" } : Jvm.MethodName) ({ cls := "BonnetValley", name := "behind", desc := "(I)I" } : Jvm.MethodName)) ∈ lw_all := lw_g (lw_at lw_m4 210 rfl) rfl
theorem q1040 : (Jvm.Cond.code ({ cls := "BonnetValley", name := "behind", desc := "(I)I" } : Jvm.MethodName) prog_1_method_63_code (4 : Nat) (Option.some Jvm.ClassFile.FieldType.int)) ∈ lw_all := lw_g (lw_at lw_m4 211 rfl) rfl
theorem q1042 : (Jvm.Cond.instanceMethod ({ cls := "BonnetValley", name := "widest", desc := "()I" } : Jvm.MethodName)) ∈ lw_all := lw_g (lw_at lw_m4 213 rfl) rfl
theorem q1043 : (Jvm.Cond.selects "BonnetValley" ({ cls := "BonnetValley", name := "widest", desc := "()I" } : Jvm.MethodName) ({ cls := "BonnetValley", name := "widest", desc := "()I" } : Jvm.MethodName)) ∈ lw_all := lw_g (lw_at lw_m4 214 rfl) rfl
theorem q1044 : (Jvm.Cond.code ({ cls := "BonnetValley", name := "widest", desc := "()I" } : Jvm.MethodName) prog_1_method_65_code (4 : Nat) (Option.some Jvm.ClassFile.FieldType.int)) ∈ lw_all := lw_g (lw_at lw_m4 215 rfl) rfl
theorem q1045 : (Jvm.Cond.methodLink "BonnetValley" (409 : Nat) ({ cls := "BonnetValley", name := "wide", desc := "(I)I" } : Jvm.MethodName)) ∈ lw_all := lw_g (lw_at lw_m4 216 rfl) rfl
theorem q1046 : (Jvm.Cond.privateMethod ({ cls := "BonnetValley", name := "wide", desc := "(I)I" } : Jvm.MethodName)) ∈ lw_tbl := lw_at lw_m4 217 rfl
theorem q1047 : (Jvm.Cond.instanceMethod ({ cls := "BonnetValley", name := "wide", desc := "(I)I" } : Jvm.MethodName)) ∈ lw_all := lw_g (lw_at lw_m4 218 rfl) rfl
theorem q1048 : (Jvm.Cond.code ({ cls := "BonnetValley", name := "wide", desc := "(I)I" } : Jvm.MethodName) prog_1_method_64_code (2 : Nat) (Option.some Jvm.ClassFile.FieldType.int)) ∈ lw_all := lw_g (lw_at lw_m4 219 rfl) rfl
theorem q1050 : (Jvm.Cond.instanceMethod ({ cls := "BonnetValley", name := "watch", desc := "()I" } : Jvm.MethodName)) ∈ lw_all := lw_g (lw_at lw_m4 221 rfl) rfl
theorem q1051 : (Jvm.Cond.selects "BonnetValley" ({ cls := "BonnetValley", name := "watch", desc := "()I" } : Jvm.MethodName) ({ cls := "BonnetValley", name := "watch", desc := "()I" } : Jvm.MethodName)) ∈ lw_all := lw_g (lw_at lw_m4 222 rfl) rfl
theorem q1052 : (Jvm.Cond.code ({ cls := "BonnetValley", name := "watch", desc := "()I" } : Jvm.MethodName) prog_1_method_66_code (8 : Nat) (Option.some Jvm.ClassFile.FieldType.int)) ∈ lw_all := lw_g (lw_at lw_m4 223 rfl) rfl
theorem q1053 : (Jvm.Cond.methodLink "BonnetValley" (412 : Nat) ({ cls := "BonnetValley", name := "allMen", desc := "()I" } : Jvm.MethodName)) ∈ lw_all := lw_g (lw_at lw_m4 224 rfl) rfl
theorem q1054 : (Jvm.Cond.privateMethod ({ cls := "BonnetValley", name := "allMen", desc := "()I" } : Jvm.MethodName)) ∈ lw_tbl := lw_at lw_m4 225 rfl
theorem q1055 : (Jvm.Cond.instanceMethod ({ cls := "BonnetValley", name := "allMen", desc := "()I" } : Jvm.MethodName)) ∈ lw_all := lw_g (lw_at lw_m4 226 rfl) rfl
theorem q1056 : (Jvm.Cond.code ({ cls := "BonnetValley", name := "allMen", desc := "()I" } : Jvm.MethodName) prog_1_method_13_code (1 : Nat) (Option.some Jvm.ClassFile.FieldType.int)) ∈ lw_all := lw_g (lw_at lw_m4 227 rfl) rfl
theorem q1058 : (Jvm.Cond.instanceMethod ({ cls := "BonnetValley", name := "learns", desc := "(II)I" } : Jvm.MethodName)) ∈ lw_all := lw_g (lw_at lw_m4 229 rfl) rfl
theorem q1059 : (Jvm.Cond.selects "BonnetValley" ({ cls := "BonnetValley", name := "learns", desc := "(II)I" } : Jvm.MethodName) ({ cls := "BonnetValley", name := "learns", desc := "(II)I" } : Jvm.MethodName)) ∈ lw_all := lw_g (lw_at lw_m4 230 rfl) rfl
theorem q1060 : (Jvm.Cond.code ({ cls := "BonnetValley", name := "learns", desc := "(II)I" } : Jvm.MethodName) prog_1_method_67_code (4 : Nat) (Option.some Jvm.ClassFile.FieldType.int)) ∈ lw_all := lw_g (lw_at lw_m4 231 rfl) rfl
theorem q1061 : (Jvm.Cond.methodLink "BonnetValley" (267 : Nat) ({ cls := "BonnetValley", name := "knowersOf", desc := "(LBonnetValley$Upland;I)I" } : Jvm.MethodName)) ∈ lw_all := lw_g (lw_at lw_m4 232 rfl) rfl
theorem q1062 : (Jvm.Cond.privateMethod ({ cls := "BonnetValley", name := "knowersOf", desc := "(LBonnetValley$Upland;I)I" } : Jvm.MethodName)) ∈ lw_tbl := lw_at lw_m4 233 rfl
theorem q1063 : (Jvm.Cond.instanceMethod ({ cls := "BonnetValley", name := "knowersOf", desc := "(LBonnetValley$Upland;I)I" } : Jvm.MethodName)) ∈ lw_all := lw_g (lw_at lw_m4 234 rfl) rfl
theorem q1064 : (Jvm.Cond.code ({ cls := "BonnetValley", name := "knowersOf", desc := "(LBonnetValley$Upland;I)I" } : Jvm.MethodName) prog_1_method_32_code (5 : Nat) (Option.some Jvm.ClassFile.FieldType.int)) ∈ lw_all := lw_g (lw_at lw_m4 235 rfl) rfl
theorem q1066 : (Jvm.Cond.instanceMethod ({ cls := "BonnetValley", name := "all", desc := "()I" } : Jvm.MethodName)) ∈ lw_all := lw_g (lw_at lw_m4 237 rfl) rfl
theorem q1067 : (Jvm.Cond.selects "BonnetValley" ({ cls := "BonnetValley", name := "all", desc := "()I" } : Jvm.MethodName) ({ cls := "BonnetValley", name := "all", desc := "()I" } : Jvm.MethodName)) ∈ lw_all := lw_g (lw_at lw_m4 238 rfl) rfl
theorem q1068 : (Jvm.Cond.code ({ cls := "BonnetValley", name := "all", desc := "()I" } : Jvm.MethodName) prog_1_method_69_code (4 : Nat) (Option.some Jvm.ClassFile.FieldType.int)) ∈ lw_all := lw_g (lw_at lw_m4 239 rfl) rfl
theorem q1069 : (Jvm.Cond.methodLink "BonnetValley" (418 : Nat) ({ cls := "BonnetValley", name := "lacking", desc := "(LBonnetValley$Upland;)I" } : Jvm.MethodName)) ∈ lw_all := lw_g (lw_at lw_m5 0 rfl) rfl
theorem q1070 : (Jvm.Cond.privateMethod ({ cls := "BonnetValley", name := "lacking", desc := "(LBonnetValley$Upland;)I" } : Jvm.MethodName)) ∈ lw_tbl := lw_at lw_m5 1 rfl
theorem q1071 : (Jvm.Cond.instanceMethod ({ cls := "BonnetValley", name := "lacking", desc := "(LBonnetValley$Upland;)I" } : Jvm.MethodName)) ∈ lw_all := lw_g (lw_at lw_m5 2 rfl) rfl
theorem q1072 : (Jvm.Cond.code ({ cls := "BonnetValley", name := "lacking", desc := "(LBonnetValley$Upland;)I" } : Jvm.MethodName) prog_1_method_68_code (3 : Nat) (Option.some Jvm.ClassFile.FieldType.int)) ∈ lw_all := lw_g (lw_at lw_m5 3 rfl) rfl
theorem q1073 : (Jvm.Cond.methodLink "BonnetValley" (415 : Nat) ({ cls := "BonnetValley", name := "allThings", desc := "()I" } : Jvm.MethodName)) ∈ lw_all := lw_g (lw_at lw_m5 4 rfl) rfl
theorem q1074 : (Jvm.Cond.privateMethod ({ cls := "BonnetValley", name := "allThings", desc := "()I" } : Jvm.MethodName)) ∈ lw_tbl := lw_at lw_m5 5 rfl
theorem q1075 : (Jvm.Cond.instanceMethod ({ cls := "BonnetValley", name := "allThings", desc := "()I" } : Jvm.MethodName)) ∈ lw_all := lw_g (lw_at lw_m5 6 rfl) rfl
theorem q1076 : (Jvm.Cond.code ({ cls := "BonnetValley", name := "allThings", desc := "()I" } : Jvm.MethodName) prog_1_method_14_code (1 : Nat) (Option.some Jvm.ClassFile.FieldType.int)) ∈ lw_all := lw_g (lw_at lw_m5 7 rfl) rfl
theorem q1078 : (Jvm.Cond.instanceMethod ({ cls := "BonnetValley", name := "ahead", desc := "(I)I" } : Jvm.MethodName)) ∈ lw_all := lw_g (lw_at lw_m5 9 rfl) rfl
theorem q1079 : (Jvm.Cond.selects "BonnetValley" ({ cls := "BonnetValley", name := "ahead", desc := "(I)I" } : Jvm.MethodName) ({ cls := "BonnetValley", name := "ahead", desc := "(I)I" } : Jvm.MethodName)) ∈ lw_all := lw_g (lw_at lw_m5 10 rfl) rfl
theorem q1080 : (Jvm.Cond.code ({ cls := "BonnetValley", name := "ahead", desc := "(I)I" } : Jvm.MethodName) prog_1_method_70_code (3 : Nat) (Option.some Jvm.ClassFile.FieldType.int)) ∈ lw_all := lw_g (lw_at lw_m5 11 rfl) rfl
theorem q1081 : (Jvm.Cond.constantLong "BonnetValley" (421 : Nat) (99 : Int64)) ∈ lw_all := lw_g (lw_at lw_m5 12 rfl) rfl
theorem q1083 : (Jvm.Cond.instanceMethod ({ cls := "BonnetValley", name := "gossip", desc := "(I)I" } : Jvm.MethodName)) ∈ lw_all := lw_g (lw_at lw_m5 14 rfl) rfl
theorem q1084 : (Jvm.Cond.selects "BonnetValley" ({ cls := "BonnetValley", name := "gossip", desc := "(I)I" } : Jvm.MethodName) ({ cls := "BonnetValley", name := "gossip", desc := "(I)I" } : Jvm.MethodName)) ∈ lw_all := lw_g (lw_at lw_m5 15 rfl) rfl
theorem q1085 : (Jvm.Cond.code ({ cls := "BonnetValley", name := "gossip", desc := "(I)I" } : Jvm.MethodName) prog_1_method_71_code (7 : Nat) (Option.some Jvm.ClassFile.FieldType.int)) ∈ lw_all := lw_g (lw_at lw_m5 16 rfl) rfl
theorem q1087 : (Jvm.Cond.instanceMethod ({ cls := "BonnetValley", name := "eighths", desc := "(II)I" } : Jvm.MethodName)) ∈ lw_all := lw_g (lw_at lw_m5 18 rfl) rfl
theorem q1088 : (Jvm.Cond.selects "BonnetValley" ({ cls := "BonnetValley", name := "eighths", desc := "(II)I" } : Jvm.MethodName) ({ cls := "BonnetValley", name := "eighths", desc := "(II)I" } : Jvm.MethodName)) ∈ lw_all := lw_g (lw_at lw_m5 19 rfl) rfl
theorem q1089 : (Jvm.Cond.code ({ cls := "BonnetValley", name := "eighths", desc := "(II)I" } : Jvm.MethodName) prog_1_method_72_code (5 : Nat) (Option.some Jvm.ClassFile.FieldType.int)) ∈ lw_all := lw_g (lw_at lw_m5 20 rfl) rfl
theorem q1090 : (Jvm.Cond.methodLink "BonnetValley" (423 : Nat) ({ cls := "BonnetValley$Turned", name := "to", desc := "(I)LBonnetValley$Turned;" } : Jvm.MethodName)) ∈ lw_all := lw_g (lw_at lw_m5 21 rfl) rfl
theorem q1094 : (Jvm.Cond.methodLink "BonnetValley" (427 : Nat) ({ cls := "BonnetValley$Turned", name := "sees", desc := "(LBonnetValley$Upland;II)Z" } : Jvm.MethodName)) ∈ lw_all := lw_g (lw_at lw_m5 25 rfl) rfl
theorem q1099 : (Jvm.Cond.instanceMethod ({ cls := "BonnetValley", name := "turned", desc := "()I" } : Jvm.MethodName)) ∈ lw_all := lw_g (lw_at lw_m5 30 rfl) rfl
theorem q1100 : (Jvm.Cond.selects "BonnetValley" ({ cls := "BonnetValley", name := "turned", desc := "()I" } : Jvm.MethodName) ({ cls := "BonnetValley", name := "turned", desc := "()I" } : Jvm.MethodName)) ∈ lw_all := lw_g (lw_at lw_m5 31 rfl) rfl
theorem q1101 : (Jvm.Cond.code ({ cls := "BonnetValley", name := "turned", desc := "()I" } : Jvm.MethodName) prog_1_method_74_code (4 : Nat) (Option.some Jvm.ClassFile.FieldType.int)) ∈ lw_all := lw_g (lw_at lw_m5 32 rfl) rfl
theorem q1102 : (Jvm.Cond.methodLink "BonnetValley" (428 : Nat) ({ cls := "BonnetValley$Turned", name := "things", desc := "(LBonnetValley$Upland;I)I" } : Jvm.MethodName)) ∈ lw_all := lw_g (lw_at lw_m5 33 rfl) rfl
theorem q1106 : (Jvm.Cond.constant "BonnetValley" (429 : Nat) (1000000 : Int32)) ∈ lw_all := lw_g (lw_at lw_m5 37 rfl) rfl
theorem q1107 : (Jvm.Cond.methodLink "BonnetValley" (430 : Nat) ({ cls := "BonnetValley", name := "cost", desc := "(II)I" } : Jvm.MethodName)) ∈ lw_all := lw_g (lw_at lw_m5 38 rfl) rfl
theorem q1108 : (Jvm.Cond.privateMethod ({ cls := "BonnetValley", name := "cost", desc := "(II)I" } : Jvm.MethodName)) ∈ lw_tbl := lw_at lw_m5 39 rfl
theorem q1109 : (Jvm.Cond.instanceMethod ({ cls := "BonnetValley", name := "cost", desc := "(II)I" } : Jvm.MethodName)) ∈ lw_all := lw_g (lw_at lw_m5 40 rfl) rfl
theorem q1110 : (Jvm.Cond.code ({ cls := "BonnetValley", name := "cost", desc := "(II)I" } : Jvm.MethodName) prog_1_method_73_code (3 : Nat) (Option.some Jvm.ClassFile.FieldType.int)) ∈ lw_all := lw_g (lw_at lw_m5 41 rfl) rfl
theorem q1112 : (Jvm.Cond.instanceMethod ({ cls := "BonnetValley", name := "best", desc := "(I)I" } : Jvm.MethodName)) ∈ lw_all := lw_g (lw_at lw_m5 43 rfl) rfl
theorem q1113 : (Jvm.Cond.selects "BonnetValley" ({ cls := "BonnetValley", name := "best", desc := "(I)I" } : Jvm.MethodName) ({ cls := "BonnetValley", name := "best", desc := "(I)I" } : Jvm.MethodName)) ∈ lw_all := lw_g (lw_at lw_m5 44 rfl) rfl
theorem q1114 : (Jvm.Cond.code ({ cls := "BonnetValley", name := "best", desc := "(I)I" } : Jvm.MethodName) prog_1_method_75_code (6 : Nat) (Option.some Jvm.ClassFile.FieldType.int)) ∈ lw_all := lw_g (lw_at lw_m5 45 rfl) rfl
theorem q1116 : (Jvm.Cond.instanceMethod ({ cls := "BonnetValley", name := "bears", desc := "(II)I" } : Jvm.MethodName)) ∈ lw_all := lw_g (lw_at lw_m5 47 rfl) rfl
theorem q1117 : (Jvm.Cond.selects "BonnetValley" ({ cls := "BonnetValley", name := "bears", desc := "(II)I" } : Jvm.MethodName) ({ cls := "BonnetValley", name := "bears", desc := "(II)I" } : Jvm.MethodName)) ∈ lw_all := lw_g (lw_at lw_m5 48 rfl) rfl
theorem q1118 : (Jvm.Cond.code ({ cls := "BonnetValley", name := "bears", desc := "(II)I" } : Jvm.MethodName) prog_1_method_76_code (4 : Nat) (Option.some Jvm.ClassFile.FieldType.int)) ∈ lw_all := lw_g (lw_at lw_m5 49 rfl) rfl
theorem q1119 : (Jvm.Cond.methodLink "BonnetValley" (433 : Nat) ({ cls := "BonnetValley$Trimmed", name := "to", desc := "(I)LBonnetValley$Trimmed;" } : Jvm.MethodName)) ∈ lw_all := lw_g (lw_at lw_m5 50 rfl) rfl
theorem q1123 : (Jvm.Cond.methodLink "BonnetValley" (436 : Nat) ({ cls := "BonnetValley$Trimmed", name := "sees", desc := "(LBonnetValley$Upland;II)Z" } : Jvm.MethodName)) ∈ lw_all := lw_g (lw_at lw_m5 54 rfl) rfl
theorem q1126 : (Jvm.Cond.methodLink "BonnetValley" (437 : Nat) ({ cls := "BonnetValley", name := "reachBy", desc := "(LBonnetValley$Upland;II)I" } : Jvm.MethodName)) ∈ lw_all := lw_g (lw_at lw_m5 57 rfl) rfl
theorem q1128 : (Jvm.Cond.instanceMethod ({ cls := "BonnetValley", name := "back", desc := "(II)I" } : Jvm.MethodName)) ∈ lw_all := lw_g (lw_at lw_m5 59 rfl) rfl
theorem q1129 : (Jvm.Cond.selects "BonnetValley" ({ cls := "BonnetValley", name := "back", desc := "(II)I" } : Jvm.MethodName) ({ cls := "BonnetValley", name := "back", desc := "(II)I" } : Jvm.MethodName)) ∈ lw_all := lw_g (lw_at lw_m5 60 rfl) rfl
theorem q1130 : (Jvm.Cond.code ({ cls := "BonnetValley", name := "back", desc := "(II)I" } : Jvm.MethodName) prog_1_method_79_code (3 : Nat) (Option.some Jvm.ClassFile.FieldType.int)) ∈ lw_all := lw_g (lw_at lw_m5 61 rfl) rfl
theorem q1131 : (Jvm.Cond.methodLink "BonnetValley" (446 : Nat) ({ cls := "BonnetValley", name := "lay", desc := "(IIJ)V" } : Jvm.MethodName)) ∈ lw_all := lw_g (lw_at lw_m5 62 rfl) rfl
theorem q1132 : (Jvm.Cond.privateMethod ({ cls := "BonnetValley", name := "lay", desc := "(IIJ)V" } : Jvm.MethodName)) ∈ lw_tbl := lw_at lw_m5 63 rfl
theorem q1133 : (Jvm.Cond.instanceMethod ({ cls := "BonnetValley", name := "lay", desc := "(IIJ)V" } : Jvm.MethodName)) ∈ lw_all := lw_g (lw_at lw_m5 64 rfl) rfl
theorem q1134 : (Jvm.Cond.code ({ cls := "BonnetValley", name := "lay", desc := "(IIJ)V" } : Jvm.MethodName) prog_1_method_77_code (8 : Nat) (Option.none : Option Jvm.ClassFile.FieldType)) ∈ lw_all := lw_g (lw_at lw_m5 65 rfl) rfl
theorem q1135 : (Jvm.Cond.methodLink "BonnetValley" (440 : Nat) ({ cls := "java/util/Arrays", name := "fill", desc := "([II)V" } : Jvm.MethodName)) ∈ lw_all := lw_g (lw_at lw_m5 66 rfl) rfl
theorem q1138 : (Jvm.Cond.methodLink "BonnetValley" (450 : Nat) ({ cls := "BonnetValley", name := "tellWay", desc := "(II)V" } : Jvm.MethodName)) ∈ lw_all := lw_g (lw_at lw_m5 69 rfl) rfl
theorem q1139 : (Jvm.Cond.privateMethod ({ cls := "BonnetValley", name := "tellWay", desc := "(II)V" } : Jvm.MethodName)) ∈ lw_tbl := lw_at lw_m5 70 rfl
theorem q1140 : (Jvm.Cond.instanceMethod ({ cls := "BonnetValley", name := "tellWay", desc := "(II)V" } : Jvm.MethodName)) ∈ lw_all := lw_g (lw_at lw_m5 71 rfl) rfl
theorem q1141 : (Jvm.Cond.code ({ cls := "BonnetValley", name := "tellWay", desc := "(II)V" } : Jvm.MethodName) prog_1_method_78_code (7 : Nat) (Option.none : Option Jvm.ClassFile.FieldType)) ∈ lw_all := lw_g (lw_at lw_m5 72 rfl) rfl
theorem q1143 : (Jvm.Cond.instanceMethod ({ cls := "BonnetValley", name := "open", desc := "(II)I" } : Jvm.MethodName)) ∈ lw_all := lw_g (lw_at lw_m5 74 rfl) rfl
theorem q1144 : (Jvm.Cond.selects "BonnetValley" ({ cls := "BonnetValley", name := "open", desc := "(II)I" } : Jvm.MethodName) ({ cls := "BonnetValley", name := "open", desc := "(II)I" } : Jvm.MethodName)) ∈ lw_all := lw_g (lw_at lw_m5 75 rfl) rfl
theorem q1145 : (Jvm.Cond.code ({ cls := "BonnetValley", name := "open", desc := "(II)I" } : Jvm.MethodName) prog_1_method_80_code (7 : Nat) (Option.some Jvm.ClassFile.FieldType.int)) ∈ lw_all := lw_g (lw_at lw_m5 76 rfl) rfl
theorem q1147 : (Jvm.Cond.instanceMethod ({ cls := "BonnetValley", name := "heard", desc := "(II)I" } : Jvm.MethodName)) ∈ lw_all := lw_g (lw_at lw_m5 78 rfl) rfl
theorem q1148 : (Jvm.Cond.selects "BonnetValley" ({ cls := "BonnetValley", name := "heard", desc := "(II)I" } : Jvm.MethodName) ({ cls := "BonnetValley", name := "heard", desc := "(II)I" } : Jvm.MethodName)) ∈ lw_all := lw_g (lw_at lw_m5 79 rfl) rfl
theorem q1149 : (Jvm.Cond.code ({ cls := "BonnetValley", name := "heard", desc := "(II)I" } : Jvm.MethodName) prog_1_method_81_code (3 : Nat) (Option.some Jvm.ClassFile.FieldType.int)) ∈ lw_all := lw_g (lw_at lw_m5 80 rfl) rfl
theorem q1151 : (Jvm.Cond.instanceMethod ({ cls := "BonnetValley", name := "forget", desc := "()I" } : Jvm.MethodName)) ∈ lw_all := lw_g (lw_at lw_m5 82 rfl) rfl
theorem q1152 : (Jvm.Cond.selects "BonnetValley" ({ cls := "BonnetValley", name := "forget", desc := "()I" } : Jvm.MethodName) ({ cls := "BonnetValley", name := "forget", desc := "()I" } : Jvm.MethodName)) ∈ lw_all := lw_g (lw_at lw_m5 83 rfl) rfl
theorem q1153 : (Jvm.Cond.code ({ cls := "BonnetValley", name := "forget", desc := "()I" } : Jvm.MethodName) prog_1_method_82_code (2 : Nat) (Option.some Jvm.ClassFile.FieldType.int)) ∈ lw_all := lw_g (lw_at lw_m5 84 rfl) rfl
theorem q1155 : (Jvm.Cond.instanceMethod ({ cls := "BonnetValley", name := "lost", desc := "()J" } : Jvm.MethodName)) ∈ lw_all := lw_g (lw_at lw_m5 86 rfl) rfl
theorem q1156 : (Jvm.Cond.selects "BonnetValley" ({ cls := "BonnetValley", name := "lost", desc := "()J" } : Jvm.MethodName) ({ cls := "BonnetValley", name := "lost", desc := "()J" } : Jvm.MethodName)) ∈ lw_all := lw_g (lw_at lw_m5 87 rfl) rfl
theorem q1157 : (Jvm.Cond.code ({ cls := "BonnetValley", name := "lost", desc := "()J" } : Jvm.MethodName) prog_1_method_84_code (3 : Nat) (Option.some Jvm.ClassFile.FieldType.long)) ∈ lw_all := lw_g (lw_at lw_m5 88 rfl) rfl
theorem q1158 : (Jvm.Cond.methodLink "BonnetValley" (457 : Nat) ({ cls := "BonnetValley", name := "lostAt", desc := "()J" } : Jvm.MethodName)) ∈ lw_all := lw_g (lw_at lw_m5 89 rfl) rfl
theorem q1159 : (Jvm.Cond.privateMethod ({ cls := "BonnetValley", name := "lostAt", desc := "()J" } : Jvm.MethodName)) ∈ lw_tbl := lw_at lw_m5 90 rfl
theorem q1160 : (Jvm.Cond.instanceMethod ({ cls := "BonnetValley", name := "lostAt", desc := "()J" } : Jvm.MethodName)) ∈ lw_all := lw_g (lw_at lw_m5 91 rfl) rfl
theorem q1161 : (Jvm.Cond.code ({ cls := "BonnetValley", name := "lostAt", desc := "()J" } : Jvm.MethodName) prog_1_method_83_code (6 : Nat) (Option.some Jvm.ClassFile.FieldType.long)) ∈ lw_all := lw_g (lw_at lw_m5 92 rfl) rfl
theorem q1163 : (Jvm.Cond.instanceMethod ({ cls := "BonnetValley", name := "asks", desc := "()I" } : Jvm.MethodName)) ∈ lw_all := lw_g (lw_at lw_m5 94 rfl) rfl
theorem q1164 : (Jvm.Cond.selects "BonnetValley" ({ cls := "BonnetValley", name := "asks", desc := "()I" } : Jvm.MethodName) ({ cls := "BonnetValley", name := "asks", desc := "()I" } : Jvm.MethodName)) ∈ lw_all := lw_g (lw_at lw_m5 95 rfl) rfl
theorem q1165 : (Jvm.Cond.code ({ cls := "BonnetValley", name := "asks", desc := "()I" } : Jvm.MethodName) prog_1_method_85_code (8 : Nat) (Option.some Jvm.ClassFile.FieldType.int)) ∈ lw_all := lw_g (lw_at lw_m5 96 rfl) rfl
theorem q1167 : (Jvm.Cond.instanceMethod ({ cls := "BonnetValley", name := "storm", desc := "(III)I" } : Jvm.MethodName)) ∈ lw_all := lw_g (lw_at lw_m5 98 rfl) rfl
theorem q1168 : (Jvm.Cond.selects "BonnetValley" ({ cls := "BonnetValley", name := "storm", desc := "(III)I" } : Jvm.MethodName) ({ cls := "BonnetValley", name := "storm", desc := "(III)I" } : Jvm.MethodName)) ∈ lw_all := lw_g (lw_at lw_m5 99 rfl) rfl
theorem q1169 : (Jvm.Cond.code ({ cls := "BonnetValley", name := "storm", desc := "(III)I" } : Jvm.MethodName) prog_1_method_87_code (11 : Nat) (Option.some Jvm.ClassFile.FieldType.int)) ∈ lw_all := lw_g (lw_at lw_m5 100 rfl) rfl
theorem q1170 : (Jvm.Cond.constantLong "BonnetValley" (464 : Nat) (8 : Int64)) ∈ lw_all := lw_g (lw_at lw_m5 101 rfl) rfl
theorem q1171 : (Jvm.Cond.constantLong "BonnetValley" (466 : Nat) (10 : Int64)) ∈ lw_all := lw_g (lw_at lw_m5 102 rfl) rfl
theorem q1172 : (Jvm.Cond.methodLink "BonnetValley" (460 : Nat) ({ cls := "BonnetValley", name := "common", desc := "(JJ)J" } : Jvm.MethodName)) ∈ lw_all := lw_g (lw_at lw_m5 103 rfl) rfl
theorem q1173 : (Jvm.Cond.static ({ cls := "BonnetValley", name := "common", desc := "(JJ)J" } : Jvm.MethodName)) ∈ lw_all := lw_g (lw_at lw_m5 104 rfl) rfl
theorem q1174 : (Jvm.Cond.code ({ cls := "BonnetValley", name := "common", desc := "(JJ)J" } : Jvm.MethodName) prog_1_method_86_code (4 : Nat) (Option.some Jvm.ClassFile.FieldType.long)) ∈ lw_all := lw_g (lw_at lw_m5 105 rfl) rfl
theorem q1176 : (Jvm.Cond.instanceMethod ({ cls := "BonnetValley", name := "cock", desc := "(II)I" } : Jvm.MethodName)) ∈ lw_all := lw_g (lw_at lw_m5 107 rfl) rfl
theorem q1177 : (Jvm.Cond.selects "BonnetValley" ({ cls := "BonnetValley", name := "cock", desc := "(II)I" } : Jvm.MethodName) ({ cls := "BonnetValley", name := "cock", desc := "(II)I" } : Jvm.MethodName)) ∈ lw_all := lw_g (lw_at lw_m5 108 rfl) rfl
theorem q1178 : (Jvm.Cond.code ({ cls := "BonnetValley", name := "cock", desc := "(II)I" } : Jvm.MethodName) prog_1_method_88_code (6 : Nat) (Option.some Jvm.ClassFile.FieldType.int)) ∈ lw_all := lw_g (lw_at lw_m5 109 rfl) rfl
theorem q1179 : (Jvm.Cond.constantLong "BonnetValley" (265 : Nat) (2 : Int64)) ∈ lw_all := lw_g (lw_at lw_m5 110 rfl) rfl
theorem q1180 : (Jvm.Cond.constantLong "BonnetValley" (468 : Nat) (9 : Int64)) ∈ lw_all := lw_g (lw_at lw_m5 111 rfl) rfl
theorem q1182 : (Jvm.Cond.instanceMethod ({ cls := "BonnetValley", name := "law", desc := "()I" } : Jvm.MethodName)) ∈ lw_all := lw_g (lw_at lw_m5 113 rfl) rfl
theorem q1183 : (Jvm.Cond.selects "BonnetValley" ({ cls := "BonnetValley", name := "law", desc := "()I" } : Jvm.MethodName) ({ cls := "BonnetValley", name := "law", desc := "()I" } : Jvm.MethodName)) ∈ lw_all := lw_g (lw_at lw_m5 114 rfl) rfl
theorem q1184 : (Jvm.Cond.codeWith ({ cls := "BonnetValley", name := "law", desc := "()I" } : Jvm.MethodName) prog_1_method_89_code (9 : Nat) (Option.some Jvm.ClassFile.FieldType.int) [((39 : Nat), (77 : Nat), (85 : Nat), (185 : Nat)), ((39 : Nat), (77 : Nat), (106 : Nat), (0 : Nat)), ((85 : Nat), (98 : Nat), (106 : Nat), (0 : Nat)), ((106 : Nat), (108 : Nat), (106 : Nat), (0 : Nat))]) ∈ lw_all := lw_g (lw_at lw_m5 115 rfl) rfl
theorem q1186 : (Jvm.Cond.instanceMethod ({ cls := "BonnetValley", name := "rests", desc := "(I)I" } : Jvm.MethodName)) ∈ lw_all := lw_g (lw_at lw_m5 117 rfl) rfl
theorem q1187 : (Jvm.Cond.selects "BonnetValley" ({ cls := "BonnetValley", name := "rests", desc := "(I)I" } : Jvm.MethodName) ({ cls := "BonnetValley", name := "rests", desc := "(I)I" } : Jvm.MethodName)) ∈ lw_all := lw_g (lw_at lw_m5 118 rfl) rfl
theorem q1188 : (Jvm.Cond.code ({ cls := "BonnetValley", name := "rests", desc := "(I)I" } : Jvm.MethodName) prog_1_method_92_code (5 : Nat) (Option.some Jvm.ClassFile.FieldType.int)) ∈ lw_all := lw_g (lw_at lw_m5 119 rfl) rfl
theorem q1189 : (Jvm.Cond.constantLong "BonnetValley" (474 : Nat) (20 : Int64)) ∈ lw_all := lw_g (lw_at lw_m5 120 rfl) rfl
theorem q1190 : (Jvm.Cond.methodLink "BonnetValley" (476 : Nat) ({ cls := "BonnetValley", name := "isBest", desc := "(III)Z" } : Jvm.MethodName)) ∈ lw_all := lw_g (lw_at lw_m5 121 rfl) rfl
theorem q1191 : (Jvm.Cond.static ({ cls := "BonnetValley", name := "isBest", desc := "(III)Z" } : Jvm.MethodName)) ∈ lw_all := lw_g (lw_at lw_m5 122 rfl) rfl
theorem q1192 : (Jvm.Cond.code ({ cls := "BonnetValley", name := "isBest", desc := "(III)Z" } : Jvm.MethodName) prog_1_method_91_code (4 : Nat) (Option.some Jvm.ClassFile.FieldType.boolean)) ∈ lw_all := lw_g (lw_at lw_m5 123 rfl) rfl
theorem q1193 : (Jvm.Cond.methodLink "BonnetValley" (470 : Nat) ({ cls := "BonnetValley", name := "gets", desc := "(III)I" } : Jvm.MethodName)) ∈ lw_all := lw_g (lw_at lw_m5 124 rfl) rfl
theorem q1194 : (Jvm.Cond.static ({ cls := "BonnetValley", name := "gets", desc := "(III)I" } : Jvm.MethodName)) ∈ lw_all := lw_g (lw_at lw_m5 125 rfl) rfl
theorem q1195 : (Jvm.Cond.code ({ cls := "BonnetValley", name := "gets", desc := "(III)I" } : Jvm.MethodName) prog_1_method_90_code (3 : Nat) (Option.some Jvm.ClassFile.FieldType.int)) ∈ lw_all := lw_g (lw_at lw_m5 126 rfl) rfl
theorem q1197 : (Jvm.Cond.instanceMethod ({ cls := "BonnetValley", name := "years", desc := "(II)I" } : Jvm.MethodName)) ∈ lw_all := lw_g (lw_at lw_m5 128 rfl) rfl
theorem q1198 : (Jvm.Cond.selects "BonnetValley" ({ cls := "BonnetValley", name := "years", desc := "(II)I" } : Jvm.MethodName) ({ cls := "BonnetValley", name := "years", desc := "(II)I" } : Jvm.MethodName)) ∈ lw_all := lw_g (lw_at lw_m5 129 rfl) rfl
theorem q1199 : (Jvm.Cond.code ({ cls := "BonnetValley", name := "years", desc := "(II)I" } : Jvm.MethodName) prog_1_method_94_code (7 : Nat) (Option.some Jvm.ClassFile.FieldType.int)) ∈ lw_all := lw_g (lw_at lw_m5 130 rfl) rfl
theorem q1200 : (Jvm.Cond.methodLink "BonnetValley" (484 : Nat) ({ cls := "BonnetValley", name := "draw", desc := "(I)I" } : Jvm.MethodName)) ∈ lw_all := lw_g (lw_at lw_m5 131 rfl) rfl
theorem q1201 : (Jvm.Cond.privateMethod ({ cls := "BonnetValley", name := "draw", desc := "(I)I" } : Jvm.MethodName)) ∈ lw_tbl := lw_at lw_m5 132 rfl
theorem q1202 : (Jvm.Cond.instanceMethod ({ cls := "BonnetValley", name := "draw", desc := "(I)I" } : Jvm.MethodName)) ∈ lw_all := lw_g (lw_at lw_m5 133 rfl) rfl
theorem q1203 : (Jvm.Cond.code ({ cls := "BonnetValley", name := "draw", desc := "(I)I" } : Jvm.MethodName) prog_1_method_93_code (2 : Nat) (Option.some Jvm.ClassFile.FieldType.int)) ∈ lw_all := lw_g (lw_at lw_m5 134 rfl) rfl
theorem q1204 : (Jvm.Cond.constant "BonnetValley" (483 : Nat) (1103515245 : Int32)) ∈ lw_all := lw_g (lw_at lw_m5 135 rfl) rfl
theorem q1206 : (Jvm.Cond.instanceMethod ({ cls := "BonnetValley", name := "keep", desc := "(I)Z" } : Jvm.MethodName)) ∈ lw_all := lw_g (lw_at lw_m5 137 rfl) rfl
theorem q1207 : (Jvm.Cond.selects "BonnetValley" ({ cls := "BonnetValley", name := "keep", desc := "(I)Z" } : Jvm.MethodName) ({ cls := "BonnetValley", name := "keep", desc := "(I)Z" } : Jvm.MethodName)) ∈ lw_all := lw_g (lw_at lw_m5 138 rfl) rfl
theorem q1208 : (Jvm.Cond.code ({ cls := "BonnetValley", name := "keep", desc := "(I)Z" } : Jvm.MethodName) prog_1_method_95_code (2 : Nat) (Option.some Jvm.ClassFile.FieldType.boolean)) ∈ lw_all := lw_g (lw_at lw_m5 139 rfl) rfl
theorem q1210 : (Jvm.Cond.methodLink "BonnetValley" (487 : Nat) ({ cls := "BonnetValley$Page", name := "<init>", desc := "(LBonnetValley;)V" } : Jvm.MethodName)) ∈ lw_all := lw_g (lw_at lw_m5 141 rfl) rfl
theorem q1218 : (Jvm.Cond.fieldLinkNest "BonnetValley" (491 : Nat) "BonnetValley$Page" "was" "LBonnetValley$Upland;" "BonnetValley") ∈ lw_tbl := lw_at lw_m5 149 rfl
theorem q1220 : (Jvm.Cond.fieldLinkNest "BonnetValley" (488 : Nat) "BonnetValley$Page" "since" "I" "BonnetValley") ∈ lw_tbl := lw_at lw_m5 151 rfl
theorem q1230 : (Jvm.Cond.instanceMethod ({ cls := "BonnetValley", name := "again", desc := "(I)Z" } : Jvm.MethodName)) ∈ lw_all := lw_g (lw_at lw_m5 161 rfl) rfl
theorem q1231 : (Jvm.Cond.selects "BonnetValley" ({ cls := "BonnetValley", name := "again", desc := "(I)Z" } : Jvm.MethodName) ({ cls := "BonnetValley", name := "again", desc := "(I)Z" } : Jvm.MethodName)) ∈ lw_all := lw_g (lw_at lw_m5 162 rfl) rfl
theorem q1232 : (Jvm.Cond.code ({ cls := "BonnetValley", name := "again", desc := "(I)Z" } : Jvm.MethodName) prog_1_method_96_code (2 : Nat) (Option.some Jvm.ClassFile.FieldType.boolean)) ∈ lw_all := lw_g (lw_at lw_m5 163 rfl) rfl
theorem q1234 : (Jvm.Cond.instanceMethod ({ cls := "BonnetValley", name := "count", desc := "(I)I" } : Jvm.MethodName)) ∈ lw_all := lw_g (lw_at lw_m5 165 rfl) rfl
theorem q1235 : (Jvm.Cond.selects "BonnetValley" ({ cls := "BonnetValley", name := "count", desc := "(I)I" } : Jvm.MethodName) ({ cls := "BonnetValley", name := "count", desc := "(I)I" } : Jvm.MethodName)) ∈ lw_all := lw_g (lw_at lw_m5 166 rfl) rfl
theorem q1236 : (Jvm.Cond.code ({ cls := "BonnetValley", name := "count", desc := "(I)I" } : Jvm.MethodName) prog_1_method_97_code (2 : Nat) (Option.some Jvm.ClassFile.FieldType.int)) ∈ lw_all := lw_g (lw_at lw_m5 167 rfl) rfl
theorem q1242 : (Jvm.Cond.instanceMethod ({ cls := "BonnetValley", name := "person", desc := "(II)I" } : Jvm.MethodName)) ∈ lw_all := lw_g (lw_at lw_m5 173 rfl) rfl
theorem q1243 : (Jvm.Cond.selects "BonnetValley" ({ cls := "BonnetValley", name := "person", desc := "(II)I" } : Jvm.MethodName) ({ cls := "BonnetValley", name := "person", desc := "(II)I" } : Jvm.MethodName)) ∈ lw_all := lw_g (lw_at lw_m5 174 rfl) rfl
theorem q1244 : (Jvm.Cond.code ({ cls := "BonnetValley", name := "person", desc := "(II)I" } : Jvm.MethodName) prog_1_method_31_code (3 : Nat) (Option.some Jvm.ClassFile.FieldType.int)) ∈ lw_all := lw_g (lw_at lw_m5 175 rfl) rfl
theorem q1245 : (Jvm.Cond.classLink "BonnetValley" (253 : Nat) "java/util/NoSuchElementException") ∈ lw_all := lw_g (lw_at lw_m5 176 rfl) rfl
theorem q1254 : (Jvm.Cond.methodLink "BonnetValley" (255 : Nat) ({ cls := "java/util/NoSuchElementException", name := "<init>", desc := "()V" } : Jvm.MethodName)) ∈ lw_all := lw_g (lw_at lw_m5 185 rfl) rfl
theorem q1263 : (Jvm.Cond.methodLink "BonnetValley" (256 : Nat) ({ cls := "BonnetValley$Look", name := "reach", desc := "(LBonnetValley$Upland;I)I" } : Jvm.MethodName)) ∈ lw_all := lw_g (lw_at lw_m5 194 rfl) rfl
theorem q1268 : (Jvm.Cond.instanceMethod ({ cls := "BonnetValley", name := "thing", desc := "(II)I" } : Jvm.MethodName)) ∈ lw_all := lw_g (lw_at lw_m5 199 rfl) rfl
theorem q1269 : (Jvm.Cond.selects "BonnetValley" ({ cls := "BonnetValley", name := "thing", desc := "(II)I" } : Jvm.MethodName) ({ cls := "BonnetValley", name := "thing", desc := "(II)I" } : Jvm.MethodName)) ∈ lw_all := lw_g (lw_at lw_m5 200 rfl) rfl
theorem q1270 : (Jvm.Cond.code ({ cls := "BonnetValley", name := "thing", desc := "(II)I" } : Jvm.MethodName) prog_1_method_33_code (3 : Nat) (Option.some Jvm.ClassFile.FieldType.int)) ∈ lw_all := lw_g (lw_at lw_m5 201 rfl) rfl
theorem q1275 : (Jvm.Cond.instanceMethod ({ cls := "BonnetValley", name := "row", desc := "(I)J" } : Jvm.MethodName)) ∈ lw_all := lw_g (lw_at lw_m5 206 rfl) rfl
theorem q1276 : (Jvm.Cond.selects "BonnetValley" ({ cls := "BonnetValley", name := "row", desc := "(I)J" } : Jvm.MethodName) ({ cls := "BonnetValley", name := "row", desc := "(I)J" } : Jvm.MethodName)) ∈ lw_all := lw_g (lw_at lw_m5 207 rfl) rfl
theorem q1277 : (Jvm.Cond.code ({ cls := "BonnetValley", name := "row", desc := "(I)J" } : Jvm.MethodName) prog_1_method_98_code (2 : Nat) (Option.some Jvm.ClassFile.FieldType.long)) ∈ lw_all := lw_g (lw_at lw_m5 208 rfl) rfl
theorem q1950 : (Jvm.Cond.castable "BonnetValley" "java/lang/Object") ∈ lw_tbl := lw_at lw_m8 161 rfl
theorem in_X1 : ∀ w ∈ wsX10, w ∈ lw_all := lw_in wsX10 [266, 268, 270, 272, 274, 276, 278, 280, 282, 284, 286, 288, 290, 292, 294, 296, 298, 300, 302, 304, 306, 308, 310, 312, 314, 316, 318, 320, 322, 324, 326] (by decide +kernel) (by decide +kernel)

/-! BonnetValley$Order -/
set_option maxRecDepth 100000
def RX10 : String := "BonnetValley$Order"
def TX10 : u_T := fun k => match k with
  | 0 => ("BonnetValley$Words", "of", "[B", true)
  | 1 => ("BonnetValley$Words", "size", "I", true)
  | 2 => ("BonnetValley$Words", "end", "I", true)
  | 3 => ("BonnetValley$Words", "at", "I", false)
  | 4 => ("BonnetValley$Order", "acts", "[C", true)
  | 5 => ("BonnetValley$Order", "first", "[I", true)
  | 6 => ("BonnetValley$Order", "second", "[I", true)
  | 7 => ("BonnetValley$Order", "many", "I", false)
  | _ => ("BonnetValley$Order", "this$0", "LBonnetValley;", true)
def tyX10 : Nat → FieldType := fun k => match k with
  | 0 => .array .byte
  | 1 => .int
  | 2 => .int
  | 3 => .int
  | 4 => .array .char
  | 5 => .array .int
  | 6 => .array .int
  | 7 => .int
  | _ => .object "BonnetValley"
abbrev wsX100 : List Cond := u_ws RX10 TX10 9
theorem nmX10 : ∀ a, a < 9 → ∀ b, b < 9 → a ≠ b → (TX10 a).2.1 ≠ (TX10 b).2.1 := by decide +kernel
theorem tyX10_ok : ∀ k, k < 9 → parseFieldDescriptor (TX10 k).2.2.1 = some (tyX10 k) := by decide +kernel
abbrev cX10_init : ByteArray := prog_4_method_1_code
def yX10_init : MethodName := ⟨RX10, "<init>", "(LBonnetValley;[BI)V"⟩
def dkwX10_init_1 : List UInt8 := [188, 10, 181, 0, 19, 42, 16, 60, 188, 10, 181, 0, 23, 177]
abbrev dktX10_init_1 : List UInt8 := dkwX10_init_1 ++ []
def dkwX10_init_0 : List UInt8 := [42, 43, 181, 0, 3, 42, 44, 29, 16, 60, 183, 0, 9, 42, 16, 60, 188, 5, 181, 0, 15, 42, 16, 60]
abbrev dktX10_init_0 : List UInt8 := dkwX10_init_0 ++ dktX10_init_1
theorem dksX10_init_0 : cX10_init.data.toList.drop 0 = dktX10_init_0 := by decide +kernel
theorem dksX10_init_1 : cX10_init.data.toList.drop 24 = dktX10_init_1 := dk_seg dksX10_init_0 24 rfl rfl
theorem dX10_init_0 : decode cX10_init 0 = .ok (.aload_n 0, 1) := dk_42 (dk_at dksX10_init_0 0 rfl rfl)
theorem dX10_init_1 : decode cX10_init 1 = .ok (.aload_n 1, 1) := dk_43 (dk_at dksX10_init_0 1 rfl rfl)
theorem dX10_init_2 : decode cX10_init 2 = .ok (.putfield 3, 3) := dk_181 0 3 (dk_at dksX10_init_0 2 rfl rfl)
theorem dX10_init_5 : decode cX10_init 5 = .ok (.aload_n 0, 1) := dk_42 (dk_at dksX10_init_0 5 rfl rfl)
theorem dX10_init_6 : decode cX10_init 6 = .ok (.aload_n 2, 1) := dk_44 (dk_at dksX10_init_0 6 rfl rfl)
theorem dX10_init_7 : decode cX10_init 7 = .ok (.iload_n 3, 1) := dk_29 (dk_at dksX10_init_0 7 rfl rfl)
theorem dX10_init_8 : decode cX10_init 8 = .ok (.bipush 60, 2) := dk_16 60 (dk_at dksX10_init_0 8 rfl rfl)
theorem dX10_init_10 : decode cX10_init 10 = .ok (.invokespecial 9, 3) := dk_183 0 9 (dk_at dksX10_init_0 10 rfl rfl)
theorem dX10_init_13 : decode cX10_init 13 = .ok (.aload_n 0, 1) := dk_42 (dk_at dksX10_init_0 13 rfl rfl)
theorem dX10_init_14 : decode cX10_init 14 = .ok (.bipush 60, 2) := dk_16 60 (dk_at dksX10_init_0 14 rfl rfl)
theorem dX10_init_16 : decode cX10_init 16 = .ok (.newarray .char, 2) := dk_188_5 (dk_at dksX10_init_0 16 rfl rfl)
theorem dX10_init_18 : decode cX10_init 18 = .ok (.putfield 15, 3) := dk_181 0 15 (dk_at dksX10_init_0 18 rfl rfl)
theorem dX10_init_21 : decode cX10_init 21 = .ok (.aload_n 0, 1) := dk_42 (dk_at dksX10_init_0 21 rfl rfl)
theorem dX10_init_22 : decode cX10_init 22 = .ok (.bipush 60, 2) := dk_16 60 (dk_at dksX10_init_0 22 rfl rfl)
theorem dX10_init_24 : decode cX10_init 24 = .ok (.newarray .int, 2) := dk_188_10 (dk_at dksX10_init_1 0 rfl rfl)
theorem dX10_init_26 : decode cX10_init 26 = .ok (.putfield 19, 3) := dk_181 0 19 (dk_at dksX10_init_1 2 rfl rfl)
theorem dX10_init_29 : decode cX10_init 29 = .ok (.aload_n 0, 1) := dk_42 (dk_at dksX10_init_1 5 rfl rfl)
theorem dX10_init_30 : decode cX10_init 30 = .ok (.bipush 60, 2) := dk_16 60 (dk_at dksX10_init_1 6 rfl rfl)
theorem dX10_init_32 : decode cX10_init 32 = .ok (.newarray .int, 2) := dk_188_10 (dk_at dksX10_init_1 8 rfl rfl)
theorem dX10_init_34 : decode cX10_init 34 = .ok (.putfield 23, 3) := dk_181 0 23 (dk_at dksX10_init_1 10 rfl rfl)
theorem dX10_init_37 : decode cX10_init 37 = .ok (.return_, 1) := dk_177 (dk_at dksX10_init_1 13 rfl rfl)
abbrev cX10_read : ByteArray := prog_4_method_2_code
def yX10_read : MethodName := ⟨RX10, "read", "()V"⟩
def dkwX10_read_1 : List UInt8 := [181, 0, 37, 167, 255, 231, 42, 182, 0, 40, 177]
abbrev dktX10_read_1 : List UInt8 := dkwX10_read_1 ++ []
def dkwX10_read_0 : List UInt8 := [42, 180, 0, 26, 42, 180, 0, 30, 162, 0, 20, 42, 182, 0, 33, 42, 89, 180, 0, 37, 4, 96]
abbrev dktX10_read_0 : List UInt8 := dkwX10_read_0 ++ dktX10_read_1
theorem dksX10_read_0 : cX10_read.data.toList.drop 0 = dktX10_read_0 := by decide +kernel
theorem dksX10_read_1 : cX10_read.data.toList.drop 22 = dktX10_read_1 := dk_seg dksX10_read_0 22 rfl rfl
theorem dX10_read_0 : decode cX10_read 0 = .ok (.aload_n 0, 1) := dk_42 (dk_at dksX10_read_0 0 rfl rfl)
theorem dX10_read_1 : decode cX10_read 1 = .ok (.getfield 26, 3) := dk_180 0 26 (dk_at dksX10_read_0 1 rfl rfl)
theorem dX10_read_4 : decode cX10_read 4 = .ok (.aload_n 0, 1) := dk_42 (dk_at dksX10_read_0 4 rfl rfl)
theorem dX10_read_5 : decode cX10_read 5 = .ok (.getfield 30, 3) := dk_180 0 30 (dk_at dksX10_read_0 5 rfl rfl)
theorem dX10_read_8 : decode cX10_read 8 = .ok (.if_icmp .ge 20, 3) := dk_162 0 20 (dk_at dksX10_read_0 8 rfl rfl)
theorem dX10_read_11 : decode cX10_read 11 = .ok (.aload_n 0, 1) := dk_42 (dk_at dksX10_read_0 11 rfl rfl)
theorem dX10_read_12 : decode cX10_read 12 = .ok (.invokevirtual 33, 3) := dk_182 0 33 (dk_at dksX10_read_0 12 rfl rfl)
theorem dX10_read_15 : decode cX10_read 15 = .ok (.aload_n 0, 1) := dk_42 (dk_at dksX10_read_0 15 rfl rfl)
theorem dX10_read_16 : decode cX10_read 16 = .ok (.dup, 1) := dk_89 (dk_at dksX10_read_0 16 rfl rfl)
theorem dX10_read_17 : decode cX10_read 17 = .ok (.getfield 37, 3) := dk_180 0 37 (dk_at dksX10_read_0 17 rfl rfl)
theorem dX10_read_20 : decode cX10_read 20 = .ok (.iconst 1, 1) := dk_4 (dk_at dksX10_read_0 20 rfl rfl)
theorem dX10_read_21 : decode cX10_read 21 = .ok (.iadd, 1) := dk_96 (dk_at dksX10_read_0 21 rfl rfl)
theorem dX10_read_22 : decode cX10_read 22 = .ok (.putfield 37, 3) := dk_181 0 37 (dk_at dksX10_read_1 0 rfl rfl)
theorem dX10_read_25 : decode cX10_read 25 = .ok (.goto (-25), 3) := dk_167 255 231 (dk_at dksX10_read_1 3 rfl rfl)
theorem dX10_read_28 : decode cX10_read 28 = .ok (.aload_n 0, 1) := dk_42 (dk_at dksX10_read_1 6 rfl rfl)
theorem dX10_read_29 : decode cX10_read 29 = .ok (.invokevirtual 40, 3) := dk_182 0 40 (dk_at dksX10_read_1 7 rfl rfl)
theorem dX10_read_32 : decode cX10_read 32 = .ok (.return_, 1) := dk_177 (dk_at dksX10_read_1 10 rfl rfl)
abbrev cX10_act : ByteArray := prog_4_method_3_code
def yX10_act : MethodName := ⟨RX10, "act", "()V"⟩
def dkwX10_act_7 : List UInt8 := [167, 0, 4, 2, 79, 177]
abbrev dktX10_act_7 : List UInt8 := dkwX10_act_7 ++ []
def dkwX10_act_6 : List UInt8 := [162, 0, 25, 42, 180, 0, 3, 180, 0, 66, 42, 180, 0, 23, 42, 180, 0, 37, 46, 104, 28, 96]
abbrev dktX10_act_6 : List UInt8 := dkwX10_act_6 ++ dktX10_act_7
def dkwX10_act_5 : List UInt8 := [180, 0, 37, 46, 42, 180, 0, 3, 180, 0, 63, 162, 0, 36, 28, 42, 180, 0, 3, 180, 0, 66]
abbrev dktX10_act_5 : List UInt8 := dkwX10_act_5 ++ dktX10_act_6
def dkwX10_act_4 : List UInt8 := [177, 42, 16, 48, 16, 10, 182, 0, 59, 61, 42, 180, 0, 23, 42, 180, 0, 37, 42, 180, 0, 23, 42]
abbrev dktX10_act_4 : List UInt8 := dkwX10_act_4 ++ dktX10_act_5
def dkwX10_act_3 : List UInt8 := [177, 42, 180, 0, 23, 42, 180, 0, 37, 42, 16, 48, 16, 10, 182, 0, 59, 79, 27, 16, 112, 159, 0, 4]
abbrev dktX10_act_3 : List UInt8 := dkwX10_act_3 ++ dktX10_act_4
def dkwX10_act_2 : List UInt8 := [85, 42, 180, 0, 19, 42, 180, 0, 37, 42, 16, 48, 16, 10, 182, 0, 59, 79, 27, 16, 110, 160, 0, 4]
abbrev dktX10_act_2 : List UInt8 := dkwX10_act_2 ++ dktX10_act_3
def dkwX10_act_1 : List UInt8 := [3, 182, 0, 55, 42, 89, 180, 0, 26, 4, 96, 181, 0, 26, 42, 180, 0, 15, 42, 180, 0, 37, 27, 146]
abbrev dktX10_act_1 : List UInt8 := dkwX10_act_1 ++ dktX10_act_2
def dkwX10_act_0 : List UInt8 := [42, 182, 0, 43, 60, 42, 27, 2, 159, 0, 16, 18, 47, 27, 182, 0, 49, 155, 0, 7, 4, 167, 0, 4]
abbrev dktX10_act_0 : List UInt8 := dkwX10_act_0 ++ dktX10_act_1
theorem dksX10_act_0 : cX10_act.data.toList.drop 0 = dktX10_act_0 := by decide +kernel
theorem dksX10_act_1 : cX10_act.data.toList.drop 24 = dktX10_act_1 := dk_seg dksX10_act_0 24 rfl rfl
theorem dksX10_act_2 : cX10_act.data.toList.drop 48 = dktX10_act_2 := dk_seg dksX10_act_1 24 rfl rfl
theorem dksX10_act_3 : cX10_act.data.toList.drop 72 = dktX10_act_3 := dk_seg dksX10_act_2 24 rfl rfl
theorem dksX10_act_4 : cX10_act.data.toList.drop 96 = dktX10_act_4 := dk_seg dksX10_act_3 24 rfl rfl
theorem dksX10_act_5 : cX10_act.data.toList.drop 119 = dktX10_act_5 := dk_seg dksX10_act_4 23 rfl rfl
theorem dksX10_act_6 : cX10_act.data.toList.drop 141 = dktX10_act_6 := dk_seg dksX10_act_5 22 rfl rfl
theorem dksX10_act_7 : cX10_act.data.toList.drop 163 = dktX10_act_7 := dk_seg dksX10_act_6 22 rfl rfl
theorem dX10_act_0 : decode cX10_act 0 = .ok (.aload_n 0, 1) := dk_42 (dk_at dksX10_act_0 0 rfl rfl)
theorem dX10_act_1 : decode cX10_act 1 = .ok (.invokevirtual 43, 3) := dk_182 0 43 (dk_at dksX10_act_0 1 rfl rfl)
theorem dX10_act_4 : decode cX10_act 4 = .ok (.istore_n 1, 1) := dk_60 (dk_at dksX10_act_0 4 rfl rfl)
theorem dX10_act_5 : decode cX10_act 5 = .ok (.aload_n 0, 1) := dk_42 (dk_at dksX10_act_0 5 rfl rfl)
theorem dX10_act_6 : decode cX10_act 6 = .ok (.iload_n 1, 1) := dk_27 (dk_at dksX10_act_0 6 rfl rfl)
theorem dX10_act_7 : decode cX10_act 7 = .ok (.iconst (-1), 1) := dk_2 (dk_at dksX10_act_0 7 rfl rfl)
theorem dX10_act_8 : decode cX10_act 8 = .ok (.if_icmp .eq 16, 3) := dk_159 0 16 (dk_at dksX10_act_0 8 rfl rfl)
theorem dX10_act_11 : decode cX10_act 11 = .ok (.ldc 47, 2) := dk_18 47 (dk_at dksX10_act_0 11 rfl rfl)
theorem dX10_act_13 : decode cX10_act 13 = .ok (.iload_n 1, 1) := dk_27 (dk_at dksX10_act_0 13 rfl rfl)
theorem dX10_act_14 : decode cX10_act 14 = .ok (.invokevirtual 49, 3) := dk_182 0 49 (dk_at dksX10_act_0 14 rfl rfl)
theorem dX10_act_17 : decode cX10_act 17 = .ok (.ifCond .lt 7, 3) := dk_155 0 7 (dk_at dksX10_act_0 17 rfl rfl)
theorem dX10_act_20 : decode cX10_act 20 = .ok (.iconst 1, 1) := dk_4 (dk_at dksX10_act_0 20 rfl rfl)
theorem dX10_act_21 : decode cX10_act 21 = .ok (.goto 4, 3) := dk_167 0 4 (dk_at dksX10_act_0 21 rfl rfl)
theorem dX10_act_24 : decode cX10_act 24 = .ok (.iconst 0, 1) := dk_3 (dk_at dksX10_act_1 0 rfl rfl)
theorem dX10_act_25 : decode cX10_act 25 = .ok (.invokevirtual 55, 3) := dk_182 0 55 (dk_at dksX10_act_1 1 rfl rfl)
theorem dX10_act_28 : decode cX10_act 28 = .ok (.aload_n 0, 1) := dk_42 (dk_at dksX10_act_1 4 rfl rfl)
theorem dX10_act_29 : decode cX10_act 29 = .ok (.dup, 1) := dk_89 (dk_at dksX10_act_1 5 rfl rfl)
theorem dX10_act_30 : decode cX10_act 30 = .ok (.getfield 26, 3) := dk_180 0 26 (dk_at dksX10_act_1 6 rfl rfl)
theorem dX10_act_33 : decode cX10_act 33 = .ok (.iconst 1, 1) := dk_4 (dk_at dksX10_act_1 9 rfl rfl)
theorem dX10_act_34 : decode cX10_act 34 = .ok (.iadd, 1) := dk_96 (dk_at dksX10_act_1 10 rfl rfl)
theorem dX10_act_35 : decode cX10_act 35 = .ok (.putfield 26, 3) := dk_181 0 26 (dk_at dksX10_act_1 11 rfl rfl)
theorem dX10_act_38 : decode cX10_act 38 = .ok (.aload_n 0, 1) := dk_42 (dk_at dksX10_act_1 14 rfl rfl)
theorem dX10_act_39 : decode cX10_act 39 = .ok (.getfield 15, 3) := dk_180 0 15 (dk_at dksX10_act_1 15 rfl rfl)
theorem dX10_act_42 : decode cX10_act 42 = .ok (.aload_n 0, 1) := dk_42 (dk_at dksX10_act_1 18 rfl rfl)
theorem dX10_act_43 : decode cX10_act 43 = .ok (.getfield 37, 3) := dk_180 0 37 (dk_at dksX10_act_1 19 rfl rfl)
theorem dX10_act_46 : decode cX10_act 46 = .ok (.iload_n 1, 1) := dk_27 (dk_at dksX10_act_1 22 rfl rfl)
theorem dX10_act_47 : decode cX10_act 47 = .ok (.i2c, 1) := dk_146 (dk_at dksX10_act_1 23 rfl rfl)
theorem dX10_act_48 : decode cX10_act 48 = .ok (.castore, 1) := dk_85 (dk_at dksX10_act_2 0 rfl rfl)
theorem dX10_act_49 : decode cX10_act 49 = .ok (.aload_n 0, 1) := dk_42 (dk_at dksX10_act_2 1 rfl rfl)
theorem dX10_act_50 : decode cX10_act 50 = .ok (.getfield 19, 3) := dk_180 0 19 (dk_at dksX10_act_2 2 rfl rfl)
theorem dX10_act_53 : decode cX10_act 53 = .ok (.aload_n 0, 1) := dk_42 (dk_at dksX10_act_2 5 rfl rfl)
theorem dX10_act_54 : decode cX10_act 54 = .ok (.getfield 37, 3) := dk_180 0 37 (dk_at dksX10_act_2 6 rfl rfl)
theorem dX10_act_57 : decode cX10_act 57 = .ok (.aload_n 0, 1) := dk_42 (dk_at dksX10_act_2 9 rfl rfl)
theorem dX10_act_58 : decode cX10_act 58 = .ok (.bipush 48, 2) := dk_16 48 (dk_at dksX10_act_2 10 rfl rfl)
theorem dX10_act_60 : decode cX10_act 60 = .ok (.bipush 10, 2) := dk_16 10 (dk_at dksX10_act_2 12 rfl rfl)
theorem dX10_act_62 : decode cX10_act 62 = .ok (.invokevirtual 59, 3) := dk_182 0 59 (dk_at dksX10_act_2 14 rfl rfl)
theorem dX10_act_65 : decode cX10_act 65 = .ok (.iastore, 1) := dk_79 (dk_at dksX10_act_2 17 rfl rfl)
theorem dX10_act_66 : decode cX10_act 66 = .ok (.iload_n 1, 1) := dk_27 (dk_at dksX10_act_2 18 rfl rfl)
theorem dX10_act_67 : decode cX10_act 67 = .ok (.bipush 110, 2) := dk_16 110 (dk_at dksX10_act_2 19 rfl rfl)
theorem dX10_act_69 : decode cX10_act 69 = .ok (.if_icmp .ne 4, 3) := dk_160 0 4 (dk_at dksX10_act_2 21 rfl rfl)
theorem dX10_act_72 : decode cX10_act 72 = .ok (.return_, 1) := dk_177 (dk_at dksX10_act_3 0 rfl rfl)
theorem dX10_act_73 : decode cX10_act 73 = .ok (.aload_n 0, 1) := dk_42 (dk_at dksX10_act_3 1 rfl rfl)
theorem dX10_act_74 : decode cX10_act 74 = .ok (.getfield 23, 3) := dk_180 0 23 (dk_at dksX10_act_3 2 rfl rfl)
theorem dX10_act_77 : decode cX10_act 77 = .ok (.aload_n 0, 1) := dk_42 (dk_at dksX10_act_3 5 rfl rfl)
theorem dX10_act_78 : decode cX10_act 78 = .ok (.getfield 37, 3) := dk_180 0 37 (dk_at dksX10_act_3 6 rfl rfl)
theorem dX10_act_81 : decode cX10_act 81 = .ok (.aload_n 0, 1) := dk_42 (dk_at dksX10_act_3 9 rfl rfl)
theorem dX10_act_82 : decode cX10_act 82 = .ok (.bipush 48, 2) := dk_16 48 (dk_at dksX10_act_3 10 rfl rfl)
theorem dX10_act_84 : decode cX10_act 84 = .ok (.bipush 10, 2) := dk_16 10 (dk_at dksX10_act_3 12 rfl rfl)
theorem dX10_act_86 : decode cX10_act 86 = .ok (.invokevirtual 59, 3) := dk_182 0 59 (dk_at dksX10_act_3 14 rfl rfl)
theorem dX10_act_89 : decode cX10_act 89 = .ok (.iastore, 1) := dk_79 (dk_at dksX10_act_3 17 rfl rfl)
theorem dX10_act_90 : decode cX10_act 90 = .ok (.iload_n 1, 1) := dk_27 (dk_at dksX10_act_3 18 rfl rfl)
theorem dX10_act_91 : decode cX10_act 91 = .ok (.bipush 112, 2) := dk_16 112 (dk_at dksX10_act_3 19 rfl rfl)
theorem dX10_act_93 : decode cX10_act 93 = .ok (.if_icmp .eq 4, 3) := dk_159 0 4 (dk_at dksX10_act_3 21 rfl rfl)
theorem dX10_act_96 : decode cX10_act 96 = .ok (.return_, 1) := dk_177 (dk_at dksX10_act_4 0 rfl rfl)
theorem dX10_act_97 : decode cX10_act 97 = .ok (.aload_n 0, 1) := dk_42 (dk_at dksX10_act_4 1 rfl rfl)
theorem dX10_act_98 : decode cX10_act 98 = .ok (.bipush 48, 2) := dk_16 48 (dk_at dksX10_act_4 2 rfl rfl)
theorem dX10_act_100 : decode cX10_act 100 = .ok (.bipush 10, 2) := dk_16 10 (dk_at dksX10_act_4 4 rfl rfl)
theorem dX10_act_102 : decode cX10_act 102 = .ok (.invokevirtual 59, 3) := dk_182 0 59 (dk_at dksX10_act_4 6 rfl rfl)
theorem dX10_act_105 : decode cX10_act 105 = .ok (.istore_n 2, 1) := dk_61 (dk_at dksX10_act_4 9 rfl rfl)
theorem dX10_act_106 : decode cX10_act 106 = .ok (.aload_n 0, 1) := dk_42 (dk_at dksX10_act_4 10 rfl rfl)
theorem dX10_act_107 : decode cX10_act 107 = .ok (.getfield 23, 3) := dk_180 0 23 (dk_at dksX10_act_4 11 rfl rfl)
theorem dX10_act_110 : decode cX10_act 110 = .ok (.aload_n 0, 1) := dk_42 (dk_at dksX10_act_4 14 rfl rfl)
theorem dX10_act_111 : decode cX10_act 111 = .ok (.getfield 37, 3) := dk_180 0 37 (dk_at dksX10_act_4 15 rfl rfl)
theorem dX10_act_114 : decode cX10_act 114 = .ok (.aload_n 0, 1) := dk_42 (dk_at dksX10_act_4 18 rfl rfl)
theorem dX10_act_115 : decode cX10_act 115 = .ok (.getfield 23, 3) := dk_180 0 23 (dk_at dksX10_act_4 19 rfl rfl)
theorem dX10_act_118 : decode cX10_act 118 = .ok (.aload_n 0, 1) := dk_42 (dk_at dksX10_act_4 22 rfl rfl)
theorem dX10_act_119 : decode cX10_act 119 = .ok (.getfield 37, 3) := dk_180 0 37 (dk_at dksX10_act_5 0 rfl rfl)
theorem dX10_act_122 : decode cX10_act 122 = .ok (.iaload, 1) := dk_46 (dk_at dksX10_act_5 3 rfl rfl)
theorem dX10_act_123 : decode cX10_act 123 = .ok (.aload_n 0, 1) := dk_42 (dk_at dksX10_act_5 4 rfl rfl)
theorem dX10_act_124 : decode cX10_act 124 = .ok (.getfield 3, 3) := dk_180 0 3 (dk_at dksX10_act_5 5 rfl rfl)
theorem dX10_act_127 : decode cX10_act 127 = .ok (.getfield 63, 3) := dk_180 0 63 (dk_at dksX10_act_5 8 rfl rfl)
theorem dX10_act_130 : decode cX10_act 130 = .ok (.if_icmp .ge 36, 3) := dk_162 0 36 (dk_at dksX10_act_5 11 rfl rfl)
theorem dX10_act_133 : decode cX10_act 133 = .ok (.iload_n 2, 1) := dk_28 (dk_at dksX10_act_5 14 rfl rfl)
theorem dX10_act_134 : decode cX10_act 134 = .ok (.aload_n 0, 1) := dk_42 (dk_at dksX10_act_5 15 rfl rfl)
theorem dX10_act_135 : decode cX10_act 135 = .ok (.getfield 3, 3) := dk_180 0 3 (dk_at dksX10_act_5 16 rfl rfl)
theorem dX10_act_138 : decode cX10_act 138 = .ok (.getfield 66, 3) := dk_180 0 66 (dk_at dksX10_act_5 19 rfl rfl)
theorem dX10_act_141 : decode cX10_act 141 = .ok (.if_icmp .ge 25, 3) := dk_162 0 25 (dk_at dksX10_act_6 0 rfl rfl)
theorem dX10_act_144 : decode cX10_act 144 = .ok (.aload_n 0, 1) := dk_42 (dk_at dksX10_act_6 3 rfl rfl)
theorem dX10_act_145 : decode cX10_act 145 = .ok (.getfield 3, 3) := dk_180 0 3 (dk_at dksX10_act_6 4 rfl rfl)
theorem dX10_act_148 : decode cX10_act 148 = .ok (.getfield 66, 3) := dk_180 0 66 (dk_at dksX10_act_6 7 rfl rfl)
theorem dX10_act_151 : decode cX10_act 151 = .ok (.aload_n 0, 1) := dk_42 (dk_at dksX10_act_6 10 rfl rfl)
theorem dX10_act_152 : decode cX10_act 152 = .ok (.getfield 23, 3) := dk_180 0 23 (dk_at dksX10_act_6 11 rfl rfl)
theorem dX10_act_155 : decode cX10_act 155 = .ok (.aload_n 0, 1) := dk_42 (dk_at dksX10_act_6 14 rfl rfl)
theorem dX10_act_156 : decode cX10_act 156 = .ok (.getfield 37, 3) := dk_180 0 37 (dk_at dksX10_act_6 15 rfl rfl)
theorem dX10_act_159 : decode cX10_act 159 = .ok (.iaload, 1) := dk_46 (dk_at dksX10_act_6 18 rfl rfl)
theorem dX10_act_160 : decode cX10_act 160 = .ok (.imul, 1) := dk_104 (dk_at dksX10_act_6 19 rfl rfl)
theorem dX10_act_161 : decode cX10_act 161 = .ok (.iload_n 2, 1) := dk_28 (dk_at dksX10_act_6 20 rfl rfl)
theorem dX10_act_162 : decode cX10_act 162 = .ok (.iadd, 1) := dk_96 (dk_at dksX10_act_6 21 rfl rfl)
theorem dX10_act_163 : decode cX10_act 163 = .ok (.goto 4, 3) := dk_167 0 4 (dk_at dksX10_act_7 0 rfl rfl)
theorem dX10_act_166 : decode cX10_act 166 = .ok (.iconst (-1), 1) := dk_2 (dk_at dksX10_act_7 3 rfl rfl)
theorem dX10_act_167 : decode cX10_act 167 = .ok (.iastore, 1) := dk_79 (dk_at dksX10_act_7 4 rfl rfl)
theorem dX10_act_168 : decode cX10_act 168 = .ok (.return_, 1) := dk_177 (dk_at dksX10_act_7 5 rfl rfl)
theorem q132 : (Jvm.Cond.initialized "BonnetValley$Order") ∈ lw_all := lw_g (lw_at lw_m1 23 rfl) rfl
theorem q230 : (Jvm.Cond.fieldLinkNest "BonnetValley$Order" (63 : Nat) "BonnetValley" "rows" "I" "BonnetValley") ∈ lw_tbl := lw_at lw_m1 121 rfl
theorem q233 : (Jvm.Cond.fieldLinkNest "BonnetValley$Order" (66 : Nat) "BonnetValley" "columns" "I" "BonnetValley") ∈ lw_tbl := lw_at lw_m1 124 rfl
theorem q364 : (Jvm.Cond.fieldLink "BonnetValley$Order" (30 : Nat) "BonnetValley$Order" "end" "I") ∈ lw_all := lw_g (lw_at lw_m2 15 rfl) rfl
theorem q365 : (Jvm.Cond.sameField "BonnetValley$Order" "BonnetValley$Words" "end" "I") ∈ lw_all := lw_g (lw_at lw_m2 16 rfl) rfl
theorem q367 : (Jvm.Cond.fieldLink "BonnetValley$Order" (26 : Nat) "BonnetValley$Order" "at" "I") ∈ lw_all := lw_g (lw_at lw_m2 18 rfl) rfl
theorem q368 : (Jvm.Cond.sameField "BonnetValley$Order" "BonnetValley$Words" "at" "I") ∈ lw_all := lw_g (lw_at lw_m2 19 rfl) rfl
theorem q385 : (Jvm.Cond.selects "BonnetValley$Order" ({ cls := "BonnetValley$Words", name := "one", desc := "(CI)I" } : Jvm.MethodName) ({ cls := "BonnetValley$Words", name := "one", desc := "(CI)I" } : Jvm.MethodName)) ∈ lw_all := lw_g (lw_at lw_m2 36 rfl) rfl
theorem q392 : (Jvm.Cond.selects "BonnetValley$Order" ({ cls := "BonnetValley$Words", name := "here", desc := "()I" } : Jvm.MethodName) ({ cls := "BonnetValley$Words", name := "here", desc := "()I" } : Jvm.MethodName)) ∈ lw_all := lw_g (lw_at lw_m2 43 rfl) rfl
theorem q400 : (Jvm.Cond.selects "BonnetValley$Order" ({ cls := "BonnetValley$Words", name := "need", desc := "(Z)V" } : Jvm.MethodName) ({ cls := "BonnetValley$Words", name := "need", desc := "(Z)V" } : Jvm.MethodName)) ∈ lw_all := lw_g (lw_at lw_m2 51 rfl) rfl
theorem q470 : (Jvm.Cond.selects "BonnetValley$Order" ({ cls := "BonnetValley$Words", name := "passes", desc := "(C)Z" } : Jvm.MethodName) ({ cls := "BonnetValley$Words", name := "passes", desc := "(C)Z" } : Jvm.MethodName)) ∈ lw_all := lw_g (lw_at lw_m2 121 rfl) rfl
theorem q478 : (Jvm.Cond.selects "BonnetValley$Order" ({ cls := "BonnetValley$Words", name := "needEnd", desc := "()V" } : Jvm.MethodName) ({ cls := "BonnetValley$Words", name := "needEnd", desc := "()V" } : Jvm.MethodName)) ∈ lw_all := lw_g (lw_at lw_m2 129 rfl) rfl
theorem q925 : (Jvm.Cond.instantiable "BonnetValley$Order" (9 : Nat)) ∈ lw_all := lw_g (lw_at lw_m4 96 rfl) rfl
theorem q927 : (Jvm.Cond.instanceMethod ({ cls := "BonnetValley$Order", name := "<init>", desc := "(LBonnetValley;[BI)V" } : Jvm.MethodName)) ∈ lw_all := lw_g (lw_at lw_m4 98 rfl) rfl
theorem q928 : (Jvm.Cond.code ({ cls := "BonnetValley$Order", name := "<init>", desc := "(LBonnetValley;[BI)V" } : Jvm.MethodName) prog_4_method_1_code (4 : Nat) (Option.none : Option Jvm.ClassFile.FieldType)) ∈ lw_all := lw_g (lw_at lw_m4 99 rfl) rfl
theorem q929 : (Jvm.Cond.methodLink "BonnetValley$Order" (9 : Nat) ({ cls := "BonnetValley$Words", name := "<init>", desc := "([BII)V" } : Jvm.MethodName)) ∈ lw_all := lw_g (lw_at lw_m4 100 rfl) rfl
theorem q930 : (Jvm.Cond.fieldLink "BonnetValley$Order" (15 : Nat) "BonnetValley$Order" "acts" "[C") ∈ lw_all := lw_g (lw_at lw_m4 101 rfl) rfl
theorem q932 : (Jvm.Cond.fieldLink "BonnetValley$Order" (19 : Nat) "BonnetValley$Order" "first" "[I") ∈ lw_all := lw_g (lw_at lw_m4 103 rfl) rfl
theorem q934 : (Jvm.Cond.fieldLink "BonnetValley$Order" (23 : Nat) "BonnetValley$Order" "second" "[I") ∈ lw_all := lw_g (lw_at lw_m4 105 rfl) rfl
theorem q936 : (Jvm.Cond.fieldLink "BonnetValley$Order" (37 : Nat) "BonnetValley$Order" "many" "I") ∈ lw_all := lw_g (lw_at lw_m4 107 rfl) rfl
theorem q938 : (Jvm.Cond.fieldLink "BonnetValley$Order" (3 : Nat) "BonnetValley$Order" "this$0" "LBonnetValley;") ∈ lw_all := lw_g (lw_at lw_m4 109 rfl) rfl
theorem q939 : (Jvm.Cond.laysFinal "BonnetValley$Order" "BonnetValley$Order" "acts" "[C") ∈ lw_all := lw_g (lw_at lw_m4 110 rfl) rfl
theorem q940 : (Jvm.Cond.soleField "BonnetValley$Order" "acts") ∈ lw_all := lw_g (lw_at lw_m4 111 rfl) rfl
theorem q941 : (Jvm.Cond.laysFinal "BonnetValley$Order" "BonnetValley$Order" "first" "[I") ∈ lw_all := lw_g (lw_at lw_m4 112 rfl) rfl
theorem q942 : (Jvm.Cond.soleField "BonnetValley$Order" "first") ∈ lw_all := lw_g (lw_at lw_m4 113 rfl) rfl
theorem q943 : (Jvm.Cond.laysFinal "BonnetValley$Order" "BonnetValley$Order" "second" "[I") ∈ lw_all := lw_g (lw_at lw_m4 114 rfl) rfl
theorem q944 : (Jvm.Cond.soleField "BonnetValley$Order" "second") ∈ lw_all := lw_g (lw_at lw_m4 115 rfl) rfl
theorem q945 : (Jvm.Cond.lays "BonnetValley$Order" "BonnetValley$Order" "many" "I") ∈ lw_all := lw_g (lw_at lw_m4 116 rfl) rfl
theorem q946 : (Jvm.Cond.soleField "BonnetValley$Order" "many") ∈ lw_all := lw_g (lw_at lw_m4 117 rfl) rfl
theorem q947 : (Jvm.Cond.laysFinal "BonnetValley$Order" "BonnetValley$Order" "this$0" "LBonnetValley;") ∈ lw_all := lw_g (lw_at lw_m4 118 rfl) rfl
theorem q948 : (Jvm.Cond.soleField "BonnetValley$Order" "this$0") ∈ lw_all := lw_g (lw_at lw_m4 119 rfl) rfl
theorem q949 : (Jvm.Cond.laysFinal "BonnetValley$Order" "BonnetValley$Words" "of" "[B") ∈ lw_all := lw_g (lw_at lw_m4 120 rfl) rfl
theorem q950 : (Jvm.Cond.laysFinal "BonnetValley$Order" "BonnetValley$Words" "size" "I") ∈ lw_all := lw_g (lw_at lw_m4 121 rfl) rfl
theorem q951 : (Jvm.Cond.laysFinal "BonnetValley$Order" "BonnetValley$Words" "end" "I") ∈ lw_all := lw_g (lw_at lw_m4 122 rfl) rfl
theorem q952 : (Jvm.Cond.lays "BonnetValley$Order" "BonnetValley$Words" "at" "I") ∈ lw_all := lw_g (lw_at lw_m4 123 rfl) rfl
theorem q953 : (Jvm.Cond.superclass "BonnetValley$Order" "BonnetValley$Words") ∈ lw_all := lw_g (lw_at lw_m4 124 rfl) rfl
theorem q956 : (Jvm.Cond.instanceMethod ({ cls := "BonnetValley$Order", name := "read", desc := "()V" } : Jvm.MethodName)) ∈ lw_all := lw_g (lw_at lw_m4 127 rfl) rfl
theorem q957 : (Jvm.Cond.selects "BonnetValley$Order" ({ cls := "BonnetValley$Order", name := "read", desc := "()V" } : Jvm.MethodName) ({ cls := "BonnetValley$Order", name := "read", desc := "()V" } : Jvm.MethodName)) ∈ lw_all := lw_g (lw_at lw_m4 128 rfl) rfl
theorem q958 : (Jvm.Cond.code ({ cls := "BonnetValley$Order", name := "read", desc := "()V" } : Jvm.MethodName) prog_4_method_2_code (1 : Nat) (Option.none : Option Jvm.ClassFile.FieldType)) ∈ lw_all := lw_g (lw_at lw_m4 129 rfl) rfl
theorem q959 : (Jvm.Cond.methodLink "BonnetValley$Order" (33 : Nat) ({ cls := "BonnetValley$Order", name := "act", desc := "()V" } : Jvm.MethodName)) ∈ lw_all := lw_g (lw_at lw_m4 130 rfl) rfl
theorem q960 : (Jvm.Cond.privateMethod ({ cls := "BonnetValley$Order", name := "act", desc := "()V" } : Jvm.MethodName)) ∈ lw_tbl := lw_at lw_m4 131 rfl
theorem q961 : (Jvm.Cond.instanceMethod ({ cls := "BonnetValley$Order", name := "act", desc := "()V" } : Jvm.MethodName)) ∈ lw_all := lw_g (lw_at lw_m4 132 rfl) rfl
theorem q962 : (Jvm.Cond.code ({ cls := "BonnetValley$Order", name := "act", desc := "()V" } : Jvm.MethodName) prog_4_method_3_code (3 : Nat) (Option.none : Option Jvm.ClassFile.FieldType)) ∈ lw_all := lw_g (lw_at lw_m4 133 rfl) rfl
theorem q963 : (Jvm.Cond.methodLink "BonnetValley$Order" (43 : Nat) ({ cls := "BonnetValley$Order", name := "here", desc := "()I" } : Jvm.MethodName)) ∈ lw_all := lw_g (lw_at lw_m4 134 rfl) rfl
theorem q964 : (Jvm.Cond.sameMethod "BonnetValley$Order" "BonnetValley$Words" "here" "()I") ∈ lw_all := lw_g (lw_at lw_m4 135 rfl) rfl
theorem q965 : (Jvm.Cond.selects "BonnetValley$Order" ({ cls := "BonnetValley$Order", name := "here", desc := "()I" } : Jvm.MethodName) ({ cls := "BonnetValley$Words", name := "here", desc := "()I" } : Jvm.MethodName)) ∈ lw_all := lw_g (lw_at lw_m4 136 rfl) rfl
theorem q966 : (Jvm.Cond.stringRef "BonnetValley$Order" (47 : Nat) "nfgbp") ∈ lw_tbl := lw_at lw_m4 137 rfl
theorem q967 : (Jvm.Cond.methodLink "BonnetValley$Order" (49 : Nat) ({ cls := "java/lang/String", name := "indexOf", desc := "(I)I" } : Jvm.MethodName)) ∈ lw_all := lw_g (lw_at lw_m4 138 rfl) rfl
theorem q968 : (Jvm.Cond.methodLink "BonnetValley$Order" (55 : Nat) ({ cls := "BonnetValley$Order", name := "need", desc := "(Z)V" } : Jvm.MethodName)) ∈ lw_all := lw_g (lw_at lw_m4 139 rfl) rfl
theorem q969 : (Jvm.Cond.sameMethod "BonnetValley$Order" "BonnetValley$Words" "need" "(Z)V") ∈ lw_all := lw_g (lw_at lw_m4 140 rfl) rfl
theorem q970 : (Jvm.Cond.selects "BonnetValley$Order" ({ cls := "BonnetValley$Order", name := "need", desc := "(Z)V" } : Jvm.MethodName) ({ cls := "BonnetValley$Words", name := "need", desc := "(Z)V" } : Jvm.MethodName)) ∈ lw_all := lw_g (lw_at lw_m4 141 rfl) rfl
theorem q971 : (Jvm.Cond.methodLink "BonnetValley$Order" (59 : Nat) ({ cls := "BonnetValley$Order", name := "one", desc := "(CI)I" } : Jvm.MethodName)) ∈ lw_all := lw_g (lw_at lw_m4 142 rfl) rfl
theorem q972 : (Jvm.Cond.sameMethod "BonnetValley$Order" "BonnetValley$Words" "one" "(CI)I") ∈ lw_all := lw_g (lw_at lw_m4 143 rfl) rfl
theorem q974 : (Jvm.Cond.selects "BonnetValley$Order" ({ cls := "BonnetValley$Order", name := "one", desc := "(CI)I" } : Jvm.MethodName) ({ cls := "BonnetValley$Words", name := "one", desc := "(CI)I" } : Jvm.MethodName)) ∈ lw_all := lw_g (lw_at lw_m4 145 rfl) rfl
theorem q975 : (Jvm.Cond.methodLink "BonnetValley$Order" (40 : Nat) ({ cls := "BonnetValley$Order", name := "needEnd", desc := "()V" } : Jvm.MethodName)) ∈ lw_all := lw_g (lw_at lw_m4 146 rfl) rfl
theorem q976 : (Jvm.Cond.sameMethod "BonnetValley$Order" "BonnetValley$Words" "needEnd" "()V") ∈ lw_all := lw_g (lw_at lw_m4 147 rfl) rfl
theorem q977 : (Jvm.Cond.selects "BonnetValley$Order" ({ cls := "BonnetValley$Order", name := "needEnd", desc := "()V" } : Jvm.MethodName) ({ cls := "BonnetValley$Words", name := "needEnd", desc := "()V" } : Jvm.MethodName)) ∈ lw_all := lw_g (lw_at lw_m4 148 rfl) rfl
theorem q1961 : (Jvm.Cond.castable "BonnetValley$Order" "java/lang/Object") ∈ lw_tbl := lw_at lw_m8 172 rfl
theorem in_X10 : ∀ w ∈ wsX100, w ∈ lw_all := lw_in wsX100 [949, 950, 951, 952, 939, 941, 943, 945, 947] (by decide +kernel) (by decide +kernel)

/-! BonnetValley$Page -/
set_option maxRecDepth 100000
def RX11 : String := "BonnetValley$Page"
def TX11 : u_T := fun k => match k with
  | 0 => ("BonnetValley$Page", "was", "LBonnetValley$Upland;", true)
  | 1 => ("BonnetValley$Page", "since", "I", true)
  | _ => ("BonnetValley$Page", "this$0", "LBonnetValley;", true)
def tyX11 : Nat → FieldType := fun k => match k with
  | 0 => .object "BonnetValley$Upland"
  | 1 => .int
  | _ => .object "BonnetValley"
abbrev wsX110 : List Cond := u_ws RX11 TX11 3
theorem nmX11 : ∀ a, a < 3 → ∀ b, b < 3 → a ≠ b → (TX11 a).2.1 ≠ (TX11 b).2.1 := by decide +kernel
theorem tyX11_ok : ∀ k, k < 3 → parseFieldDescriptor (TX11 k).2.2.1 = some (tyX11 k) := by decide +kernel
abbrev cX11_init : ByteArray := prog_5_method_1_code
def yX11_init : MethodName := ⟨RX11, "<init>", "(LBonnetValley;)V"⟩
def dkwX11_init_1 : List UInt8 := [180, 0, 1, 180, 0, 20, 181, 0, 26, 42, 180, 0, 16, 43, 180, 0, 29, 182, 0, 32, 177]
abbrev dktX11_init_1 : List UInt8 := dkwX11_init_1 ++ []
def dkwX11_init_0 : List UInt8 := [42, 43, 181, 0, 1, 42, 183, 0, 7, 42, 187, 0, 13, 89, 183, 0, 15, 181, 0, 16, 42, 42]
abbrev dktX11_init_0 : List UInt8 := dkwX11_init_0 ++ dktX11_init_1
theorem dksX11_init_0 : cX11_init.data.toList.drop 0 = dktX11_init_0 := by decide +kernel
theorem dksX11_init_1 : cX11_init.data.toList.drop 22 = dktX11_init_1 := dk_seg dksX11_init_0 22 rfl rfl
theorem dX11_init_0 : decode cX11_init 0 = .ok (.aload_n 0, 1) := dk_42 (dk_at dksX11_init_0 0 rfl rfl)
theorem dX11_init_1 : decode cX11_init 1 = .ok (.aload_n 1, 1) := dk_43 (dk_at dksX11_init_0 1 rfl rfl)
theorem dX11_init_2 : decode cX11_init 2 = .ok (.putfield 1, 3) := dk_181 0 1 (dk_at dksX11_init_0 2 rfl rfl)
theorem dX11_init_5 : decode cX11_init 5 = .ok (.aload_n 0, 1) := dk_42 (dk_at dksX11_init_0 5 rfl rfl)
theorem dX11_init_6 : decode cX11_init 6 = .ok (.invokespecial 7, 3) := dk_183 0 7 (dk_at dksX11_init_0 6 rfl rfl)
theorem dX11_init_9 : decode cX11_init 9 = .ok (.aload_n 0, 1) := dk_42 (dk_at dksX11_init_0 9 rfl rfl)
theorem dX11_init_10 : decode cX11_init 10 = .ok (.new 13, 3) := dk_187 0 13 (dk_at dksX11_init_0 10 rfl rfl)
theorem dX11_init_13 : decode cX11_init 13 = .ok (.dup, 1) := dk_89 (dk_at dksX11_init_0 13 rfl rfl)
theorem dX11_init_14 : decode cX11_init 14 = .ok (.invokespecial 15, 3) := dk_183 0 15 (dk_at dksX11_init_0 14 rfl rfl)
theorem dX11_init_17 : decode cX11_init 17 = .ok (.putfield 16, 3) := dk_181 0 16 (dk_at dksX11_init_0 17 rfl rfl)
theorem dX11_init_20 : decode cX11_init 20 = .ok (.aload_n 0, 1) := dk_42 (dk_at dksX11_init_0 20 rfl rfl)
theorem dX11_init_21 : decode cX11_init 21 = .ok (.aload_n 0, 1) := dk_42 (dk_at dksX11_init_0 21 rfl rfl)
theorem dX11_init_22 : decode cX11_init 22 = .ok (.getfield 1, 3) := dk_180 0 1 (dk_at dksX11_init_1 0 rfl rfl)
theorem dX11_init_25 : decode cX11_init 25 = .ok (.getfield 20, 3) := dk_180 0 20 (dk_at dksX11_init_1 3 rfl rfl)
theorem dX11_init_28 : decode cX11_init 28 = .ok (.putfield 26, 3) := dk_181 0 26 (dk_at dksX11_init_1 6 rfl rfl)
theorem dX11_init_31 : decode cX11_init 31 = .ok (.aload_n 0, 1) := dk_42 (dk_at dksX11_init_1 9 rfl rfl)
theorem dX11_init_32 : decode cX11_init 32 = .ok (.getfield 16, 3) := dk_180 0 16 (dk_at dksX11_init_1 10 rfl rfl)
theorem dX11_init_35 : decode cX11_init 35 = .ok (.aload_n 1, 1) := dk_43 (dk_at dksX11_init_1 13 rfl rfl)
theorem dX11_init_36 : decode cX11_init 36 = .ok (.getfield 29, 3) := dk_180 0 29 (dk_at dksX11_init_1 14 rfl rfl)
theorem dX11_init_39 : decode cX11_init 39 = .ok (.invokevirtual 32, 3) := dk_182 0 32 (dk_at dksX11_init_1 17 rfl rfl)
theorem dX11_init_42 : decode cX11_init 42 = .ok (.return_, 1) := dk_177 (dk_at dksX11_init_1 20 rfl rfl)
theorem q135 : (Jvm.Cond.initialized "BonnetValley$Page") ∈ lw_all := lw_g (lw_at lw_m1 26 rfl) rfl
theorem q240 : (Jvm.Cond.fieldLinkNest "BonnetValley$Page" (20 : Nat) "BonnetValley" "came" "I" "BonnetValley") ∈ lw_tbl := lw_at lw_m1 131 rfl
theorem q244 : (Jvm.Cond.fieldLinkNest "BonnetValley$Page" (29 : Nat) "BonnetValley" "now" "LBonnetValley$Upland;" "BonnetValley") ∈ lw_tbl := lw_at lw_m1 135 rfl
theorem q1209 : (Jvm.Cond.instantiable "BonnetValley$Page" (3 : Nat)) ∈ lw_all := lw_g (lw_at lw_m5 140 rfl) rfl
theorem q1211 : (Jvm.Cond.instanceMethod ({ cls := "BonnetValley$Page", name := "<init>", desc := "(LBonnetValley;)V" } : Jvm.MethodName)) ∈ lw_all := lw_g (lw_at lw_m5 142 rfl) rfl
theorem q1212 : (Jvm.Cond.code ({ cls := "BonnetValley$Page", name := "<init>", desc := "(LBonnetValley;)V" } : Jvm.MethodName) prog_5_method_1_code (2 : Nat) (Option.none : Option Jvm.ClassFile.FieldType)) ∈ lw_all := lw_g (lw_at lw_m5 143 rfl) rfl
theorem q1213 : (Jvm.Cond.methodLink "BonnetValley$Page" (7 : Nat) ({ cls := "java/lang/Object", name := "<init>", desc := "()V" } : Jvm.MethodName)) ∈ lw_all := lw_g (lw_at lw_m5 144 rfl) rfl
theorem q1214 : (Jvm.Cond.classLink "BonnetValley$Page" (13 : Nat) "BonnetValley$Upland") ∈ lw_all := lw_g (lw_at lw_m5 145 rfl) rfl
theorem q1215 : (Jvm.Cond.methodLinkNest "BonnetValley$Page" (15 : Nat) ({ cls := "BonnetValley$Upland", name := "<init>", desc := "()V" } : Jvm.MethodName) "BonnetValley") ∈ lw_tbl := lw_at lw_m5 146 rfl
theorem q1216 : (Jvm.Cond.methodLink "BonnetValley$Page" (32 : Nat) ({ cls := "BonnetValley$Upland", name := "be", desc := "(LBonnetValley$Upland;)V" } : Jvm.MethodName)) ∈ lw_all := lw_g (lw_at lw_m5 147 rfl) rfl
theorem q1217 : (Jvm.Cond.fieldLink "BonnetValley$Page" (16 : Nat) "BonnetValley$Page" "was" "LBonnetValley$Upland;") ∈ lw_all := lw_g (lw_at lw_m5 148 rfl) rfl
theorem q1219 : (Jvm.Cond.fieldLink "BonnetValley$Page" (26 : Nat) "BonnetValley$Page" "since" "I") ∈ lw_all := lw_g (lw_at lw_m5 150 rfl) rfl
theorem q1221 : (Jvm.Cond.fieldLink "BonnetValley$Page" (1 : Nat) "BonnetValley$Page" "this$0" "LBonnetValley;") ∈ lw_all := lw_g (lw_at lw_m5 152 rfl) rfl
theorem q1222 : (Jvm.Cond.laysFinal "BonnetValley$Page" "BonnetValley$Page" "was" "LBonnetValley$Upland;") ∈ lw_all := lw_g (lw_at lw_m5 153 rfl) rfl
theorem q1223 : (Jvm.Cond.soleField "BonnetValley$Page" "was") ∈ lw_all := lw_g (lw_at lw_m5 154 rfl) rfl
theorem q1224 : (Jvm.Cond.laysFinal "BonnetValley$Page" "BonnetValley$Page" "since" "I") ∈ lw_all := lw_g (lw_at lw_m5 155 rfl) rfl
theorem q1225 : (Jvm.Cond.soleField "BonnetValley$Page" "since") ∈ lw_all := lw_g (lw_at lw_m5 156 rfl) rfl
theorem q1226 : (Jvm.Cond.laysFinal "BonnetValley$Page" "BonnetValley$Page" "this$0" "LBonnetValley;") ∈ lw_all := lw_g (lw_at lw_m5 157 rfl) rfl
theorem q1227 : (Jvm.Cond.soleField "BonnetValley$Page" "this$0") ∈ lw_all := lw_g (lw_at lw_m5 158 rfl) rfl
theorem q1228 : (Jvm.Cond.superclass "BonnetValley$Page" "java/lang/Object") ∈ lw_all := lw_g (lw_at lw_m5 159 rfl) rfl
theorem q1962 : (Jvm.Cond.castable "BonnetValley$Page" "java/lang/Object") ∈ lw_tbl := lw_at lw_m8 173 rfl
theorem in_X11 : ∀ w ∈ wsX110, w ∈ lw_all := lw_in wsX110 [1222, 1224, 1226] (by decide +kernel) (by decide +kernel)

/-! BonnetValley$Look -/
set_option maxRecDepth 100000
def RX2 : String := "BonnetValley$Look"
def TX2 : u_T := fun k => match k with
  | _ => ("BonnetValley$Look", "this$0", "LBonnetValley;", true)
def tyX2 : Nat → FieldType := fun k => match k with
  | _ => .object "BonnetValley"
abbrev wsX20 : List Cond := u_ws RX2 TX2 1
theorem nmX2 : ∀ a, a < 1 → ∀ b, b < 1 → a ≠ b → (TX2 a).2.1 ≠ (TX2 b).2.1 := by decide +kernel
theorem tyX2_ok : ∀ k, k < 1 → parseFieldDescriptor (TX2 k).2.2.1 = some (tyX2 k) := by decide +kernel
abbrev cX2_init : ByteArray := prog_3_method_1_code
def yX2_init : MethodName := ⟨RX2, "<init>", "(LBonnetValley;)V"⟩
def dkwX2_init_0 : List UInt8 := [42, 43, 181, 0, 3, 42, 183, 0, 9, 177]
abbrev dktX2_init_0 : List UInt8 := dkwX2_init_0 ++ []
theorem dksX2_init_0 : cX2_init.data.toList.drop 0 = dktX2_init_0 := by decide +kernel
theorem dX2_init_0 : decode cX2_init 0 = .ok (.aload_n 0, 1) := dk_42 (dk_at dksX2_init_0 0 rfl rfl)
theorem dX2_init_1 : decode cX2_init 1 = .ok (.aload_n 1, 1) := dk_43 (dk_at dksX2_init_0 1 rfl rfl)
theorem dX2_init_2 : decode cX2_init 2 = .ok (.putfield 3, 3) := dk_181 0 3 (dk_at dksX2_init_0 2 rfl rfl)
theorem dX2_init_5 : decode cX2_init 5 = .ok (.aload_n 0, 1) := dk_42 (dk_at dksX2_init_0 5 rfl rfl)
theorem dX2_init_6 : decode cX2_init 6 = .ok (.invokespecial 9, 3) := dk_183 0 9 (dk_at dksX2_init_0 6 rfl rfl)
theorem dX2_init_9 : decode cX2_init 9 = .ok (.return_, 1) := dk_177 (dk_at dksX2_init_0 9 rfl rfl)
abbrev cX2_things : ByteArray := prog_3_method_8_code
def yX2_things : MethodName := ⟨RX2, "things", "(LBonnetValley$Upland;I)I"⟩
def dkwX2_things_2 : List UInt8 := [132, 4, 1, 167, 255, 214, 29, 172]
abbrev dktX2_things_2 : List UInt8 := dkwX2_things_2 ++ []
def dkwX2_things_1 : List UInt8 := [180, 0, 77, 21, 4, 46, 182, 0, 67, 153, 0, 10, 4, 21, 4, 120, 167, 0, 4, 3, 128, 62]
abbrev dktX2_things_1 : List UInt8 := dkwX2_things_1 ++ dktX2_things_2
def dkwX2_things_0 : List UInt8 := [3, 62, 3, 54, 4, 21, 4, 42, 180, 0, 3, 180, 0, 74, 162, 0, 36, 29, 42, 43, 28, 43]
abbrev dktX2_things_0 : List UInt8 := dkwX2_things_0 ++ dktX2_things_1
theorem dksX2_things_0 : cX2_things.data.toList.drop 0 = dktX2_things_0 := by decide +kernel
theorem dksX2_things_1 : cX2_things.data.toList.drop 22 = dktX2_things_1 := dk_seg dksX2_things_0 22 rfl rfl
theorem dksX2_things_2 : cX2_things.data.toList.drop 44 = dktX2_things_2 := dk_seg dksX2_things_1 22 rfl rfl
theorem dX2_things_0 : decode cX2_things 0 = .ok (.iconst 0, 1) := dk_3 (dk_at dksX2_things_0 0 rfl rfl)
theorem dX2_things_1 : decode cX2_things 1 = .ok (.istore_n 3, 1) := dk_62 (dk_at dksX2_things_0 1 rfl rfl)
theorem dX2_things_2 : decode cX2_things 2 = .ok (.iconst 0, 1) := dk_3 (dk_at dksX2_things_0 2 rfl rfl)
theorem dX2_things_3 : decode cX2_things 3 = .ok (.istore 4, 2) := dk_54 4 (dk_at dksX2_things_0 3 rfl rfl)
theorem dX2_things_5 : decode cX2_things 5 = .ok (.iload 4, 2) := dk_21 4 (dk_at dksX2_things_0 5 rfl rfl)
theorem dX2_things_7 : decode cX2_things 7 = .ok (.aload_n 0, 1) := dk_42 (dk_at dksX2_things_0 7 rfl rfl)
theorem dX2_things_8 : decode cX2_things 8 = .ok (.getfield 3, 3) := dk_180 0 3 (dk_at dksX2_things_0 8 rfl rfl)
theorem dX2_things_11 : decode cX2_things 11 = .ok (.getfield 74, 3) := dk_180 0 74 (dk_at dksX2_things_0 11 rfl rfl)
theorem dX2_things_14 : decode cX2_things 14 = .ok (.if_icmp .ge 36, 3) := dk_162 0 36 (dk_at dksX2_things_0 14 rfl rfl)
theorem dX2_things_17 : decode cX2_things 17 = .ok (.iload_n 3, 1) := dk_29 (dk_at dksX2_things_0 17 rfl rfl)
theorem dX2_things_18 : decode cX2_things 18 = .ok (.aload_n 0, 1) := dk_42 (dk_at dksX2_things_0 18 rfl rfl)
theorem dX2_things_19 : decode cX2_things 19 = .ok (.aload_n 1, 1) := dk_43 (dk_at dksX2_things_0 19 rfl rfl)
theorem dX2_things_20 : decode cX2_things 20 = .ok (.iload_n 2, 1) := dk_28 (dk_at dksX2_things_0 20 rfl rfl)
theorem dX2_things_21 : decode cX2_things 21 = .ok (.aload_n 1, 1) := dk_43 (dk_at dksX2_things_0 21 rfl rfl)
theorem dX2_things_22 : decode cX2_things 22 = .ok (.getfield 77, 3) := dk_180 0 77 (dk_at dksX2_things_1 0 rfl rfl)
theorem dX2_things_25 : decode cX2_things 25 = .ok (.iload 4, 2) := dk_21 4 (dk_at dksX2_things_1 3 rfl rfl)
theorem dX2_things_27 : decode cX2_things 27 = .ok (.iaload, 1) := dk_46 (dk_at dksX2_things_1 5 rfl rfl)
theorem dX2_things_28 : decode cX2_things 28 = .ok (.invokevirtual 67, 3) := dk_182 0 67 (dk_at dksX2_things_1 6 rfl rfl)
theorem dX2_things_31 : decode cX2_things 31 = .ok (.ifCond .eq 10, 3) := dk_153 0 10 (dk_at dksX2_things_1 9 rfl rfl)
theorem dX2_things_34 : decode cX2_things 34 = .ok (.iconst 1, 1) := dk_4 (dk_at dksX2_things_1 12 rfl rfl)
theorem dX2_things_35 : decode cX2_things 35 = .ok (.iload 4, 2) := dk_21 4 (dk_at dksX2_things_1 13 rfl rfl)
theorem dX2_things_37 : decode cX2_things 37 = .ok (.ishl, 1) := dk_120 (dk_at dksX2_things_1 15 rfl rfl)
theorem dX2_things_38 : decode cX2_things 38 = .ok (.goto 4, 3) := dk_167 0 4 (dk_at dksX2_things_1 16 rfl rfl)
theorem dX2_things_41 : decode cX2_things 41 = .ok (.iconst 0, 1) := dk_3 (dk_at dksX2_things_1 19 rfl rfl)
theorem dX2_things_42 : decode cX2_things 42 = .ok (.ior, 1) := dk_128 (dk_at dksX2_things_1 20 rfl rfl)
theorem dX2_things_43 : decode cX2_things 43 = .ok (.istore_n 3, 1) := dk_62 (dk_at dksX2_things_1 21 rfl rfl)
theorem dX2_things_44 : decode cX2_things 44 = .ok (.iinc 4 1, 3) := dk_132 4 1 (dk_at dksX2_things_2 0 rfl rfl)
theorem dX2_things_47 : decode cX2_things 47 = .ok (.goto (-42), 3) := dk_167 255 214 (dk_at dksX2_things_2 3 rfl rfl)
theorem dX2_things_50 : decode cX2_things 50 = .ok (.iload_n 3, 1) := dk_29 (dk_at dksX2_things_2 6 rfl rfl)
theorem dX2_things_51 : decode cX2_things 51 = .ok (.ireturn, 1) := dk_172 (dk_at dksX2_things_2 7 rfl rfl)
abbrev cX2_sees : ByteArray := prog_3_method_5_code
def yX2_sees : MethodName := ⟨RX2, "sees", "(LBonnetValley$Upland;II)Z"⟩
def dkwX2_sees_5 : List UInt8 := [42, 180, 0, 3, 43, 180, 0, 28, 28, 46, 29, 182, 0, 59, 153, 0, 7, 4, 167, 0, 4, 3, 172]
abbrev dktX2_sees_5 : List UInt8 := dkwX2_sees_5 ++ []
def dkwX2_sees_4 : List UInt8 := [182, 0, 49, 21, 4, 21, 5, 184, 0, 51, 184, 0, 54, 7, 42, 43, 28, 182, 0, 57, 100, 163, 0, 24]
abbrev dktX2_sees_4 : List UInt8 := dkwX2_sees_4 ++ dktX2_sees_5
def dkwX2_sees_3 : List UInt8 := [21, 5, 184, 0, 35, 184, 0, 41, 42, 43, 28, 182, 0, 45, 164, 0, 5, 3, 172, 42, 43, 28]
abbrev dktX2_sees_3 : List UInt8 := dkwX2_sees_3 ++ dktX2_sees_4
def dkwX2_sees_2 : List UInt8 := [112, 43, 180, 0, 28, 28, 46, 42, 180, 0, 3, 180, 0, 31, 112, 100, 54, 5, 21, 4, 184, 0, 35]
abbrev dktX2_sees_2 : List UInt8 := dkwX2_sees_2 ++ dktX2_sees_3
def dkwX2_sees_1 : List UInt8 := [180, 0, 28, 28, 46, 42, 180, 0, 3, 180, 0, 31, 108, 100, 54, 4, 29, 42, 180, 0, 3, 180, 0, 31]
abbrev dktX2_sees_1 : List UInt8 := dkwX2_sees_1 ++ dktX2_sees_2
def dkwX2_sees_0 : List UInt8 := [29, 43, 180, 0, 28, 28, 46, 160, 0, 5, 4, 172, 29, 42, 180, 0, 3, 180, 0, 31, 108, 43]
abbrev dktX2_sees_0 : List UInt8 := dkwX2_sees_0 ++ dktX2_sees_1
theorem dksX2_sees_0 : cX2_sees.data.toList.drop 0 = dktX2_sees_0 := by decide +kernel
theorem dksX2_sees_1 : cX2_sees.data.toList.drop 22 = dktX2_sees_1 := dk_seg dksX2_sees_0 22 rfl rfl
theorem dksX2_sees_2 : cX2_sees.data.toList.drop 46 = dktX2_sees_2 := dk_seg dksX2_sees_1 24 rfl rfl
theorem dksX2_sees_3 : cX2_sees.data.toList.drop 69 = dktX2_sees_3 := dk_seg dksX2_sees_2 23 rfl rfl
theorem dksX2_sees_4 : cX2_sees.data.toList.drop 91 = dktX2_sees_4 := dk_seg dksX2_sees_3 22 rfl rfl
theorem dksX2_sees_5 : cX2_sees.data.toList.drop 115 = dktX2_sees_5 := dk_seg dksX2_sees_4 24 rfl rfl
theorem dX2_sees_0 : decode cX2_sees 0 = .ok (.iload_n 3, 1) := dk_29 (dk_at dksX2_sees_0 0 rfl rfl)
theorem dX2_sees_1 : decode cX2_sees 1 = .ok (.aload_n 1, 1) := dk_43 (dk_at dksX2_sees_0 1 rfl rfl)
theorem dX2_sees_2 : decode cX2_sees 2 = .ok (.getfield 28, 3) := dk_180 0 28 (dk_at dksX2_sees_0 2 rfl rfl)
theorem dX2_sees_5 : decode cX2_sees 5 = .ok (.iload_n 2, 1) := dk_28 (dk_at dksX2_sees_0 5 rfl rfl)
theorem dX2_sees_6 : decode cX2_sees 6 = .ok (.iaload, 1) := dk_46 (dk_at dksX2_sees_0 6 rfl rfl)
theorem dX2_sees_7 : decode cX2_sees 7 = .ok (.if_icmp .ne 5, 3) := dk_160 0 5 (dk_at dksX2_sees_0 7 rfl rfl)
theorem dX2_sees_10 : decode cX2_sees 10 = .ok (.iconst 1, 1) := dk_4 (dk_at dksX2_sees_0 10 rfl rfl)
theorem dX2_sees_11 : decode cX2_sees 11 = .ok (.ireturn, 1) := dk_172 (dk_at dksX2_sees_0 11 rfl rfl)
theorem dX2_sees_12 : decode cX2_sees 12 = .ok (.iload_n 3, 1) := dk_29 (dk_at dksX2_sees_0 12 rfl rfl)
theorem dX2_sees_13 : decode cX2_sees 13 = .ok (.aload_n 0, 1) := dk_42 (dk_at dksX2_sees_0 13 rfl rfl)
theorem dX2_sees_14 : decode cX2_sees 14 = .ok (.getfield 3, 3) := dk_180 0 3 (dk_at dksX2_sees_0 14 rfl rfl)
theorem dX2_sees_17 : decode cX2_sees 17 = .ok (.getfield 31, 3) := dk_180 0 31 (dk_at dksX2_sees_0 17 rfl rfl)
theorem dX2_sees_20 : decode cX2_sees 20 = .ok (.idiv, 1) := dk_108 (dk_at dksX2_sees_0 20 rfl rfl)
theorem dX2_sees_21 : decode cX2_sees 21 = .ok (.aload_n 1, 1) := dk_43 (dk_at dksX2_sees_0 21 rfl rfl)
theorem dX2_sees_22 : decode cX2_sees 22 = .ok (.getfield 28, 3) := dk_180 0 28 (dk_at dksX2_sees_1 0 rfl rfl)
theorem dX2_sees_25 : decode cX2_sees 25 = .ok (.iload_n 2, 1) := dk_28 (dk_at dksX2_sees_1 3 rfl rfl)
theorem dX2_sees_26 : decode cX2_sees 26 = .ok (.iaload, 1) := dk_46 (dk_at dksX2_sees_1 4 rfl rfl)
theorem dX2_sees_27 : decode cX2_sees 27 = .ok (.aload_n 0, 1) := dk_42 (dk_at dksX2_sees_1 5 rfl rfl)
theorem dX2_sees_28 : decode cX2_sees 28 = .ok (.getfield 3, 3) := dk_180 0 3 (dk_at dksX2_sees_1 6 rfl rfl)
theorem dX2_sees_31 : decode cX2_sees 31 = .ok (.getfield 31, 3) := dk_180 0 31 (dk_at dksX2_sees_1 9 rfl rfl)
theorem dX2_sees_34 : decode cX2_sees 34 = .ok (.idiv, 1) := dk_108 (dk_at dksX2_sees_1 12 rfl rfl)
theorem dX2_sees_35 : decode cX2_sees 35 = .ok (.isub, 1) := dk_100 (dk_at dksX2_sees_1 13 rfl rfl)
theorem dX2_sees_36 : decode cX2_sees 36 = .ok (.istore 4, 2) := dk_54 4 (dk_at dksX2_sees_1 14 rfl rfl)
theorem dX2_sees_38 : decode cX2_sees 38 = .ok (.iload_n 3, 1) := dk_29 (dk_at dksX2_sees_1 16 rfl rfl)
theorem dX2_sees_39 : decode cX2_sees 39 = .ok (.aload_n 0, 1) := dk_42 (dk_at dksX2_sees_1 17 rfl rfl)
theorem dX2_sees_40 : decode cX2_sees 40 = .ok (.getfield 3, 3) := dk_180 0 3 (dk_at dksX2_sees_1 18 rfl rfl)
theorem dX2_sees_43 : decode cX2_sees 43 = .ok (.getfield 31, 3) := dk_180 0 31 (dk_at dksX2_sees_1 21 rfl rfl)
theorem dX2_sees_46 : decode cX2_sees 46 = .ok (.irem, 1) := dk_112 (dk_at dksX2_sees_2 0 rfl rfl)
theorem dX2_sees_47 : decode cX2_sees 47 = .ok (.aload_n 1, 1) := dk_43 (dk_at dksX2_sees_2 1 rfl rfl)
theorem dX2_sees_48 : decode cX2_sees 48 = .ok (.getfield 28, 3) := dk_180 0 28 (dk_at dksX2_sees_2 2 rfl rfl)
theorem dX2_sees_51 : decode cX2_sees 51 = .ok (.iload_n 2, 1) := dk_28 (dk_at dksX2_sees_2 5 rfl rfl)
theorem dX2_sees_52 : decode cX2_sees 52 = .ok (.iaload, 1) := dk_46 (dk_at dksX2_sees_2 6 rfl rfl)
theorem dX2_sees_53 : decode cX2_sees 53 = .ok (.aload_n 0, 1) := dk_42 (dk_at dksX2_sees_2 7 rfl rfl)
theorem dX2_sees_54 : decode cX2_sees 54 = .ok (.getfield 3, 3) := dk_180 0 3 (dk_at dksX2_sees_2 8 rfl rfl)
theorem dX2_sees_57 : decode cX2_sees 57 = .ok (.getfield 31, 3) := dk_180 0 31 (dk_at dksX2_sees_2 11 rfl rfl)
theorem dX2_sees_60 : decode cX2_sees 60 = .ok (.irem, 1) := dk_112 (dk_at dksX2_sees_2 14 rfl rfl)
theorem dX2_sees_61 : decode cX2_sees 61 = .ok (.isub, 1) := dk_100 (dk_at dksX2_sees_2 15 rfl rfl)
theorem dX2_sees_62 : decode cX2_sees 62 = .ok (.istore 5, 2) := dk_54 5 (dk_at dksX2_sees_2 16 rfl rfl)
theorem dX2_sees_64 : decode cX2_sees 64 = .ok (.iload 4, 2) := dk_21 4 (dk_at dksX2_sees_2 18 rfl rfl)
theorem dX2_sees_66 : decode cX2_sees 66 = .ok (.invokestatic 35, 3) := dk_184 0 35 (dk_at dksX2_sees_2 20 rfl rfl)
theorem dX2_sees_69 : decode cX2_sees 69 = .ok (.iload 5, 2) := dk_21 5 (dk_at dksX2_sees_3 0 rfl rfl)
theorem dX2_sees_71 : decode cX2_sees 71 = .ok (.invokestatic 35, 3) := dk_184 0 35 (dk_at dksX2_sees_3 2 rfl rfl)
theorem dX2_sees_74 : decode cX2_sees 74 = .ok (.invokestatic 41, 3) := dk_184 0 41 (dk_at dksX2_sees_3 5 rfl rfl)
theorem dX2_sees_77 : decode cX2_sees 77 = .ok (.aload_n 0, 1) := dk_42 (dk_at dksX2_sees_3 8 rfl rfl)
theorem dX2_sees_78 : decode cX2_sees 78 = .ok (.aload_n 1, 1) := dk_43 (dk_at dksX2_sees_3 9 rfl rfl)
theorem dX2_sees_79 : decode cX2_sees 79 = .ok (.iload_n 2, 1) := dk_28 (dk_at dksX2_sees_3 10 rfl rfl)
theorem dX2_sees_80 : decode cX2_sees 80 = .ok (.invokevirtual 45, 3) := dk_182 0 45 (dk_at dksX2_sees_3 11 rfl rfl)
theorem dX2_sees_83 : decode cX2_sees 83 = .ok (.if_icmp .le 5, 3) := dk_164 0 5 (dk_at dksX2_sees_3 14 rfl rfl)
theorem dX2_sees_86 : decode cX2_sees 86 = .ok (.iconst 0, 1) := dk_3 (dk_at dksX2_sees_3 17 rfl rfl)
theorem dX2_sees_87 : decode cX2_sees 87 = .ok (.ireturn, 1) := dk_172 (dk_at dksX2_sees_3 18 rfl rfl)
theorem dX2_sees_88 : decode cX2_sees 88 = .ok (.aload_n 0, 1) := dk_42 (dk_at dksX2_sees_3 19 rfl rfl)
theorem dX2_sees_89 : decode cX2_sees 89 = .ok (.aload_n 1, 1) := dk_43 (dk_at dksX2_sees_3 20 rfl rfl)
theorem dX2_sees_90 : decode cX2_sees 90 = .ok (.iload_n 2, 1) := dk_28 (dk_at dksX2_sees_3 21 rfl rfl)
theorem dX2_sees_91 : decode cX2_sees 91 = .ok (.invokevirtual 49, 3) := dk_182 0 49 (dk_at dksX2_sees_4 0 rfl rfl)
theorem dX2_sees_94 : decode cX2_sees 94 = .ok (.iload 4, 2) := dk_21 4 (dk_at dksX2_sees_4 3 rfl rfl)
theorem dX2_sees_96 : decode cX2_sees 96 = .ok (.iload 5, 2) := dk_21 5 (dk_at dksX2_sees_4 5 rfl rfl)
theorem dX2_sees_98 : decode cX2_sees 98 = .ok (.invokestatic 51, 3) := dk_184 0 51 (dk_at dksX2_sees_4 7 rfl rfl)
theorem dX2_sees_101 : decode cX2_sees 101 = .ok (.invokestatic 54, 3) := dk_184 0 54 (dk_at dksX2_sees_4 10 rfl rfl)
theorem dX2_sees_104 : decode cX2_sees 104 = .ok (.iconst 4, 1) := dk_7 (dk_at dksX2_sees_4 13 rfl rfl)
theorem dX2_sees_105 : decode cX2_sees 105 = .ok (.aload_n 0, 1) := dk_42 (dk_at dksX2_sees_4 14 rfl rfl)
theorem dX2_sees_106 : decode cX2_sees 106 = .ok (.aload_n 1, 1) := dk_43 (dk_at dksX2_sees_4 15 rfl rfl)
theorem dX2_sees_107 : decode cX2_sees 107 = .ok (.iload_n 2, 1) := dk_28 (dk_at dksX2_sees_4 16 rfl rfl)
theorem dX2_sees_108 : decode cX2_sees 108 = .ok (.invokevirtual 57, 3) := dk_182 0 57 (dk_at dksX2_sees_4 17 rfl rfl)
theorem dX2_sees_111 : decode cX2_sees 111 = .ok (.isub, 1) := dk_100 (dk_at dksX2_sees_4 20 rfl rfl)
theorem dX2_sees_112 : decode cX2_sees 112 = .ok (.if_icmp .gt 24, 3) := dk_163 0 24 (dk_at dksX2_sees_4 21 rfl rfl)
theorem dX2_sees_115 : decode cX2_sees 115 = .ok (.aload_n 0, 1) := dk_42 (dk_at dksX2_sees_5 0 rfl rfl)
theorem dX2_sees_116 : decode cX2_sees 116 = .ok (.getfield 3, 3) := dk_180 0 3 (dk_at dksX2_sees_5 1 rfl rfl)
theorem dX2_sees_119 : decode cX2_sees 119 = .ok (.aload_n 1, 1) := dk_43 (dk_at dksX2_sees_5 4 rfl rfl)
theorem dX2_sees_120 : decode cX2_sees 120 = .ok (.getfield 28, 3) := dk_180 0 28 (dk_at dksX2_sees_5 5 rfl rfl)
theorem dX2_sees_123 : decode cX2_sees 123 = .ok (.iload_n 2, 1) := dk_28 (dk_at dksX2_sees_5 8 rfl rfl)
theorem dX2_sees_124 : decode cX2_sees 124 = .ok (.iaload, 1) := dk_46 (dk_at dksX2_sees_5 9 rfl rfl)
theorem dX2_sees_125 : decode cX2_sees 125 = .ok (.iload_n 3, 1) := dk_29 (dk_at dksX2_sees_5 10 rfl rfl)
theorem dX2_sees_126 : decode cX2_sees 126 = .ok (.invokevirtual 59, 3) := dk_182 0 59 (dk_at dksX2_sees_5 11 rfl rfl)
theorem dX2_sees_129 : decode cX2_sees 129 = .ok (.ifCond .eq 7, 3) := dk_153 0 7 (dk_at dksX2_sees_5 14 rfl rfl)
theorem dX2_sees_132 : decode cX2_sees 132 = .ok (.iconst 1, 1) := dk_4 (dk_at dksX2_sees_5 17 rfl rfl)
theorem dX2_sees_133 : decode cX2_sees 133 = .ok (.goto 4, 3) := dk_167 0 4 (dk_at dksX2_sees_5 18 rfl rfl)
theorem dX2_sees_136 : decode cX2_sees 136 = .ok (.iconst 0, 1) := dk_3 (dk_at dksX2_sees_5 21 rfl rfl)
theorem dX2_sees_137 : decode cX2_sees 137 = .ok (.ireturn, 1) := dk_172 (dk_at dksX2_sees_5 22 rfl rfl)
abbrev cX2_reach : ByteArray := prog_3_method_4_code
def yX2_reach : MethodName := ⟨RX2, "reach", "(LBonnetValley$Upland;I)I"⟩
def dkwX2_reach_0 : List UInt8 := [42, 180, 0, 3, 43, 28, 43, 180, 0, 21, 28, 46, 182, 0, 24, 172]
abbrev dktX2_reach_0 : List UInt8 := dkwX2_reach_0 ++ []
theorem dksX2_reach_0 : cX2_reach.data.toList.drop 0 = dktX2_reach_0 := by decide +kernel
theorem dX2_reach_0 : decode cX2_reach 0 = .ok (.aload_n 0, 1) := dk_42 (dk_at dksX2_reach_0 0 rfl rfl)
theorem dX2_reach_1 : decode cX2_reach 1 = .ok (.getfield 3, 3) := dk_180 0 3 (dk_at dksX2_reach_0 1 rfl rfl)
theorem dX2_reach_4 : decode cX2_reach 4 = .ok (.aload_n 1, 1) := dk_43 (dk_at dksX2_reach_0 4 rfl rfl)
theorem dX2_reach_5 : decode cX2_reach 5 = .ok (.iload_n 2, 1) := dk_28 (dk_at dksX2_reach_0 5 rfl rfl)
theorem dX2_reach_6 : decode cX2_reach 6 = .ok (.aload_n 1, 1) := dk_43 (dk_at dksX2_reach_0 6 rfl rfl)
theorem dX2_reach_7 : decode cX2_reach 7 = .ok (.getfield 21, 3) := dk_180 0 21 (dk_at dksX2_reach_0 7 rfl rfl)
theorem dX2_reach_10 : decode cX2_reach 10 = .ok (.iload_n 2, 1) := dk_28 (dk_at dksX2_reach_0 10 rfl rfl)
theorem dX2_reach_11 : decode cX2_reach 11 = .ok (.iaload, 1) := dk_46 (dk_at dksX2_reach_0 11 rfl rfl)
theorem dX2_reach_12 : decode cX2_reach 12 = .ok (.invokevirtual 24, 3) := dk_182 0 24 (dk_at dksX2_reach_0 12 rfl rfl)
theorem dX2_reach_15 : decode cX2_reach 15 = .ok (.ireturn, 1) := dk_172 (dk_at dksX2_reach_0 15 rfl rfl)
abbrev cX2_facing : ByteArray := prog_3_method_2_code
def yX2_facing : MethodName := ⟨RX2, "facing", "(LBonnetValley$Upland;I)I"⟩
def dkwX2_facing_0 : List UInt8 := [43, 180, 0, 15, 28, 46, 172]
abbrev dktX2_facing_0 : List UInt8 := dkwX2_facing_0 ++ []
theorem dksX2_facing_0 : cX2_facing.data.toList.drop 0 = dktX2_facing_0 := by decide +kernel
theorem dX2_facing_0 : decode cX2_facing 0 = .ok (.aload_n 1, 1) := dk_43 (dk_at dksX2_facing_0 0 rfl rfl)
theorem dX2_facing_1 : decode cX2_facing 1 = .ok (.getfield 15, 3) := dk_180 0 15 (dk_at dksX2_facing_0 1 rfl rfl)
theorem dX2_facing_4 : decode cX2_facing 4 = .ok (.iload_n 2, 1) := dk_28 (dk_at dksX2_facing_0 4 rfl rfl)
theorem dX2_facing_5 : decode cX2_facing 5 = .ok (.iaload, 1) := dk_46 (dk_at dksX2_facing_0 5 rfl rfl)
theorem dX2_facing_6 : decode cX2_facing 6 = .ok (.ireturn, 1) := dk_172 (dk_at dksX2_facing_0 6 rfl rfl)
abbrev cX2_brim : ByteArray := prog_3_method_3_code
def yX2_brim : MethodName := ⟨RX2, "brim", "(LBonnetValley$Upland;I)I"⟩
def dkwX2_brim_0 : List UInt8 := [43, 180, 0, 21, 28, 46, 172]
abbrev dktX2_brim_0 : List UInt8 := dkwX2_brim_0 ++ []
theorem dksX2_brim_0 : cX2_brim.data.toList.drop 0 = dktX2_brim_0 := by decide +kernel
theorem dX2_brim_0 : decode cX2_brim 0 = .ok (.aload_n 1, 1) := dk_43 (dk_at dksX2_brim_0 0 rfl rfl)
theorem dX2_brim_1 : decode cX2_brim 1 = .ok (.getfield 21, 3) := dk_180 0 21 (dk_at dksX2_brim_0 1 rfl rfl)
theorem dX2_brim_4 : decode cX2_brim 4 = .ok (.iload_n 2, 1) := dk_28 (dk_at dksX2_brim_0 4 rfl rfl)
theorem dX2_brim_5 : decode cX2_brim 5 = .ok (.iaload, 1) := dk_46 (dk_at dksX2_brim_0 5 rfl rfl)
theorem dX2_brim_6 : decode cX2_brim 6 = .ok (.ireturn, 1) := dk_172 (dk_at dksX2_brim_0 6 rfl rfl)
abbrev cX2_fields : ByteArray := prog_3_method_6_code
def yX2_fields : MethodName := ⟨RX2, "fields", "(LBonnetValley$Upland;I)J"⟩
def dkwX2_fields_1 : List UInt8 := [153, 0, 10, 10, 21, 5, 121, 167, 0, 4, 9, 129, 66, 132, 5, 1, 167, 255, 222, 33, 173]
abbrev dktX2_fields_1 : List UInt8 := dkwX2_fields_1 ++ []
def dkwX2_fields_0 : List UInt8 := [9, 66, 3, 54, 5, 21, 5, 42, 182, 0, 63, 162, 0, 31, 33, 42, 43, 28, 21, 5, 182, 0, 67]
abbrev dktX2_fields_0 : List UInt8 := dkwX2_fields_0 ++ dktX2_fields_1
theorem dksX2_fields_0 : cX2_fields.data.toList.drop 0 = dktX2_fields_0 := by decide +kernel
theorem dksX2_fields_1 : cX2_fields.data.toList.drop 23 = dktX2_fields_1 := dk_seg dksX2_fields_0 23 rfl rfl
theorem dX2_fields_0 : decode cX2_fields 0 = .ok (.lconst 0, 1) := dk_9 (dk_at dksX2_fields_0 0 rfl rfl)
theorem dX2_fields_1 : decode cX2_fields 1 = .ok (.lstore_n 3, 1) := dk_66 (dk_at dksX2_fields_0 1 rfl rfl)
theorem dX2_fields_2 : decode cX2_fields 2 = .ok (.iconst 0, 1) := dk_3 (dk_at dksX2_fields_0 2 rfl rfl)
theorem dX2_fields_3 : decode cX2_fields 3 = .ok (.istore 5, 2) := dk_54 5 (dk_at dksX2_fields_0 3 rfl rfl)
theorem dX2_fields_5 : decode cX2_fields 5 = .ok (.iload 5, 2) := dk_21 5 (dk_at dksX2_fields_0 5 rfl rfl)
theorem dX2_fields_7 : decode cX2_fields 7 = .ok (.aload_n 0, 1) := dk_42 (dk_at dksX2_fields_0 7 rfl rfl)
theorem dX2_fields_8 : decode cX2_fields 8 = .ok (.invokevirtual 63, 3) := dk_182 0 63 (dk_at dksX2_fields_0 8 rfl rfl)
theorem dX2_fields_11 : decode cX2_fields 11 = .ok (.if_icmp .ge 31, 3) := dk_162 0 31 (dk_at dksX2_fields_0 11 rfl rfl)
theorem dX2_fields_14 : decode cX2_fields 14 = .ok (.lload_n 3, 1) := dk_33 (dk_at dksX2_fields_0 14 rfl rfl)
theorem dX2_fields_15 : decode cX2_fields 15 = .ok (.aload_n 0, 1) := dk_42 (dk_at dksX2_fields_0 15 rfl rfl)
theorem dX2_fields_16 : decode cX2_fields 16 = .ok (.aload_n 1, 1) := dk_43 (dk_at dksX2_fields_0 16 rfl rfl)
theorem dX2_fields_17 : decode cX2_fields 17 = .ok (.iload_n 2, 1) := dk_28 (dk_at dksX2_fields_0 17 rfl rfl)
theorem dX2_fields_18 : decode cX2_fields 18 = .ok (.iload 5, 2) := dk_21 5 (dk_at dksX2_fields_0 18 rfl rfl)
theorem dX2_fields_20 : decode cX2_fields 20 = .ok (.invokevirtual 67, 3) := dk_182 0 67 (dk_at dksX2_fields_0 20 rfl rfl)
theorem dX2_fields_23 : decode cX2_fields 23 = .ok (.ifCond .eq 10, 3) := dk_153 0 10 (dk_at dksX2_fields_1 0 rfl rfl)
theorem dX2_fields_26 : decode cX2_fields 26 = .ok (.lconst 1, 1) := dk_10 (dk_at dksX2_fields_1 3 rfl rfl)
theorem dX2_fields_27 : decode cX2_fields 27 = .ok (.iload 5, 2) := dk_21 5 (dk_at dksX2_fields_1 4 rfl rfl)
theorem dX2_fields_29 : decode cX2_fields 29 = .ok (.lshl, 1) := dk_121 (dk_at dksX2_fields_1 6 rfl rfl)
theorem dX2_fields_30 : decode cX2_fields 30 = .ok (.goto 4, 3) := dk_167 0 4 (dk_at dksX2_fields_1 7 rfl rfl)
theorem dX2_fields_33 : decode cX2_fields 33 = .ok (.lconst 0, 1) := dk_9 (dk_at dksX2_fields_1 10 rfl rfl)
theorem dX2_fields_34 : decode cX2_fields 34 = .ok (.lor, 1) := dk_129 (dk_at dksX2_fields_1 11 rfl rfl)
theorem dX2_fields_35 : decode cX2_fields 35 = .ok (.lstore_n 3, 1) := dk_66 (dk_at dksX2_fields_1 12 rfl rfl)
theorem dX2_fields_36 : decode cX2_fields 36 = .ok (.iinc 5 1, 3) := dk_132 5 1 (dk_at dksX2_fields_1 13 rfl rfl)
theorem dX2_fields_39 : decode cX2_fields 39 = .ok (.goto (-34), 3) := dk_167 255 222 (dk_at dksX2_fields_1 16 rfl rfl)
theorem dX2_fields_42 : decode cX2_fields 42 = .ok (.lload_n 3, 1) := dk_33 (dk_at dksX2_fields_1 19 rfl rfl)
theorem dX2_fields_43 : decode cX2_fields 43 = .ok (.lreturn, 1) := dk_173 (dk_at dksX2_fields_1 20 rfl rfl)
abbrev cX2_all : ByteArray := prog_3_method_7_code
def yX2_all : MethodName := ⟨RX2, "all", "()I"⟩
def dkwX2_all_0 : List UInt8 := [42, 180, 0, 3, 180, 0, 71, 42, 180, 0, 3, 180, 0, 31, 104, 172]
abbrev dktX2_all_0 : List UInt8 := dkwX2_all_0 ++ []
theorem dksX2_all_0 : cX2_all.data.toList.drop 0 = dktX2_all_0 := by decide +kernel
theorem dX2_all_0 : decode cX2_all 0 = .ok (.aload_n 0, 1) := dk_42 (dk_at dksX2_all_0 0 rfl rfl)
theorem dX2_all_1 : decode cX2_all 1 = .ok (.getfield 3, 3) := dk_180 0 3 (dk_at dksX2_all_0 1 rfl rfl)
theorem dX2_all_4 : decode cX2_all 4 = .ok (.getfield 71, 3) := dk_180 0 71 (dk_at dksX2_all_0 4 rfl rfl)
theorem dX2_all_7 : decode cX2_all 7 = .ok (.aload_n 0, 1) := dk_42 (dk_at dksX2_all_0 7 rfl rfl)
theorem dX2_all_8 : decode cX2_all 8 = .ok (.getfield 3, 3) := dk_180 0 3 (dk_at dksX2_all_0 8 rfl rfl)
theorem dX2_all_11 : decode cX2_all 11 = .ok (.getfield 31, 3) := dk_180 0 31 (dk_at dksX2_all_0 11 rfl rfl)
theorem dX2_all_14 : decode cX2_all 14 = .ok (.imul, 1) := dk_104 (dk_at dksX2_all_0 14 rfl rfl)
theorem dX2_all_15 : decode cX2_all 15 = .ok (.ireturn, 1) := dk_172 (dk_at dksX2_all_0 15 rfl rfl)
theorem q111 : (Jvm.Cond.initialized "BonnetValley$Look") ∈ lw_all := lw_g (lw_at lw_m1 2 rfl) rfl
theorem q145 : (Jvm.Cond.instantiable "BonnetValley$Look" (1 : Nat)) ∈ lw_all := lw_g (lw_at lw_m1 36 rfl) rfl
theorem q147 : (Jvm.Cond.instanceMethod ({ cls := "BonnetValley$Look", name := "<init>", desc := "(LBonnetValley;)V" } : Jvm.MethodName)) ∈ lw_all := lw_g (lw_at lw_m1 38 rfl) rfl
theorem q148 : (Jvm.Cond.code ({ cls := "BonnetValley$Look", name := "<init>", desc := "(LBonnetValley;)V" } : Jvm.MethodName) prog_3_method_1_code (2 : Nat) (Option.none : Option Jvm.ClassFile.FieldType)) ∈ lw_all := lw_g (lw_at lw_m1 39 rfl) rfl
theorem q149 : (Jvm.Cond.methodLink "BonnetValley$Look" (9 : Nat) ({ cls := "java/lang/Object", name := "<init>", desc := "()V" } : Jvm.MethodName)) ∈ lw_all := lw_g (lw_at lw_m1 40 rfl) rfl
theorem q150 : (Jvm.Cond.fieldLink "BonnetValley$Look" (3 : Nat) "BonnetValley$Look" "this$0" "LBonnetValley;") ∈ lw_all := lw_g (lw_at lw_m1 41 rfl) rfl
theorem q151 : (Jvm.Cond.laysFinal "BonnetValley$Look" "BonnetValley$Look" "this$0" "LBonnetValley;") ∈ lw_all := lw_g (lw_at lw_m1 42 rfl) rfl
theorem q152 : (Jvm.Cond.soleField "BonnetValley$Look" "this$0") ∈ lw_all := lw_g (lw_at lw_m1 43 rfl) rfl
theorem q153 : (Jvm.Cond.superclass "BonnetValley$Look" "java/lang/Object") ∈ lw_all := lw_g (lw_at lw_m1 44 rfl) rfl
theorem q189 : (Jvm.Cond.fieldLink "BonnetValley$Look" (28 : Nat) "BonnetValley$Upland" "at" "[I") ∈ lw_all := lw_g (lw_at lw_m1 80 rfl) rfl
theorem q193 : (Jvm.Cond.fieldLink "BonnetValley$Look" (15 : Nat) "BonnetValley$Upland" "facing" "[I") ∈ lw_all := lw_g (lw_at lw_m1 84 rfl) rfl
theorem q197 : (Jvm.Cond.fieldLink "BonnetValley$Look" (21 : Nat) "BonnetValley$Upland" "brim" "[I") ∈ lw_all := lw_g (lw_at lw_m1 88 rfl) rfl
theorem q203 : (Jvm.Cond.fieldLink "BonnetValley$Look" (77 : Nat) "BonnetValley$Upland" "lies" "[I") ∈ lw_all := lw_g (lw_at lw_m1 94 rfl) rfl
theorem q231 : (Jvm.Cond.fieldLinkNest "BonnetValley$Look" (71 : Nat) "BonnetValley" "rows" "I" "BonnetValley") ∈ lw_tbl := lw_at lw_m1 122 rfl
theorem q235 : (Jvm.Cond.fieldLinkNest "BonnetValley$Look" (31 : Nat) "BonnetValley" "columns" "I" "BonnetValley") ∈ lw_tbl := lw_at lw_m1 126 rfl
theorem q238 : (Jvm.Cond.fieldLinkNest "BonnetValley$Look" (74 : Nat) "BonnetValley" "things" "I" "BonnetValley") ∈ lw_tbl := lw_at lw_m1 129 rfl
theorem q775 : (Jvm.Cond.instanceMethod ({ cls := "BonnetValley$Look", name := "things", desc := "(LBonnetValley$Upland;I)I" } : Jvm.MethodName)) ∈ lw_all := lw_g (lw_at lw_m3 186 rfl) rfl
theorem q776 : (Jvm.Cond.selects "BonnetValley$Look" ({ cls := "BonnetValley$Look", name := "things", desc := "(LBonnetValley$Upland;I)I" } : Jvm.MethodName) ({ cls := "BonnetValley$Look", name := "things", desc := "(LBonnetValley$Upland;I)I" } : Jvm.MethodName)) ∈ lw_all := lw_g (lw_at lw_m3 187 rfl) rfl
theorem q777 : (Jvm.Cond.sameMethod "BonnetValley$Look" "BonnetValley$Look" "things" "(LBonnetValley$Upland;I)I") ∈ lw_all := lw_g (lw_at lw_m3 188 rfl) rfl
theorem q780 : (Jvm.Cond.code ({ cls := "BonnetValley$Look", name := "things", desc := "(LBonnetValley$Upland;I)I" } : Jvm.MethodName) prog_3_method_8_code (5 : Nat) (Option.some Jvm.ClassFile.FieldType.int)) ∈ lw_all := lw_g (lw_at lw_m3 191 rfl) rfl
theorem q781 : (Jvm.Cond.methodLink "BonnetValley$Look" (67 : Nat) ({ cls := "BonnetValley$Look", name := "sees", desc := "(LBonnetValley$Upland;II)Z" } : Jvm.MethodName)) ∈ lw_all := lw_g (lw_at lw_m3 192 rfl) rfl
theorem q782 : (Jvm.Cond.instanceMethod ({ cls := "BonnetValley$Look", name := "sees", desc := "(LBonnetValley$Upland;II)Z" } : Jvm.MethodName)) ∈ lw_all := lw_g (lw_at lw_m3 193 rfl) rfl
theorem q783 : (Jvm.Cond.selects "BonnetValley$Look" ({ cls := "BonnetValley$Look", name := "sees", desc := "(LBonnetValley$Upland;II)Z" } : Jvm.MethodName) ({ cls := "BonnetValley$Look", name := "sees", desc := "(LBonnetValley$Upland;II)Z" } : Jvm.MethodName)) ∈ lw_all := lw_g (lw_at lw_m3 194 rfl) rfl
theorem q784 : (Jvm.Cond.sameMethod "BonnetValley$Look" "BonnetValley$Look" "sees" "(LBonnetValley$Upland;II)Z") ∈ lw_all := lw_g (lw_at lw_m3 195 rfl) rfl
theorem q787 : (Jvm.Cond.code ({ cls := "BonnetValley$Look", name := "sees", desc := "(LBonnetValley$Upland;II)Z" } : Jvm.MethodName) prog_3_method_5_code (6 : Nat) (Option.some Jvm.ClassFile.FieldType.boolean)) ∈ lw_all := lw_g (lw_at lw_m3 198 rfl) rfl
theorem q788 : (Jvm.Cond.methodLink "BonnetValley$Look" (35 : Nat) ({ cls := "java/lang/Math", name := "abs", desc := "(I)I" } : Jvm.MethodName)) ∈ lw_all := lw_g (lw_at lw_m3 199 rfl) rfl
theorem q791 : (Jvm.Cond.methodLink "BonnetValley$Look" (41 : Nat) ({ cls := "java/lang/Math", name := "max", desc := "(II)I" } : Jvm.MethodName)) ∈ lw_all := lw_g (lw_at lw_m3 202 rfl) rfl
theorem q792 : (Jvm.Cond.methodLink "BonnetValley$Look" (45 : Nat) ({ cls := "BonnetValley$Look", name := "reach", desc := "(LBonnetValley$Upland;I)I" } : Jvm.MethodName)) ∈ lw_all := lw_g (lw_at lw_m3 203 rfl) rfl
theorem q793 : (Jvm.Cond.instanceMethod ({ cls := "BonnetValley$Look", name := "reach", desc := "(LBonnetValley$Upland;I)I" } : Jvm.MethodName)) ∈ lw_all := lw_g (lw_at lw_m3 204 rfl) rfl
theorem q794 : (Jvm.Cond.selects "BonnetValley$Look" ({ cls := "BonnetValley$Look", name := "reach", desc := "(LBonnetValley$Upland;I)I" } : Jvm.MethodName) ({ cls := "BonnetValley$Look", name := "reach", desc := "(LBonnetValley$Upland;I)I" } : Jvm.MethodName)) ∈ lw_all := lw_g (lw_at lw_m3 205 rfl) rfl
theorem q795 : (Jvm.Cond.sameMethod "BonnetValley$Look" "BonnetValley$Look" "reach" "(LBonnetValley$Upland;I)I") ∈ lw_all := lw_g (lw_at lw_m3 206 rfl) rfl
theorem q810 : (Jvm.Cond.code ({ cls := "BonnetValley$Look", name := "reach", desc := "(LBonnetValley$Upland;I)I" } : Jvm.MethodName) prog_3_method_4_code (3 : Nat) (Option.some Jvm.ClassFile.FieldType.int)) ∈ lw_all := lw_g (lw_at lw_m3 221 rfl) rfl
theorem q811 : (Jvm.Cond.methodLinkNest "BonnetValley$Look" (24 : Nat) ({ cls := "BonnetValley", name := "reachBy", desc := "(LBonnetValley$Upland;II)I" } : Jvm.MethodName) "BonnetValley") ∈ lw_tbl := lw_at lw_m3 222 rfl
theorem q812 : (Jvm.Cond.methodLink "BonnetValley$Look" (49 : Nat) ({ cls := "BonnetValley$Look", name := "facing", desc := "(LBonnetValley$Upland;I)I" } : Jvm.MethodName)) ∈ lw_all := lw_g (lw_at lw_m3 223 rfl) rfl
theorem q813 : (Jvm.Cond.instanceMethod ({ cls := "BonnetValley$Look", name := "facing", desc := "(LBonnetValley$Upland;I)I" } : Jvm.MethodName)) ∈ lw_all := lw_g (lw_at lw_m3 224 rfl) rfl
theorem q814 : (Jvm.Cond.selects "BonnetValley$Look" ({ cls := "BonnetValley$Look", name := "facing", desc := "(LBonnetValley$Upland;I)I" } : Jvm.MethodName) ({ cls := "BonnetValley$Look", name := "facing", desc := "(LBonnetValley$Upland;I)I" } : Jvm.MethodName)) ∈ lw_all := lw_g (lw_at lw_m3 225 rfl) rfl
theorem q815 : (Jvm.Cond.sameMethod "BonnetValley$Look" "BonnetValley$Look" "facing" "(LBonnetValley$Upland;I)I") ∈ lw_all := lw_g (lw_at lw_m3 226 rfl) rfl
theorem q820 : (Jvm.Cond.code ({ cls := "BonnetValley$Look", name := "facing", desc := "(LBonnetValley$Upland;I)I" } : Jvm.MethodName) prog_3_method_2_code (3 : Nat) (Option.some Jvm.ClassFile.FieldType.int)) ∈ lw_all := lw_g (lw_at lw_m3 231 rfl) rfl
theorem q821 : (Jvm.Cond.methodLinkNest "BonnetValley$Look" (51 : Nat) ({ cls := "BonnetValley", name := "wayOf", desc := "(II)I" } : Jvm.MethodName) "BonnetValley") ∈ lw_tbl := lw_at lw_m3 232 rfl
theorem q825 : (Jvm.Cond.methodLinkNest "BonnetValley$Look" (54 : Nat) ({ cls := "BonnetValley", name := "offBy", desc := "(II)I" } : Jvm.MethodName) "BonnetValley") ∈ lw_tbl := lw_at lw_m3 236 rfl
theorem q828 : (Jvm.Cond.methodLink "BonnetValley$Look" (57 : Nat) ({ cls := "BonnetValley$Look", name := "brim", desc := "(LBonnetValley$Upland;I)I" } : Jvm.MethodName)) ∈ lw_all := lw_g (lw_at lw_m3 239 rfl) rfl
theorem q829 : (Jvm.Cond.instanceMethod ({ cls := "BonnetValley$Look", name := "brim", desc := "(LBonnetValley$Upland;I)I" } : Jvm.MethodName)) ∈ lw_all := lw_g (lw_at lw_m4 0 rfl) rfl
theorem q830 : (Jvm.Cond.selects "BonnetValley$Look" ({ cls := "BonnetValley$Look", name := "brim", desc := "(LBonnetValley$Upland;I)I" } : Jvm.MethodName) ({ cls := "BonnetValley$Look", name := "brim", desc := "(LBonnetValley$Upland;I)I" } : Jvm.MethodName)) ∈ lw_all := lw_g (lw_at lw_m4 1 rfl) rfl
theorem q831 : (Jvm.Cond.sameMethod "BonnetValley$Look" "BonnetValley$Look" "brim" "(LBonnetValley$Upland;I)I") ∈ lw_all := lw_g (lw_at lw_m4 2 rfl) rfl
theorem q836 : (Jvm.Cond.code ({ cls := "BonnetValley$Look", name := "brim", desc := "(LBonnetValley$Upland;I)I" } : Jvm.MethodName) prog_3_method_3_code (3 : Nat) (Option.some Jvm.ClassFile.FieldType.int)) ∈ lw_all := lw_g (lw_at lw_m4 7 rfl) rfl
theorem q837 : (Jvm.Cond.methodLinkNest "BonnetValley$Look" (59 : Nat) ({ cls := "BonnetValley", name := "isClear", desc := "(II)Z" } : Jvm.MethodName) "BonnetValley") ∈ lw_tbl := lw_at lw_m4 8 rfl
theorem q992 : (Jvm.Cond.instanceMethod ({ cls := "BonnetValley$Look", name := "fields", desc := "(LBonnetValley$Upland;I)J" } : Jvm.MethodName)) ∈ lw_all := lw_g (lw_at lw_m4 163 rfl) rfl
theorem q993 : (Jvm.Cond.selects "BonnetValley$Look" ({ cls := "BonnetValley$Look", name := "fields", desc := "(LBonnetValley$Upland;I)J" } : Jvm.MethodName) ({ cls := "BonnetValley$Look", name := "fields", desc := "(LBonnetValley$Upland;I)J" } : Jvm.MethodName)) ∈ lw_all := lw_g (lw_at lw_m4 164 rfl) rfl
theorem q994 : (Jvm.Cond.sameMethod "BonnetValley$Look" "BonnetValley$Look" "fields" "(LBonnetValley$Upland;I)J") ∈ lw_all := lw_g (lw_at lw_m4 165 rfl) rfl
theorem q997 : (Jvm.Cond.code ({ cls := "BonnetValley$Look", name := "fields", desc := "(LBonnetValley$Upland;I)J" } : Jvm.MethodName) prog_3_method_6_code (6 : Nat) (Option.some Jvm.ClassFile.FieldType.long)) ∈ lw_all := lw_g (lw_at lw_m4 168 rfl) rfl
theorem q998 : (Jvm.Cond.methodLink "BonnetValley$Look" (63 : Nat) ({ cls := "BonnetValley$Look", name := "all", desc := "()I" } : Jvm.MethodName)) ∈ lw_all := lw_g (lw_at lw_m4 169 rfl) rfl
theorem q999 : (Jvm.Cond.privateMethod ({ cls := "BonnetValley$Look", name := "all", desc := "()I" } : Jvm.MethodName)) ∈ lw_tbl := lw_at lw_m4 170 rfl
theorem q1000 : (Jvm.Cond.instanceMethod ({ cls := "BonnetValley$Look", name := "all", desc := "()I" } : Jvm.MethodName)) ∈ lw_all := lw_g (lw_at lw_m4 171 rfl) rfl
theorem q1001 : (Jvm.Cond.code ({ cls := "BonnetValley$Look", name := "all", desc := "()I" } : Jvm.MethodName) prog_3_method_7_code (1 : Nat) (Option.some Jvm.ClassFile.FieldType.int)) ∈ lw_all := lw_g (lw_at lw_m4 172 rfl) rfl
theorem q1096 : (Jvm.Cond.declares ({ cls := "BonnetValley$Look", name := "sees", desc := "(LBonnetValley$Upland;II)Z" } : Jvm.MethodName)) ∈ lw_tbl := lw_at lw_m5 27 rfl
theorem q1104 : (Jvm.Cond.declares ({ cls := "BonnetValley$Look", name := "things", desc := "(LBonnetValley$Upland;I)I" } : Jvm.MethodName)) ∈ lw_tbl := lw_at lw_m5 35 rfl
theorem q1948 : (Jvm.Cond.sameMethod "BonnetValley$Look" "BonnetValley$Look" "all" "()I") ∈ lw_all := lw_g (lw_at lw_m8 159 rfl) rfl
theorem q1951 : (Jvm.Cond.castable "BonnetValley$Look" "java/lang/Object") ∈ lw_tbl := lw_at lw_m8 162 rfl
theorem in_X2 : ∀ w ∈ wsX20, w ∈ lw_all := lw_in wsX20 [151] (by decide +kernel) (by decide +kernel)

/-! BonnetValley$Turned -/
set_option maxRecDepth 100000
def RX3 : String := "BonnetValley$Turned"
def TX3 : u_T := fun k => match k with
  | 0 => ("BonnetValley$Look", "this$0", "LBonnetValley;", true)
  | 1 => ("BonnetValley$Turned", "facing", "I", false)
  | _ => ("BonnetValley$Turned", "this$0", "LBonnetValley;", true)
def tyX3 : Nat → FieldType := fun k => match k with
  | 0 => .object "BonnetValley"
  | 1 => .int
  | _ => .object "BonnetValley"
abbrev wsX30 : List Cond := u_ws RX3 TX3 3
-- two fields of one name: no nmX3
theorem tyX3_ok : ∀ k, k < 3 → parseFieldDescriptor (TX3 k).2.2.1 = some (tyX3 k) := by decide +kernel
abbrev cX3_init : ByteArray := prog_8_method_1_code
def yX3_init : MethodName := ⟨RX3, "<init>", "(LBonnetValley;)V"⟩
def dkwX3_init_0 : List UInt8 := [42, 43, 181, 0, 1, 42, 43, 183, 0, 7, 177]
abbrev dktX3_init_0 : List UInt8 := dkwX3_init_0 ++ []
theorem dksX3_init_0 : cX3_init.data.toList.drop 0 = dktX3_init_0 := by decide +kernel
theorem dX3_init_0 : decode cX3_init 0 = .ok (.aload_n 0, 1) := dk_42 (dk_at dksX3_init_0 0 rfl rfl)
theorem dX3_init_1 : decode cX3_init 1 = .ok (.aload_n 1, 1) := dk_43 (dk_at dksX3_init_0 1 rfl rfl)
theorem dX3_init_2 : decode cX3_init 2 = .ok (.putfield 1, 3) := dk_181 0 1 (dk_at dksX3_init_0 2 rfl rfl)
theorem dX3_init_5 : decode cX3_init 5 = .ok (.aload_n 0, 1) := dk_42 (dk_at dksX3_init_0 5 rfl rfl)
theorem dX3_init_6 : decode cX3_init 6 = .ok (.aload_n 1, 1) := dk_43 (dk_at dksX3_init_0 6 rfl rfl)
theorem dX3_init_7 : decode cX3_init 7 = .ok (.invokespecial 7, 3) := dk_183 0 7 (dk_at dksX3_init_0 7 rfl rfl)
theorem dX3_init_10 : decode cX3_init 10 = .ok (.return_, 1) := dk_177 (dk_at dksX3_init_0 10 rfl rfl)
abbrev cX3_facing : ByteArray := prog_8_method_3_code
def yX3_facing : MethodName := ⟨RX3, "facing", "(LBonnetValley$Upland;I)I"⟩
theorem dX3_facing_0 : decode cX3_facing 0 = .ok (.aload_n 0, 1) := by decide +kernel
theorem dX3_facing_1 : decode cX3_facing 1 = .ok (.getfield 13, 3) := by decide +kernel
theorem dX3_facing_4 : decode cX3_facing 4 = .ok (.ireturn, 1) := by decide +kernel
abbrev cX3_to : ByteArray := prog_8_method_2_code
def yX3_to : MethodName := ⟨RX3, "to", "(I)LBonnetValley$Turned;"⟩
def dkwX3_to_0 : List UInt8 := [42, 27, 181, 0, 13, 42, 176]
abbrev dktX3_to_0 : List UInt8 := dkwX3_to_0 ++ []
theorem dksX3_to_0 : cX3_to.data.toList.drop 0 = dktX3_to_0 := by decide +kernel
theorem dX3_to_0 : decode cX3_to 0 = .ok (.aload_n 0, 1) := dk_42 (dk_at dksX3_to_0 0 rfl rfl)
theorem dX3_to_1 : decode cX3_to 1 = .ok (.iload_n 1, 1) := dk_27 (dk_at dksX3_to_0 1 rfl rfl)
theorem dX3_to_2 : decode cX3_to 2 = .ok (.putfield 13, 3) := dk_181 0 13 (dk_at dksX3_to_0 2 rfl rfl)
theorem dX3_to_5 : decode cX3_to 5 = .ok (.aload_n 0, 1) := dk_42 (dk_at dksX3_to_0 5 rfl rfl)
theorem dX3_to_6 : decode cX3_to 6 = .ok (.areturn, 1) := dk_176 (dk_at dksX3_to_0 6 rfl rfl)
theorem q112 : (Jvm.Cond.initialized "BonnetValley$Turned") ∈ lw_all := lw_g (lw_at lw_m1 3 rfl) rfl
theorem q155 : (Jvm.Cond.instantiable "BonnetValley$Turned" (3 : Nat)) ∈ lw_all := lw_g (lw_at lw_m1 46 rfl) rfl
theorem q157 : (Jvm.Cond.instanceMethod ({ cls := "BonnetValley$Turned", name := "<init>", desc := "(LBonnetValley;)V" } : Jvm.MethodName)) ∈ lw_all := lw_g (lw_at lw_m1 48 rfl) rfl
theorem q158 : (Jvm.Cond.code ({ cls := "BonnetValley$Turned", name := "<init>", desc := "(LBonnetValley;)V" } : Jvm.MethodName) prog_8_method_1_code (2 : Nat) (Option.none : Option Jvm.ClassFile.FieldType)) ∈ lw_all := lw_g (lw_at lw_m1 49 rfl) rfl
theorem q159 : (Jvm.Cond.methodLinkNest "BonnetValley$Turned" (7 : Nat) ({ cls := "BonnetValley$Look", name := "<init>", desc := "(LBonnetValley;)V" } : Jvm.MethodName) "BonnetValley") ∈ lw_tbl := lw_at lw_m1 50 rfl
theorem q160 : (Jvm.Cond.fieldLink "BonnetValley$Turned" (13 : Nat) "BonnetValley$Turned" "facing" "I") ∈ lw_all := lw_g (lw_at lw_m1 51 rfl) rfl
theorem q161 : (Jvm.Cond.fieldLink "BonnetValley$Turned" (1 : Nat) "BonnetValley$Turned" "this$0" "LBonnetValley;") ∈ lw_all := lw_g (lw_at lw_m1 52 rfl) rfl
theorem q162 : (Jvm.Cond.lays "BonnetValley$Turned" "BonnetValley$Turned" "facing" "I") ∈ lw_all := lw_g (lw_at lw_m1 53 rfl) rfl
theorem q163 : (Jvm.Cond.soleField "BonnetValley$Turned" "facing") ∈ lw_all := lw_g (lw_at lw_m1 54 rfl) rfl
theorem q164 : (Jvm.Cond.laysFinal "BonnetValley$Turned" "BonnetValley$Turned" "this$0" "LBonnetValley;") ∈ lw_all := lw_g (lw_at lw_m1 55 rfl) rfl
theorem q165 : (Jvm.Cond.soleField "BonnetValley$Turned" "this$0") ∈ lw_all := lw_g (lw_at lw_m1 56 rfl) rfl
theorem q166 : (Jvm.Cond.laysFinal "BonnetValley$Turned" "BonnetValley$Look" "this$0" "LBonnetValley;") ∈ lw_all := lw_g (lw_at lw_m1 57 rfl) rfl
theorem q167 : (Jvm.Cond.superclass "BonnetValley$Turned" "BonnetValley$Look") ∈ lw_all := lw_g (lw_at lw_m1 58 rfl) rfl
theorem q779 : (Jvm.Cond.selects "BonnetValley$Turned" ({ cls := "BonnetValley$Look", name := "things", desc := "(LBonnetValley$Upland;I)I" } : Jvm.MethodName) ({ cls := "BonnetValley$Look", name := "things", desc := "(LBonnetValley$Upland;I)I" } : Jvm.MethodName)) ∈ lw_all := lw_g (lw_at lw_m3 190 rfl) rfl
theorem q786 : (Jvm.Cond.selects "BonnetValley$Turned" ({ cls := "BonnetValley$Look", name := "sees", desc := "(LBonnetValley$Upland;II)Z" } : Jvm.MethodName) ({ cls := "BonnetValley$Look", name := "sees", desc := "(LBonnetValley$Upland;II)Z" } : Jvm.MethodName)) ∈ lw_all := lw_g (lw_at lw_m3 197 rfl) rfl
theorem q809 : (Jvm.Cond.selects "BonnetValley$Turned" ({ cls := "BonnetValley$Look", name := "reach", desc := "(LBonnetValley$Upland;I)I" } : Jvm.MethodName) ({ cls := "BonnetValley$Look", name := "reach", desc := "(LBonnetValley$Upland;I)I" } : Jvm.MethodName)) ∈ lw_all := lw_g (lw_at lw_m3 220 rfl) rfl
theorem q817 : (Jvm.Cond.selects "BonnetValley$Turned" ({ cls := "BonnetValley$Look", name := "facing", desc := "(LBonnetValley$Upland;I)I" } : Jvm.MethodName) ({ cls := "BonnetValley$Turned", name := "facing", desc := "(LBonnetValley$Upland;I)I" } : Jvm.MethodName)) ∈ lw_all := lw_g (lw_at lw_m3 228 rfl) rfl
theorem q818 : (Jvm.Cond.instanceMethod ({ cls := "BonnetValley$Turned", name := "facing", desc := "(LBonnetValley$Upland;I)I" } : Jvm.MethodName)) ∈ lw_all := lw_g (lw_at lw_m3 229 rfl) rfl
theorem q819 : (Jvm.Cond.code ({ cls := "BonnetValley$Turned", name := "facing", desc := "(LBonnetValley$Upland;I)I" } : Jvm.MethodName) prog_8_method_3_code (3 : Nat) (Option.some Jvm.ClassFile.FieldType.int)) ∈ lw_all := lw_g (lw_at lw_m3 230 rfl) rfl
theorem q835 : (Jvm.Cond.selects "BonnetValley$Turned" ({ cls := "BonnetValley$Look", name := "brim", desc := "(LBonnetValley$Upland;I)I" } : Jvm.MethodName) ({ cls := "BonnetValley$Look", name := "brim", desc := "(LBonnetValley$Upland;I)I" } : Jvm.MethodName)) ∈ lw_all := lw_g (lw_at lw_m4 6 rfl) rfl
theorem q996 : (Jvm.Cond.selects "BonnetValley$Turned" ({ cls := "BonnetValley$Look", name := "fields", desc := "(LBonnetValley$Upland;I)J" } : Jvm.MethodName) ({ cls := "BonnetValley$Look", name := "fields", desc := "(LBonnetValley$Upland;I)J" } : Jvm.MethodName)) ∈ lw_all := lw_g (lw_at lw_m4 167 rfl) rfl
theorem q1091 : (Jvm.Cond.instanceMethod ({ cls := "BonnetValley$Turned", name := "to", desc := "(I)LBonnetValley$Turned;" } : Jvm.MethodName)) ∈ lw_all := lw_g (lw_at lw_m5 22 rfl) rfl
theorem q1092 : (Jvm.Cond.selects "BonnetValley$Turned" ({ cls := "BonnetValley$Turned", name := "to", desc := "(I)LBonnetValley$Turned;" } : Jvm.MethodName) ({ cls := "BonnetValley$Turned", name := "to", desc := "(I)LBonnetValley$Turned;" } : Jvm.MethodName)) ∈ lw_all := lw_g (lw_at lw_m5 23 rfl) rfl
theorem q1093 : (Jvm.Cond.code ({ cls := "BonnetValley$Turned", name := "to", desc := "(I)LBonnetValley$Turned;" } : Jvm.MethodName) prog_8_method_2_code (2 : Nat) (Option.some (Jvm.ClassFile.FieldType.object "BonnetValley$Turned"))) ∈ lw_all := lw_g (lw_at lw_m5 24 rfl) rfl
theorem q1095 : (Jvm.Cond.sameMethod "BonnetValley$Turned" "BonnetValley$Look" "sees" "(LBonnetValley$Upland;II)Z") ∈ lw_all := lw_g (lw_at lw_m5 26 rfl) rfl
theorem q1097 : (Jvm.Cond.selects "BonnetValley$Turned" ({ cls := "BonnetValley$Turned", name := "sees", desc := "(LBonnetValley$Upland;II)Z" } : Jvm.MethodName) ({ cls := "BonnetValley$Look", name := "sees", desc := "(LBonnetValley$Upland;II)Z" } : Jvm.MethodName)) ∈ lw_all := lw_g (lw_at lw_m5 28 rfl) rfl
theorem q1103 : (Jvm.Cond.sameMethod "BonnetValley$Turned" "BonnetValley$Look" "things" "(LBonnetValley$Upland;I)I") ∈ lw_all := lw_g (lw_at lw_m5 34 rfl) rfl
theorem q1105 : (Jvm.Cond.selects "BonnetValley$Turned" ({ cls := "BonnetValley$Turned", name := "things", desc := "(LBonnetValley$Upland;I)I" } : Jvm.MethodName) ({ cls := "BonnetValley$Look", name := "things", desc := "(LBonnetValley$Upland;I)I" } : Jvm.MethodName)) ∈ lw_all := lw_g (lw_at lw_m5 36 rfl) rfl
theorem q1952 : (Jvm.Cond.castable "BonnetValley$Turned" "java/lang/Object") ∈ lw_tbl := lw_at lw_m8 163 rfl
theorem in_X3 : ∀ w ∈ wsX30, w ∈ lw_all := lw_in wsX30 [166, 162, 164] (by decide +kernel) (by decide +kernel)

/-! BonnetValley$Trimmed -/
set_option maxRecDepth 100000
def RX4 : String := "BonnetValley$Trimmed"
def TX4 : u_T := fun k => match k with
  | 0 => ("BonnetValley$Look", "this$0", "LBonnetValley;", true)
  | 1 => ("BonnetValley$Trimmed", "brim", "I", false)
  | _ => ("BonnetValley$Trimmed", "this$0", "LBonnetValley;", true)
def tyX4 : Nat → FieldType := fun k => match k with
  | 0 => .object "BonnetValley"
  | 1 => .int
  | _ => .object "BonnetValley"
abbrev wsX40 : List Cond := u_ws RX4 TX4 3
-- two fields of one name: no nmX4
theorem tyX4_ok : ∀ k, k < 3 → parseFieldDescriptor (TX4 k).2.2.1 = some (tyX4 k) := by decide +kernel
abbrev cX4_init : ByteArray := prog_7_method_1_code
def yX4_init : MethodName := ⟨RX4, "<init>", "(LBonnetValley;)V"⟩
def dkwX4_init_0 : List UInt8 := [42, 43, 181, 0, 1, 42, 43, 183, 0, 7, 177]
abbrev dktX4_init_0 : List UInt8 := dkwX4_init_0 ++ []
theorem dksX4_init_0 : cX4_init.data.toList.drop 0 = dktX4_init_0 := by decide +kernel
theorem dX4_init_0 : decode cX4_init 0 = .ok (.aload_n 0, 1) := dk_42 (dk_at dksX4_init_0 0 rfl rfl)
theorem dX4_init_1 : decode cX4_init 1 = .ok (.aload_n 1, 1) := dk_43 (dk_at dksX4_init_0 1 rfl rfl)
theorem dX4_init_2 : decode cX4_init 2 = .ok (.putfield 1, 3) := dk_181 0 1 (dk_at dksX4_init_0 2 rfl rfl)
theorem dX4_init_5 : decode cX4_init 5 = .ok (.aload_n 0, 1) := dk_42 (dk_at dksX4_init_0 5 rfl rfl)
theorem dX4_init_6 : decode cX4_init 6 = .ok (.aload_n 1, 1) := dk_43 (dk_at dksX4_init_0 6 rfl rfl)
theorem dX4_init_7 : decode cX4_init 7 = .ok (.invokespecial 7, 3) := dk_183 0 7 (dk_at dksX4_init_0 7 rfl rfl)
theorem dX4_init_10 : decode cX4_init 10 = .ok (.return_, 1) := dk_177 (dk_at dksX4_init_0 10 rfl rfl)
abbrev cX4_reach : ByteArray := prog_7_method_4_code
def yX4_reach : MethodName := ⟨RX4, "reach", "(LBonnetValley$Upland;I)I"⟩
def dkwX4_reach_0 : List UInt8 := [42, 180, 0, 1, 43, 28, 42, 180, 0, 13, 182, 0, 17, 172]
abbrev dktX4_reach_0 : List UInt8 := dkwX4_reach_0 ++ []
theorem dksX4_reach_0 : cX4_reach.data.toList.drop 0 = dktX4_reach_0 := by decide +kernel
theorem dX4_reach_0 : decode cX4_reach 0 = .ok (.aload_n 0, 1) := dk_42 (dk_at dksX4_reach_0 0 rfl rfl)
theorem dX4_reach_1 : decode cX4_reach 1 = .ok (.getfield 1, 3) := dk_180 0 1 (dk_at dksX4_reach_0 1 rfl rfl)
theorem dX4_reach_4 : decode cX4_reach 4 = .ok (.aload_n 1, 1) := dk_43 (dk_at dksX4_reach_0 4 rfl rfl)
theorem dX4_reach_5 : decode cX4_reach 5 = .ok (.iload_n 2, 1) := dk_28 (dk_at dksX4_reach_0 5 rfl rfl)
theorem dX4_reach_6 : decode cX4_reach 6 = .ok (.aload_n 0, 1) := dk_42 (dk_at dksX4_reach_0 6 rfl rfl)
theorem dX4_reach_7 : decode cX4_reach 7 = .ok (.getfield 13, 3) := dk_180 0 13 (dk_at dksX4_reach_0 7 rfl rfl)
theorem dX4_reach_10 : decode cX4_reach 10 = .ok (.invokevirtual 17, 3) := dk_182 0 17 (dk_at dksX4_reach_0 10 rfl rfl)
theorem dX4_reach_13 : decode cX4_reach 13 = .ok (.ireturn, 1) := dk_172 (dk_at dksX4_reach_0 13 rfl rfl)
abbrev cX4_brim : ByteArray := prog_7_method_3_code
def yX4_brim : MethodName := ⟨RX4, "brim", "(LBonnetValley$Upland;I)I"⟩
theorem dX4_brim_0 : decode cX4_brim 0 = .ok (.aload_n 0, 1) := by decide +kernel
theorem dX4_brim_1 : decode cX4_brim 1 = .ok (.getfield 13, 3) := by decide +kernel
theorem dX4_brim_4 : decode cX4_brim 4 = .ok (.ireturn, 1) := by decide +kernel
abbrev cX4_to : ByteArray := prog_7_method_2_code
def yX4_to : MethodName := ⟨RX4, "to", "(I)LBonnetValley$Trimmed;"⟩
def dkwX4_to_0 : List UInt8 := [42, 27, 181, 0, 13, 42, 176]
abbrev dktX4_to_0 : List UInt8 := dkwX4_to_0 ++ []
theorem dksX4_to_0 : cX4_to.data.toList.drop 0 = dktX4_to_0 := by decide +kernel
theorem dX4_to_0 : decode cX4_to 0 = .ok (.aload_n 0, 1) := dk_42 (dk_at dksX4_to_0 0 rfl rfl)
theorem dX4_to_1 : decode cX4_to 1 = .ok (.iload_n 1, 1) := dk_27 (dk_at dksX4_to_0 1 rfl rfl)
theorem dX4_to_2 : decode cX4_to 2 = .ok (.putfield 13, 3) := dk_181 0 13 (dk_at dksX4_to_0 2 rfl rfl)
theorem dX4_to_5 : decode cX4_to 5 = .ok (.aload_n 0, 1) := dk_42 (dk_at dksX4_to_0 5 rfl rfl)
theorem dX4_to_6 : decode cX4_to 6 = .ok (.areturn, 1) := dk_176 (dk_at dksX4_to_0 6 rfl rfl)
theorem q113 : (Jvm.Cond.initialized "BonnetValley$Trimmed") ∈ lw_all := lw_g (lw_at lw_m1 4 rfl) rfl
theorem q169 : (Jvm.Cond.instantiable "BonnetValley$Trimmed" (3 : Nat)) ∈ lw_all := lw_g (lw_at lw_m1 60 rfl) rfl
theorem q171 : (Jvm.Cond.instanceMethod ({ cls := "BonnetValley$Trimmed", name := "<init>", desc := "(LBonnetValley;)V" } : Jvm.MethodName)) ∈ lw_all := lw_g (lw_at lw_m1 62 rfl) rfl
theorem q172 : (Jvm.Cond.code ({ cls := "BonnetValley$Trimmed", name := "<init>", desc := "(LBonnetValley;)V" } : Jvm.MethodName) prog_7_method_1_code (2 : Nat) (Option.none : Option Jvm.ClassFile.FieldType)) ∈ lw_all := lw_g (lw_at lw_m1 63 rfl) rfl
theorem q173 : (Jvm.Cond.methodLinkNest "BonnetValley$Trimmed" (7 : Nat) ({ cls := "BonnetValley$Look", name := "<init>", desc := "(LBonnetValley;)V" } : Jvm.MethodName) "BonnetValley") ∈ lw_tbl := lw_at lw_m1 64 rfl
theorem q174 : (Jvm.Cond.fieldLink "BonnetValley$Trimmed" (13 : Nat) "BonnetValley$Trimmed" "brim" "I") ∈ lw_all := lw_g (lw_at lw_m1 65 rfl) rfl
theorem q175 : (Jvm.Cond.fieldLink "BonnetValley$Trimmed" (1 : Nat) "BonnetValley$Trimmed" "this$0" "LBonnetValley;") ∈ lw_all := lw_g (lw_at lw_m1 66 rfl) rfl
theorem q176 : (Jvm.Cond.lays "BonnetValley$Trimmed" "BonnetValley$Trimmed" "brim" "I") ∈ lw_all := lw_g (lw_at lw_m1 67 rfl) rfl
theorem q177 : (Jvm.Cond.soleField "BonnetValley$Trimmed" "brim") ∈ lw_all := lw_g (lw_at lw_m1 68 rfl) rfl
theorem q178 : (Jvm.Cond.laysFinal "BonnetValley$Trimmed" "BonnetValley$Trimmed" "this$0" "LBonnetValley;") ∈ lw_all := lw_g (lw_at lw_m1 69 rfl) rfl
theorem q179 : (Jvm.Cond.soleField "BonnetValley$Trimmed" "this$0") ∈ lw_all := lw_g (lw_at lw_m1 70 rfl) rfl
theorem q180 : (Jvm.Cond.laysFinal "BonnetValley$Trimmed" "BonnetValley$Look" "this$0" "LBonnetValley;") ∈ lw_all := lw_g (lw_at lw_m1 71 rfl) rfl
theorem q181 : (Jvm.Cond.superclass "BonnetValley$Trimmed" "BonnetValley$Look") ∈ lw_all := lw_g (lw_at lw_m1 72 rfl) rfl
theorem q778 : (Jvm.Cond.selects "BonnetValley$Trimmed" ({ cls := "BonnetValley$Look", name := "things", desc := "(LBonnetValley$Upland;I)I" } : Jvm.MethodName) ({ cls := "BonnetValley$Look", name := "things", desc := "(LBonnetValley$Upland;I)I" } : Jvm.MethodName)) ∈ lw_all := lw_g (lw_at lw_m3 189 rfl) rfl
theorem q785 : (Jvm.Cond.selects "BonnetValley$Trimmed" ({ cls := "BonnetValley$Look", name := "sees", desc := "(LBonnetValley$Upland;II)Z" } : Jvm.MethodName) ({ cls := "BonnetValley$Look", name := "sees", desc := "(LBonnetValley$Upland;II)Z" } : Jvm.MethodName)) ∈ lw_all := lw_g (lw_at lw_m3 196 rfl) rfl
theorem q796 : (Jvm.Cond.selects "BonnetValley$Trimmed" ({ cls := "BonnetValley$Look", name := "reach", desc := "(LBonnetValley$Upland;I)I" } : Jvm.MethodName) ({ cls := "BonnetValley$Trimmed", name := "reach", desc := "(LBonnetValley$Upland;I)I" } : Jvm.MethodName)) ∈ lw_all := lw_g (lw_at lw_m3 207 rfl) rfl
theorem q797 : (Jvm.Cond.instanceMethod ({ cls := "BonnetValley$Trimmed", name := "reach", desc := "(LBonnetValley$Upland;I)I" } : Jvm.MethodName)) ∈ lw_all := lw_g (lw_at lw_m3 208 rfl) rfl
theorem q798 : (Jvm.Cond.code ({ cls := "BonnetValley$Trimmed", name := "reach", desc := "(LBonnetValley$Upland;I)I" } : Jvm.MethodName) prog_7_method_4_code (3 : Nat) (Option.some Jvm.ClassFile.FieldType.int)) ∈ lw_all := lw_g (lw_at lw_m3 209 rfl) rfl
theorem q799 : (Jvm.Cond.methodLinkNest "BonnetValley$Trimmed" (17 : Nat) ({ cls := "BonnetValley", name := "reachBy", desc := "(LBonnetValley$Upland;II)I" } : Jvm.MethodName) "BonnetValley") ∈ lw_tbl := lw_at lw_m3 210 rfl
theorem q816 : (Jvm.Cond.selects "BonnetValley$Trimmed" ({ cls := "BonnetValley$Look", name := "facing", desc := "(LBonnetValley$Upland;I)I" } : Jvm.MethodName) ({ cls := "BonnetValley$Look", name := "facing", desc := "(LBonnetValley$Upland;I)I" } : Jvm.MethodName)) ∈ lw_all := lw_g (lw_at lw_m3 227 rfl) rfl
theorem q832 : (Jvm.Cond.selects "BonnetValley$Trimmed" ({ cls := "BonnetValley$Look", name := "brim", desc := "(LBonnetValley$Upland;I)I" } : Jvm.MethodName) ({ cls := "BonnetValley$Trimmed", name := "brim", desc := "(LBonnetValley$Upland;I)I" } : Jvm.MethodName)) ∈ lw_all := lw_g (lw_at lw_m4 3 rfl) rfl
theorem q833 : (Jvm.Cond.instanceMethod ({ cls := "BonnetValley$Trimmed", name := "brim", desc := "(LBonnetValley$Upland;I)I" } : Jvm.MethodName)) ∈ lw_all := lw_g (lw_at lw_m4 4 rfl) rfl
theorem q834 : (Jvm.Cond.code ({ cls := "BonnetValley$Trimmed", name := "brim", desc := "(LBonnetValley$Upland;I)I" } : Jvm.MethodName) prog_7_method_3_code (3 : Nat) (Option.some Jvm.ClassFile.FieldType.int)) ∈ lw_all := lw_g (lw_at lw_m4 5 rfl) rfl
theorem q995 : (Jvm.Cond.selects "BonnetValley$Trimmed" ({ cls := "BonnetValley$Look", name := "fields", desc := "(LBonnetValley$Upland;I)J" } : Jvm.MethodName) ({ cls := "BonnetValley$Look", name := "fields", desc := "(LBonnetValley$Upland;I)J" } : Jvm.MethodName)) ∈ lw_all := lw_g (lw_at lw_m4 166 rfl) rfl
theorem q1120 : (Jvm.Cond.instanceMethod ({ cls := "BonnetValley$Trimmed", name := "to", desc := "(I)LBonnetValley$Trimmed;" } : Jvm.MethodName)) ∈ lw_all := lw_g (lw_at lw_m5 51 rfl) rfl
theorem q1121 : (Jvm.Cond.selects "BonnetValley$Trimmed" ({ cls := "BonnetValley$Trimmed", name := "to", desc := "(I)LBonnetValley$Trimmed;" } : Jvm.MethodName) ({ cls := "BonnetValley$Trimmed", name := "to", desc := "(I)LBonnetValley$Trimmed;" } : Jvm.MethodName)) ∈ lw_all := lw_g (lw_at lw_m5 52 rfl) rfl
theorem q1122 : (Jvm.Cond.code ({ cls := "BonnetValley$Trimmed", name := "to", desc := "(I)LBonnetValley$Trimmed;" } : Jvm.MethodName) prog_7_method_2_code (2 : Nat) (Option.some (Jvm.ClassFile.FieldType.object "BonnetValley$Trimmed"))) ∈ lw_all := lw_g (lw_at lw_m5 53 rfl) rfl
theorem q1124 : (Jvm.Cond.sameMethod "BonnetValley$Trimmed" "BonnetValley$Look" "sees" "(LBonnetValley$Upland;II)Z") ∈ lw_all := lw_g (lw_at lw_m5 55 rfl) rfl
theorem q1125 : (Jvm.Cond.selects "BonnetValley$Trimmed" ({ cls := "BonnetValley$Trimmed", name := "sees", desc := "(LBonnetValley$Upland;II)Z" } : Jvm.MethodName) ({ cls := "BonnetValley$Look", name := "sees", desc := "(LBonnetValley$Upland;II)Z" } : Jvm.MethodName)) ∈ lw_all := lw_g (lw_at lw_m5 56 rfl) rfl
theorem q1953 : (Jvm.Cond.castable "BonnetValley$Trimmed" "java/lang/Object") ∈ lw_tbl := lw_at lw_m8 164 rfl
theorem in_X4 : ∀ w ∈ wsX40, w ∈ lw_all := lw_in wsX40 [180, 176, 178] (by decide +kernel) (by decide +kernel)

/-! BonnetValley$Upland -/
set_option maxRecDepth 100000
def RX5 : String := "BonnetValley$Upland"
def TX5 : u_T := fun k => match k with
  | 0 => ("BonnetValley$Upland", "at", "[I", true)
  | 1 => ("BonnetValley$Upland", "facing", "[I", true)
  | 2 => ("BonnetValley$Upland", "brim", "[I", true)
  | 3 => ("BonnetValley$Upland", "knows", "[I", true)
  | 4 => ("BonnetValley$Upland", "lies", "[I", true)
  | _ => ("BonnetValley$Upland", "hour", "I", false)
def tyX5 : Nat → FieldType := fun k => match k with
  | 0 => .array .int
  | 1 => .array .int
  | 2 => .array .int
  | 3 => .array .int
  | 4 => .array .int
  | _ => .int
abbrev wsX50 : List Cond := u_ws RX5 TX5 6
theorem nmX5 : ∀ a, a < 6 → ∀ b, b < 6 → a ≠ b → (TX5 a).2.1 ≠ (TX5 b).2.1 := by decide +kernel
theorem tyX5_ok : ∀ k, k < 6 → parseFieldDescriptor (TX5 k).2.2.1 = some (tyX5 k) := by decide +kernel
abbrev cX5_init : ByteArray := prog_9_method_1_code
def yX5_init : MethodName := ⟨RX5, "<init>", "()V"⟩
def dkwX5_init_1 : List UInt8 := [188, 10, 181, 0, 18, 42, 16, 8, 188, 10, 181, 0, 21, 42, 16, 8, 188, 10, 181, 0, 24, 177]
abbrev dktX5_init_1 : List UInt8 := dkwX5_init_1 ++ []
def dkwX5_init_0 : List UInt8 := [42, 183, 0, 3, 42, 16, 8, 188, 10, 181, 0, 9, 42, 16, 8, 188, 10, 181, 0, 15, 42, 16, 8]
abbrev dktX5_init_0 : List UInt8 := dkwX5_init_0 ++ dktX5_init_1
theorem dksX5_init_0 : cX5_init.data.toList.drop 0 = dktX5_init_0 := by decide +kernel
theorem dksX5_init_1 : cX5_init.data.toList.drop 23 = dktX5_init_1 := dk_seg dksX5_init_0 23 rfl rfl
theorem dX5_init_0 : decode cX5_init 0 = .ok (.aload_n 0, 1) := dk_42 (dk_at dksX5_init_0 0 rfl rfl)
theorem dX5_init_1 : decode cX5_init 1 = .ok (.invokespecial 3, 3) := dk_183 0 3 (dk_at dksX5_init_0 1 rfl rfl)
theorem dX5_init_4 : decode cX5_init 4 = .ok (.aload_n 0, 1) := dk_42 (dk_at dksX5_init_0 4 rfl rfl)
theorem dX5_init_5 : decode cX5_init 5 = .ok (.bipush 8, 2) := dk_16 8 (dk_at dksX5_init_0 5 rfl rfl)
theorem dX5_init_7 : decode cX5_init 7 = .ok (.newarray .int, 2) := dk_188_10 (dk_at dksX5_init_0 7 rfl rfl)
theorem dX5_init_9 : decode cX5_init 9 = .ok (.putfield 9, 3) := dk_181 0 9 (dk_at dksX5_init_0 9 rfl rfl)
theorem dX5_init_12 : decode cX5_init 12 = .ok (.aload_n 0, 1) := dk_42 (dk_at dksX5_init_0 12 rfl rfl)
theorem dX5_init_13 : decode cX5_init 13 = .ok (.bipush 8, 2) := dk_16 8 (dk_at dksX5_init_0 13 rfl rfl)
theorem dX5_init_15 : decode cX5_init 15 = .ok (.newarray .int, 2) := dk_188_10 (dk_at dksX5_init_0 15 rfl rfl)
theorem dX5_init_17 : decode cX5_init 17 = .ok (.putfield 15, 3) := dk_181 0 15 (dk_at dksX5_init_0 17 rfl rfl)
theorem dX5_init_20 : decode cX5_init 20 = .ok (.aload_n 0, 1) := dk_42 (dk_at dksX5_init_0 20 rfl rfl)
theorem dX5_init_21 : decode cX5_init 21 = .ok (.bipush 8, 2) := dk_16 8 (dk_at dksX5_init_0 21 rfl rfl)
theorem dX5_init_23 : decode cX5_init 23 = .ok (.newarray .int, 2) := dk_188_10 (dk_at dksX5_init_1 0 rfl rfl)
theorem dX5_init_25 : decode cX5_init 25 = .ok (.putfield 18, 3) := dk_181 0 18 (dk_at dksX5_init_1 2 rfl rfl)
theorem dX5_init_28 : decode cX5_init 28 = .ok (.aload_n 0, 1) := dk_42 (dk_at dksX5_init_1 5 rfl rfl)
theorem dX5_init_29 : decode cX5_init 29 = .ok (.bipush 8, 2) := dk_16 8 (dk_at dksX5_init_1 6 rfl rfl)
theorem dX5_init_31 : decode cX5_init 31 = .ok (.newarray .int, 2) := dk_188_10 (dk_at dksX5_init_1 8 rfl rfl)
theorem dX5_init_33 : decode cX5_init 33 = .ok (.putfield 21, 3) := dk_181 0 21 (dk_at dksX5_init_1 10 rfl rfl)
theorem dX5_init_36 : decode cX5_init 36 = .ok (.aload_n 0, 1) := dk_42 (dk_at dksX5_init_1 13 rfl rfl)
theorem dX5_init_37 : decode cX5_init 37 = .ok (.bipush 8, 2) := dk_16 8 (dk_at dksX5_init_1 14 rfl rfl)
theorem dX5_init_39 : decode cX5_init 39 = .ok (.newarray .int, 2) := dk_188_10 (dk_at dksX5_init_1 16 rfl rfl)
theorem dX5_init_41 : decode cX5_init 41 = .ok (.putfield 24, 3) := dk_181 0 24 (dk_at dksX5_init_1 18 rfl rfl)
theorem dX5_init_44 : decode cX5_init 44 = .ok (.return_, 1) := dk_177 (dk_at dksX5_init_1 21 rfl rfl)
abbrev cX5_be : ByteArray := prog_9_method_2_code
def yX5_be : MethodName := ⟨RX5, "be", "(LBonnetValley$Upland;)V"⟩
def dkwX5_be_3 : List UInt8 := [16, 8, 184, 0, 27, 42, 43, 180, 0, 33, 181, 0, 33, 177]
abbrev dktX5_be_3 : List UInt8 := dkwX5_be_3 ++ []
def dkwX5_be_2 : List UInt8 := [180, 0, 21, 3, 42, 180, 0, 21, 3, 16, 8, 184, 0, 27, 43, 180, 0, 24, 3, 42, 180, 0, 24, 3]
abbrev dktX5_be_2 : List UInt8 := dkwX5_be_2 ++ dktX5_be_3
def dkwX5_be_1 : List UInt8 := [3, 16, 8, 184, 0, 27, 43, 180, 0, 18, 3, 42, 180, 0, 18, 3, 16, 8, 184, 0, 27, 43]
abbrev dktX5_be_1 : List UInt8 := dkwX5_be_1 ++ dktX5_be_2
def dkwX5_be_0 : List UInt8 := [43, 180, 0, 9, 3, 42, 180, 0, 9, 3, 16, 8, 184, 0, 27, 43, 180, 0, 15, 3, 42, 180, 0, 15]
abbrev dktX5_be_0 : List UInt8 := dkwX5_be_0 ++ dktX5_be_1
theorem dksX5_be_0 : cX5_be.data.toList.drop 0 = dktX5_be_0 := by decide +kernel
theorem dksX5_be_1 : cX5_be.data.toList.drop 24 = dktX5_be_1 := dk_seg dksX5_be_0 24 rfl rfl
theorem dksX5_be_2 : cX5_be.data.toList.drop 46 = dktX5_be_2 := dk_seg dksX5_be_1 22 rfl rfl
theorem dksX5_be_3 : cX5_be.data.toList.drop 70 = dktX5_be_3 := dk_seg dksX5_be_2 24 rfl rfl
theorem dX5_be_0 : decode cX5_be 0 = .ok (.aload_n 1, 1) := dk_43 (dk_at dksX5_be_0 0 rfl rfl)
theorem dX5_be_1 : decode cX5_be 1 = .ok (.getfield 9, 3) := dk_180 0 9 (dk_at dksX5_be_0 1 rfl rfl)
theorem dX5_be_4 : decode cX5_be 4 = .ok (.iconst 0, 1) := dk_3 (dk_at dksX5_be_0 4 rfl rfl)
theorem dX5_be_5 : decode cX5_be 5 = .ok (.aload_n 0, 1) := dk_42 (dk_at dksX5_be_0 5 rfl rfl)
theorem dX5_be_6 : decode cX5_be 6 = .ok (.getfield 9, 3) := dk_180 0 9 (dk_at dksX5_be_0 6 rfl rfl)
theorem dX5_be_9 : decode cX5_be 9 = .ok (.iconst 0, 1) := dk_3 (dk_at dksX5_be_0 9 rfl rfl)
theorem dX5_be_10 : decode cX5_be 10 = .ok (.bipush 8, 2) := dk_16 8 (dk_at dksX5_be_0 10 rfl rfl)
theorem dX5_be_12 : decode cX5_be 12 = .ok (.invokestatic 27, 3) := dk_184 0 27 (dk_at dksX5_be_0 12 rfl rfl)
theorem dX5_be_15 : decode cX5_be 15 = .ok (.aload_n 1, 1) := dk_43 (dk_at dksX5_be_0 15 rfl rfl)
theorem dX5_be_16 : decode cX5_be 16 = .ok (.getfield 15, 3) := dk_180 0 15 (dk_at dksX5_be_0 16 rfl rfl)
theorem dX5_be_19 : decode cX5_be 19 = .ok (.iconst 0, 1) := dk_3 (dk_at dksX5_be_0 19 rfl rfl)
theorem dX5_be_20 : decode cX5_be 20 = .ok (.aload_n 0, 1) := dk_42 (dk_at dksX5_be_0 20 rfl rfl)
theorem dX5_be_21 : decode cX5_be 21 = .ok (.getfield 15, 3) := dk_180 0 15 (dk_at dksX5_be_0 21 rfl rfl)
theorem dX5_be_24 : decode cX5_be 24 = .ok (.iconst 0, 1) := dk_3 (dk_at dksX5_be_1 0 rfl rfl)
theorem dX5_be_25 : decode cX5_be 25 = .ok (.bipush 8, 2) := dk_16 8 (dk_at dksX5_be_1 1 rfl rfl)
theorem dX5_be_27 : decode cX5_be 27 = .ok (.invokestatic 27, 3) := dk_184 0 27 (dk_at dksX5_be_1 3 rfl rfl)
theorem dX5_be_30 : decode cX5_be 30 = .ok (.aload_n 1, 1) := dk_43 (dk_at dksX5_be_1 6 rfl rfl)
theorem dX5_be_31 : decode cX5_be 31 = .ok (.getfield 18, 3) := dk_180 0 18 (dk_at dksX5_be_1 7 rfl rfl)
theorem dX5_be_34 : decode cX5_be 34 = .ok (.iconst 0, 1) := dk_3 (dk_at dksX5_be_1 10 rfl rfl)
theorem dX5_be_35 : decode cX5_be 35 = .ok (.aload_n 0, 1) := dk_42 (dk_at dksX5_be_1 11 rfl rfl)
theorem dX5_be_36 : decode cX5_be 36 = .ok (.getfield 18, 3) := dk_180 0 18 (dk_at dksX5_be_1 12 rfl rfl)
theorem dX5_be_39 : decode cX5_be 39 = .ok (.iconst 0, 1) := dk_3 (dk_at dksX5_be_1 15 rfl rfl)
theorem dX5_be_40 : decode cX5_be 40 = .ok (.bipush 8, 2) := dk_16 8 (dk_at dksX5_be_1 16 rfl rfl)
theorem dX5_be_42 : decode cX5_be 42 = .ok (.invokestatic 27, 3) := dk_184 0 27 (dk_at dksX5_be_1 18 rfl rfl)
theorem dX5_be_45 : decode cX5_be 45 = .ok (.aload_n 1, 1) := dk_43 (dk_at dksX5_be_1 21 rfl rfl)
theorem dX5_be_46 : decode cX5_be 46 = .ok (.getfield 21, 3) := dk_180 0 21 (dk_at dksX5_be_2 0 rfl rfl)
theorem dX5_be_49 : decode cX5_be 49 = .ok (.iconst 0, 1) := dk_3 (dk_at dksX5_be_2 3 rfl rfl)
theorem dX5_be_50 : decode cX5_be 50 = .ok (.aload_n 0, 1) := dk_42 (dk_at dksX5_be_2 4 rfl rfl)
theorem dX5_be_51 : decode cX5_be 51 = .ok (.getfield 21, 3) := dk_180 0 21 (dk_at dksX5_be_2 5 rfl rfl)
theorem dX5_be_54 : decode cX5_be 54 = .ok (.iconst 0, 1) := dk_3 (dk_at dksX5_be_2 8 rfl rfl)
theorem dX5_be_55 : decode cX5_be 55 = .ok (.bipush 8, 2) := dk_16 8 (dk_at dksX5_be_2 9 rfl rfl)
theorem dX5_be_57 : decode cX5_be 57 = .ok (.invokestatic 27, 3) := dk_184 0 27 (dk_at dksX5_be_2 11 rfl rfl)
theorem dX5_be_60 : decode cX5_be 60 = .ok (.aload_n 1, 1) := dk_43 (dk_at dksX5_be_2 14 rfl rfl)
theorem dX5_be_61 : decode cX5_be 61 = .ok (.getfield 24, 3) := dk_180 0 24 (dk_at dksX5_be_2 15 rfl rfl)
theorem dX5_be_64 : decode cX5_be 64 = .ok (.iconst 0, 1) := dk_3 (dk_at dksX5_be_2 18 rfl rfl)
theorem dX5_be_65 : decode cX5_be 65 = .ok (.aload_n 0, 1) := dk_42 (dk_at dksX5_be_2 19 rfl rfl)
theorem dX5_be_66 : decode cX5_be 66 = .ok (.getfield 24, 3) := dk_180 0 24 (dk_at dksX5_be_2 20 rfl rfl)
theorem dX5_be_69 : decode cX5_be 69 = .ok (.iconst 0, 1) := dk_3 (dk_at dksX5_be_2 23 rfl rfl)
theorem dX5_be_70 : decode cX5_be 70 = .ok (.bipush 8, 2) := dk_16 8 (dk_at dksX5_be_3 0 rfl rfl)
theorem dX5_be_72 : decode cX5_be 72 = .ok (.invokestatic 27, 3) := dk_184 0 27 (dk_at dksX5_be_3 2 rfl rfl)
theorem dX5_be_75 : decode cX5_be 75 = .ok (.aload_n 0, 1) := dk_42 (dk_at dksX5_be_3 5 rfl rfl)
theorem dX5_be_76 : decode cX5_be 76 = .ok (.aload_n 1, 1) := dk_43 (dk_at dksX5_be_3 6 rfl rfl)
theorem dX5_be_77 : decode cX5_be 77 = .ok (.getfield 33, 3) := dk_180 0 33 (dk_at dksX5_be_3 7 rfl rfl)
theorem dX5_be_80 : decode cX5_be 80 = .ok (.putfield 33, 3) := dk_181 0 33 (dk_at dksX5_be_3 10 rfl rfl)
theorem dX5_be_83 : decode cX5_be 83 = .ok (.return_, 1) := dk_177 (dk_at dksX5_be_3 13 rfl rfl)
theorem q114 : (Jvm.Cond.initialized "BonnetValley$Upland") ∈ lw_all := lw_g (lw_at lw_m1 5 rfl) rfl
theorem q183 : (Jvm.Cond.instantiable "BonnetValley$Upland" (6 : Nat)) ∈ lw_all := lw_g (lw_at lw_m1 74 rfl) rfl
theorem q185 : (Jvm.Cond.instanceMethod ({ cls := "BonnetValley$Upland", name := "<init>", desc := "()V" } : Jvm.MethodName)) ∈ lw_all := lw_g (lw_at lw_m1 76 rfl) rfl
theorem q186 : (Jvm.Cond.code ({ cls := "BonnetValley$Upland", name := "<init>", desc := "()V" } : Jvm.MethodName) prog_9_method_1_code (1 : Nat) (Option.none : Option Jvm.ClassFile.FieldType)) ∈ lw_all := lw_g (lw_at lw_m1 77 rfl) rfl
theorem q187 : (Jvm.Cond.methodLink "BonnetValley$Upland" (3 : Nat) ({ cls := "java/lang/Object", name := "<init>", desc := "()V" } : Jvm.MethodName)) ∈ lw_all := lw_g (lw_at lw_m1 78 rfl) rfl
theorem q188 : (Jvm.Cond.fieldLink "BonnetValley$Upland" (9 : Nat) "BonnetValley$Upland" "at" "[I") ∈ lw_all := lw_g (lw_at lw_m1 79 rfl) rfl
theorem q192 : (Jvm.Cond.fieldLink "BonnetValley$Upland" (15 : Nat) "BonnetValley$Upland" "facing" "[I") ∈ lw_all := lw_g (lw_at lw_m1 83 rfl) rfl
theorem q196 : (Jvm.Cond.fieldLink "BonnetValley$Upland" (18 : Nat) "BonnetValley$Upland" "brim" "[I") ∈ lw_all := lw_g (lw_at lw_m1 87 rfl) rfl
theorem q199 : (Jvm.Cond.fieldLink "BonnetValley$Upland" (21 : Nat) "BonnetValley$Upland" "knows" "[I") ∈ lw_all := lw_g (lw_at lw_m1 90 rfl) rfl
theorem q202 : (Jvm.Cond.fieldLink "BonnetValley$Upland" (24 : Nat) "BonnetValley$Upland" "lies" "[I") ∈ lw_all := lw_g (lw_at lw_m1 93 rfl) rfl
theorem q205 : (Jvm.Cond.fieldLink "BonnetValley$Upland" (33 : Nat) "BonnetValley$Upland" "hour" "I") ∈ lw_all := lw_g (lw_at lw_m1 96 rfl) rfl
theorem q208 : (Jvm.Cond.laysFinal "BonnetValley$Upland" "BonnetValley$Upland" "at" "[I") ∈ lw_all := lw_g (lw_at lw_m1 99 rfl) rfl
theorem q209 : (Jvm.Cond.soleField "BonnetValley$Upland" "at") ∈ lw_all := lw_g (lw_at lw_m1 100 rfl) rfl
theorem q210 : (Jvm.Cond.laysFinal "BonnetValley$Upland" "BonnetValley$Upland" "facing" "[I") ∈ lw_all := lw_g (lw_at lw_m1 101 rfl) rfl
theorem q211 : (Jvm.Cond.soleField "BonnetValley$Upland" "facing") ∈ lw_all := lw_g (lw_at lw_m1 102 rfl) rfl
theorem q212 : (Jvm.Cond.laysFinal "BonnetValley$Upland" "BonnetValley$Upland" "brim" "[I") ∈ lw_all := lw_g (lw_at lw_m1 103 rfl) rfl
theorem q213 : (Jvm.Cond.soleField "BonnetValley$Upland" "brim") ∈ lw_all := lw_g (lw_at lw_m1 104 rfl) rfl
theorem q214 : (Jvm.Cond.laysFinal "BonnetValley$Upland" "BonnetValley$Upland" "knows" "[I") ∈ lw_all := lw_g (lw_at lw_m1 105 rfl) rfl
theorem q215 : (Jvm.Cond.soleField "BonnetValley$Upland" "knows") ∈ lw_all := lw_g (lw_at lw_m1 106 rfl) rfl
theorem q216 : (Jvm.Cond.laysFinal "BonnetValley$Upland" "BonnetValley$Upland" "lies" "[I") ∈ lw_all := lw_g (lw_at lw_m1 107 rfl) rfl
theorem q217 : (Jvm.Cond.soleField "BonnetValley$Upland" "lies") ∈ lw_all := lw_g (lw_at lw_m1 108 rfl) rfl
theorem q218 : (Jvm.Cond.lays "BonnetValley$Upland" "BonnetValley$Upland" "hour" "I") ∈ lw_all := lw_g (lw_at lw_m1 109 rfl) rfl
theorem q219 : (Jvm.Cond.soleField "BonnetValley$Upland" "hour") ∈ lw_all := lw_g (lw_at lw_m1 110 rfl) rfl
theorem q220 : (Jvm.Cond.superclass "BonnetValley$Upland" "java/lang/Object") ∈ lw_all := lw_g (lw_at lw_m1 111 rfl) rfl
theorem q757 : (Jvm.Cond.instanceMethod ({ cls := "BonnetValley$Upland", name := "be", desc := "(LBonnetValley$Upland;)V" } : Jvm.MethodName)) ∈ lw_all := lw_g (lw_at lw_m3 168 rfl) rfl
theorem q758 : (Jvm.Cond.selects "BonnetValley$Upland" ({ cls := "BonnetValley$Upland", name := "be", desc := "(LBonnetValley$Upland;)V" } : Jvm.MethodName) ({ cls := "BonnetValley$Upland", name := "be", desc := "(LBonnetValley$Upland;)V" } : Jvm.MethodName)) ∈ lw_all := lw_g (lw_at lw_m3 169 rfl) rfl
theorem q759 : (Jvm.Cond.code ({ cls := "BonnetValley$Upland", name := "be", desc := "(LBonnetValley$Upland;)V" } : Jvm.MethodName) prog_9_method_2_code (2 : Nat) (Option.none : Option Jvm.ClassFile.FieldType)) ∈ lw_all := lw_g (lw_at lw_m3 170 rfl) rfl
theorem q760 : (Jvm.Cond.methodLink "BonnetValley$Upland" (27 : Nat) ({ cls := "java/lang/System", name := "arraycopy", desc := "(Ljava/lang/Object;ILjava/lang/Object;II)V" } : Jvm.MethodName)) ∈ lw_all := lw_g (lw_at lw_m3 171 rfl) rfl
theorem q1954 : (Jvm.Cond.castable "BonnetValley$Upland" "java/lang/Object") ∈ lw_tbl := lw_at lw_m8 165 rfl
theorem in_X5 : ∀ w ∈ wsX50, w ∈ lw_all := lw_in wsX50 [208, 210, 212, 214, 216, 218] (by decide +kernel) (by decide +kernel)

/-! BonnetValley$Words -/
set_option maxRecDepth 100000
def RX7 : String := "BonnetValley$Words"
def TX7 : u_T := fun k => match k with
  | 0 => ("BonnetValley$Words", "of", "[B", true)
  | 1 => ("BonnetValley$Words", "size", "I", true)
  | 2 => ("BonnetValley$Words", "end", "I", true)
  | _ => ("BonnetValley$Words", "at", "I", false)
def tyX7 : Nat → FieldType := fun k => match k with
  | 0 => .array .byte
  | 1 => .int
  | 2 => .int
  | _ => .int
abbrev wsX70 : List Cond := u_ws RX7 TX7 4
theorem nmX7 : ∀ a, a < 4 → ∀ b, b < 4 → a ≠ b → (TX7 a).2.1 ≠ (TX7 b).2.1 := by decide +kernel
theorem tyX7_ok : ∀ k, k < 4 → parseFieldDescriptor (TX7 k).2.2.1 = some (tyX7 k) := by decide +kernel
abbrev cX7_init : ByteArray := prog_10_method_1_code
def yX7_init : MethodName := ⟨RX7, "<init>", "([BII)V"⟩
def dkwX7_init_0 : List UInt8 := [42, 183, 0, 3, 42, 43, 181, 0, 9, 42, 28, 181, 0, 15, 42, 28, 29, 184, 0, 19, 181, 0, 25, 177]
abbrev dktX7_init_0 : List UInt8 := dkwX7_init_0 ++ []
theorem dksX7_init_0 : cX7_init.data.toList.drop 0 = dktX7_init_0 := by decide +kernel
theorem dX7_init_0 : decode cX7_init 0 = .ok (.aload_n 0, 1) := dk_42 (dk_at dksX7_init_0 0 rfl rfl)
theorem dX7_init_1 : decode cX7_init 1 = .ok (.invokespecial 3, 3) := dk_183 0 3 (dk_at dksX7_init_0 1 rfl rfl)
theorem dX7_init_4 : decode cX7_init 4 = .ok (.aload_n 0, 1) := dk_42 (dk_at dksX7_init_0 4 rfl rfl)
theorem dX7_init_5 : decode cX7_init 5 = .ok (.aload_n 1, 1) := dk_43 (dk_at dksX7_init_0 5 rfl rfl)
theorem dX7_init_6 : decode cX7_init 6 = .ok (.putfield 9, 3) := dk_181 0 9 (dk_at dksX7_init_0 6 rfl rfl)
theorem dX7_init_9 : decode cX7_init 9 = .ok (.aload_n 0, 1) := dk_42 (dk_at dksX7_init_0 9 rfl rfl)
theorem dX7_init_10 : decode cX7_init 10 = .ok (.iload_n 2, 1) := dk_28 (dk_at dksX7_init_0 10 rfl rfl)
theorem dX7_init_11 : decode cX7_init 11 = .ok (.putfield 15, 3) := dk_181 0 15 (dk_at dksX7_init_0 11 rfl rfl)
theorem dX7_init_14 : decode cX7_init 14 = .ok (.aload_n 0, 1) := dk_42 (dk_at dksX7_init_0 14 rfl rfl)
theorem dX7_init_15 : decode cX7_init 15 = .ok (.iload_n 2, 1) := dk_28 (dk_at dksX7_init_0 15 rfl rfl)
theorem dX7_init_16 : decode cX7_init 16 = .ok (.iload_n 3, 1) := dk_29 (dk_at dksX7_init_0 16 rfl rfl)
theorem dX7_init_17 : decode cX7_init 17 = .ok (.invokestatic 19, 3) := dk_184 0 19 (dk_at dksX7_init_0 17 rfl rfl)
theorem dX7_init_20 : decode cX7_init 20 = .ok (.putfield 25, 3) := dk_181 0 25 (dk_at dksX7_init_0 20 rfl rfl)
theorem dX7_init_23 : decode cX7_init 23 = .ok (.return_, 1) := dk_177 (dk_at dksX7_init_0 23 rfl rfl)
abbrev cX7_one : ByteArray := prog_10_method_6_code
def yX7_one : MethodName := ⟨RX7, "one", "(CI)I"⟩
def dkwX7_one_1 : List UInt8 := [180, 0, 28, 4, 96, 181, 0, 28, 42, 180, 0, 9, 42, 180, 0, 28, 4, 100, 51, 27, 100, 172]
abbrev dktX7_one_1 : List UInt8 := dkwX7_one_1 ++ []
def dkwX7_one_0 : List UInt8 := [42, 42, 182, 0, 40, 133, 27, 133, 27, 28, 96, 4, 100, 133, 184, 0, 44, 182, 0, 36, 42, 89]
abbrev dktX7_one_0 : List UInt8 := dkwX7_one_0 ++ dktX7_one_1
theorem dksX7_one_0 : cX7_one.data.toList.drop 0 = dktX7_one_0 := by decide +kernel
theorem dksX7_one_1 : cX7_one.data.toList.drop 22 = dktX7_one_1 := dk_seg dksX7_one_0 22 rfl rfl
theorem dX7_one_0 : decode cX7_one 0 = .ok (.aload_n 0, 1) := dk_42 (dk_at dksX7_one_0 0 rfl rfl)
theorem dX7_one_1 : decode cX7_one 1 = .ok (.aload_n 0, 1) := dk_42 (dk_at dksX7_one_0 1 rfl rfl)
theorem dX7_one_2 : decode cX7_one 2 = .ok (.invokevirtual 40, 3) := dk_182 0 40 (dk_at dksX7_one_0 2 rfl rfl)
theorem dX7_one_5 : decode cX7_one 5 = .ok (.i2l, 1) := dk_133 (dk_at dksX7_one_0 5 rfl rfl)
theorem dX7_one_6 : decode cX7_one 6 = .ok (.iload_n 1, 1) := dk_27 (dk_at dksX7_one_0 6 rfl rfl)
theorem dX7_one_7 : decode cX7_one 7 = .ok (.i2l, 1) := dk_133 (dk_at dksX7_one_0 7 rfl rfl)
theorem dX7_one_8 : decode cX7_one 8 = .ok (.iload_n 1, 1) := dk_27 (dk_at dksX7_one_0 8 rfl rfl)
theorem dX7_one_9 : decode cX7_one 9 = .ok (.iload_n 2, 1) := dk_28 (dk_at dksX7_one_0 9 rfl rfl)
theorem dX7_one_10 : decode cX7_one 10 = .ok (.iadd, 1) := dk_96 (dk_at dksX7_one_0 10 rfl rfl)
theorem dX7_one_11 : decode cX7_one 11 = .ok (.iconst 1, 1) := dk_4 (dk_at dksX7_one_0 11 rfl rfl)
theorem dX7_one_12 : decode cX7_one 12 = .ok (.isub, 1) := dk_100 (dk_at dksX7_one_0 12 rfl rfl)
theorem dX7_one_13 : decode cX7_one 13 = .ok (.i2l, 1) := dk_133 (dk_at dksX7_one_0 13 rfl rfl)
theorem dX7_one_14 : decode cX7_one 14 = .ok (.invokestatic 44, 3) := dk_184 0 44 (dk_at dksX7_one_0 14 rfl rfl)
theorem dX7_one_17 : decode cX7_one 17 = .ok (.invokevirtual 36, 3) := dk_182 0 36 (dk_at dksX7_one_0 17 rfl rfl)
theorem dX7_one_20 : decode cX7_one 20 = .ok (.aload_n 0, 1) := dk_42 (dk_at dksX7_one_0 20 rfl rfl)
theorem dX7_one_21 : decode cX7_one 21 = .ok (.dup, 1) := dk_89 (dk_at dksX7_one_0 21 rfl rfl)
theorem dX7_one_22 : decode cX7_one 22 = .ok (.getfield 28, 3) := dk_180 0 28 (dk_at dksX7_one_1 0 rfl rfl)
theorem dX7_one_25 : decode cX7_one 25 = .ok (.iconst 1, 1) := dk_4 (dk_at dksX7_one_1 3 rfl rfl)
theorem dX7_one_26 : decode cX7_one 26 = .ok (.iadd, 1) := dk_96 (dk_at dksX7_one_1 4 rfl rfl)
theorem dX7_one_27 : decode cX7_one 27 = .ok (.putfield 28, 3) := dk_181 0 28 (dk_at dksX7_one_1 5 rfl rfl)
theorem dX7_one_30 : decode cX7_one 30 = .ok (.aload_n 0, 1) := dk_42 (dk_at dksX7_one_1 8 rfl rfl)
theorem dX7_one_31 : decode cX7_one 31 = .ok (.getfield 9, 3) := dk_180 0 9 (dk_at dksX7_one_1 9 rfl rfl)
theorem dX7_one_34 : decode cX7_one 34 = .ok (.aload_n 0, 1) := dk_42 (dk_at dksX7_one_1 12 rfl rfl)
theorem dX7_one_35 : decode cX7_one 35 = .ok (.getfield 28, 3) := dk_180 0 28 (dk_at dksX7_one_1 13 rfl rfl)
theorem dX7_one_38 : decode cX7_one 38 = .ok (.iconst 1, 1) := dk_4 (dk_at dksX7_one_1 16 rfl rfl)
theorem dX7_one_39 : decode cX7_one 39 = .ok (.isub, 1) := dk_100 (dk_at dksX7_one_1 17 rfl rfl)
theorem dX7_one_40 : decode cX7_one 40 = .ok (.baload, 1) := dk_51 (dk_at dksX7_one_1 18 rfl rfl)
theorem dX7_one_41 : decode cX7_one 41 = .ok (.iload_n 1, 1) := dk_27 (dk_at dksX7_one_1 19 rfl rfl)
theorem dX7_one_42 : decode cX7_one 42 = .ok (.isub, 1) := dk_100 (dk_at dksX7_one_1 20 rfl rfl)
theorem dX7_one_43 : decode cX7_one 43 = .ok (.ireturn, 1) := dk_172 (dk_at dksX7_one_1 21 rfl rfl)
abbrev cX7_here : ByteArray := prog_10_method_2_code
def yX7_here : MethodName := ⟨RX7, "here", "()I"⟩
def dkwX7_here_1 : List UInt8 := [167, 0, 4, 2, 172]
abbrev dktX7_here_1 : List UInt8 := dkwX7_here_1 ++ []
def dkwX7_here_0 : List UInt8 := [42, 180, 0, 28, 42, 180, 0, 25, 162, 0, 19, 42, 180, 0, 9, 42, 180, 0, 28, 51, 17, 0, 255, 126]
abbrev dktX7_here_0 : List UInt8 := dkwX7_here_0 ++ dktX7_here_1
theorem dksX7_here_0 : cX7_here.data.toList.drop 0 = dktX7_here_0 := by decide +kernel
theorem dksX7_here_1 : cX7_here.data.toList.drop 24 = dktX7_here_1 := dk_seg dksX7_here_0 24 rfl rfl
theorem dX7_here_0 : decode cX7_here 0 = .ok (.aload_n 0, 1) := dk_42 (dk_at dksX7_here_0 0 rfl rfl)
theorem dX7_here_1 : decode cX7_here 1 = .ok (.getfield 28, 3) := dk_180 0 28 (dk_at dksX7_here_0 1 rfl rfl)
theorem dX7_here_4 : decode cX7_here 4 = .ok (.aload_n 0, 1) := dk_42 (dk_at dksX7_here_0 4 rfl rfl)
theorem dX7_here_5 : decode cX7_here 5 = .ok (.getfield 25, 3) := dk_180 0 25 (dk_at dksX7_here_0 5 rfl rfl)
theorem dX7_here_8 : decode cX7_here 8 = .ok (.if_icmp .ge 19, 3) := dk_162 0 19 (dk_at dksX7_here_0 8 rfl rfl)
theorem dX7_here_11 : decode cX7_here 11 = .ok (.aload_n 0, 1) := dk_42 (dk_at dksX7_here_0 11 rfl rfl)
theorem dX7_here_12 : decode cX7_here 12 = .ok (.getfield 9, 3) := dk_180 0 9 (dk_at dksX7_here_0 12 rfl rfl)
theorem dX7_here_15 : decode cX7_here 15 = .ok (.aload_n 0, 1) := dk_42 (dk_at dksX7_here_0 15 rfl rfl)
theorem dX7_here_16 : decode cX7_here 16 = .ok (.getfield 28, 3) := dk_180 0 28 (dk_at dksX7_here_0 16 rfl rfl)
theorem dX7_here_19 : decode cX7_here 19 = .ok (.baload, 1) := dk_51 (dk_at dksX7_here_0 19 rfl rfl)
theorem dX7_here_20 : decode cX7_here 20 = .ok (.sipush 255, 3) := dk_17 0 255 (dk_at dksX7_here_0 20 rfl rfl)
theorem dX7_here_23 : decode cX7_here 23 = .ok (.iand, 1) := dk_126 (dk_at dksX7_here_0 23 rfl rfl)
theorem dX7_here_24 : decode cX7_here 24 = .ok (.goto 4, 3) := dk_167 0 4 (dk_at dksX7_here_1 0 rfl rfl)
theorem dX7_here_27 : decode cX7_here 27 = .ok (.iconst (-1), 1) := dk_2 (dk_at dksX7_here_1 3 rfl rfl)
theorem dX7_here_28 : decode cX7_here 28 = .ok (.ireturn, 1) := dk_172 (dk_at dksX7_here_1 4 rfl rfl)
abbrev cX7_need : ByteArray := prog_10_method_3_code
def yX7_need : MethodName := ⟨RX7, "need", "(Z)V"⟩
def dkwX7_need_0 : List UInt8 := [27, 154, 0, 15, 187, 0, 31, 89, 42, 180, 0, 28, 183, 0, 33, 191, 177]
abbrev dktX7_need_0 : List UInt8 := dkwX7_need_0 ++ []
theorem dksX7_need_0 : cX7_need.data.toList.drop 0 = dktX7_need_0 := by decide +kernel
theorem dX7_need_0 : decode cX7_need 0 = .ok (.iload_n 1, 1) := dk_27 (dk_at dksX7_need_0 0 rfl rfl)
theorem dX7_need_1 : decode cX7_need 1 = .ok (.ifCond .ne 15, 3) := dk_154 0 15 (dk_at dksX7_need_0 1 rfl rfl)
theorem dX7_need_4 : decode cX7_need 4 = .ok (.new 31, 3) := dk_187 0 31 (dk_at dksX7_need_0 4 rfl rfl)
theorem dX7_need_7 : decode cX7_need 7 = .ok (.dup, 1) := dk_89 (dk_at dksX7_need_0 7 rfl rfl)
theorem dX7_need_8 : decode cX7_need 8 = .ok (.aload_n 0, 1) := dk_42 (dk_at dksX7_need_0 8 rfl rfl)
theorem dX7_need_9 : decode cX7_need 9 = .ok (.getfield 28, 3) := dk_180 0 28 (dk_at dksX7_need_0 9 rfl rfl)
theorem dX7_need_12 : decode cX7_need 12 = .ok (.invokespecial 33, 3) := dk_183 0 33 (dk_at dksX7_need_0 12 rfl rfl)
theorem dX7_need_15 : decode cX7_need 15 = .ok (.athrow, 1) := dk_191 (dk_at dksX7_need_0 15 rfl rfl)
theorem dX7_need_16 : decode cX7_need 16 = .ok (.return_, 1) := dk_177 (dk_at dksX7_need_0 16 rfl rfl)
abbrev cX7_passes : ByteArray := prog_10_method_5_code
def yX7_passes : MethodName := ⟨RX7, "passes", "(C)Z"⟩
def dkwX7_passes_0 : List UInt8 := [42, 182, 0, 40, 27, 159, 0, 5, 3, 172, 42, 89, 180, 0, 28, 4, 96, 181, 0, 28, 4, 172]
abbrev dktX7_passes_0 : List UInt8 := dkwX7_passes_0 ++ []
theorem dksX7_passes_0 : cX7_passes.data.toList.drop 0 = dktX7_passes_0 := by decide +kernel
theorem dX7_passes_0 : decode cX7_passes 0 = .ok (.aload_n 0, 1) := dk_42 (dk_at dksX7_passes_0 0 rfl rfl)
theorem dX7_passes_1 : decode cX7_passes 1 = .ok (.invokevirtual 40, 3) := dk_182 0 40 (dk_at dksX7_passes_0 1 rfl rfl)
theorem dX7_passes_4 : decode cX7_passes 4 = .ok (.iload_n 1, 1) := dk_27 (dk_at dksX7_passes_0 4 rfl rfl)
theorem dX7_passes_5 : decode cX7_passes 5 = .ok (.if_icmp .eq 5, 3) := dk_159 0 5 (dk_at dksX7_passes_0 5 rfl rfl)
theorem dX7_passes_8 : decode cX7_passes 8 = .ok (.iconst 0, 1) := dk_3 (dk_at dksX7_passes_0 8 rfl rfl)
theorem dX7_passes_9 : decode cX7_passes 9 = .ok (.ireturn, 1) := dk_172 (dk_at dksX7_passes_0 9 rfl rfl)
theorem dX7_passes_10 : decode cX7_passes 10 = .ok (.aload_n 0, 1) := dk_42 (dk_at dksX7_passes_0 10 rfl rfl)
theorem dX7_passes_11 : decode cX7_passes 11 = .ok (.dup, 1) := dk_89 (dk_at dksX7_passes_0 11 rfl rfl)
theorem dX7_passes_12 : decode cX7_passes 12 = .ok (.getfield 28, 3) := dk_180 0 28 (dk_at dksX7_passes_0 12 rfl rfl)
theorem dX7_passes_15 : decode cX7_passes 15 = .ok (.iconst 1, 1) := dk_4 (dk_at dksX7_passes_0 15 rfl rfl)
theorem dX7_passes_16 : decode cX7_passes 16 = .ok (.iadd, 1) := dk_96 (dk_at dksX7_passes_0 16 rfl rfl)
theorem dX7_passes_17 : decode cX7_passes 17 = .ok (.putfield 28, 3) := dk_181 0 28 (dk_at dksX7_passes_0 17 rfl rfl)
theorem dX7_passes_20 : decode cX7_passes 20 = .ok (.iconst 1, 1) := dk_4 (dk_at dksX7_passes_0 20 rfl rfl)
theorem dX7_passes_21 : decode cX7_passes 21 = .ok (.ireturn, 1) := dk_172 (dk_at dksX7_passes_0 21 rfl rfl)
abbrev cX7_needEnd : ByteArray := prog_10_method_4_code
def yX7_needEnd : MethodName := ⟨RX7, "needEnd", "()V"⟩
def dkwX7_needEnd_0 : List UInt8 := [42, 42, 180, 0, 28, 42, 180, 0, 15, 160, 0, 7, 4, 167, 0, 4, 3, 182, 0, 36, 177]
abbrev dktX7_needEnd_0 : List UInt8 := dkwX7_needEnd_0 ++ []
theorem dksX7_needEnd_0 : cX7_needEnd.data.toList.drop 0 = dktX7_needEnd_0 := by decide +kernel
theorem dX7_needEnd_0 : decode cX7_needEnd 0 = .ok (.aload_n 0, 1) := dk_42 (dk_at dksX7_needEnd_0 0 rfl rfl)
theorem dX7_needEnd_1 : decode cX7_needEnd 1 = .ok (.aload_n 0, 1) := dk_42 (dk_at dksX7_needEnd_0 1 rfl rfl)
theorem dX7_needEnd_2 : decode cX7_needEnd 2 = .ok (.getfield 28, 3) := dk_180 0 28 (dk_at dksX7_needEnd_0 2 rfl rfl)
theorem dX7_needEnd_5 : decode cX7_needEnd 5 = .ok (.aload_n 0, 1) := dk_42 (dk_at dksX7_needEnd_0 5 rfl rfl)
theorem dX7_needEnd_6 : decode cX7_needEnd 6 = .ok (.getfield 15, 3) := dk_180 0 15 (dk_at dksX7_needEnd_0 6 rfl rfl)
theorem dX7_needEnd_9 : decode cX7_needEnd 9 = .ok (.if_icmp .ne 7, 3) := dk_160 0 7 (dk_at dksX7_needEnd_0 9 rfl rfl)
theorem dX7_needEnd_12 : decode cX7_needEnd 12 = .ok (.iconst 1, 1) := dk_4 (dk_at dksX7_needEnd_0 12 rfl rfl)
theorem dX7_needEnd_13 : decode cX7_needEnd 13 = .ok (.goto 4, 3) := dk_167 0 4 (dk_at dksX7_needEnd_0 13 rfl rfl)
theorem dX7_needEnd_16 : decode cX7_needEnd 16 = .ok (.iconst 0, 1) := dk_3 (dk_at dksX7_needEnd_0 16 rfl rfl)
theorem dX7_needEnd_17 : decode cX7_needEnd 17 = .ok (.invokevirtual 36, 3) := dk_182 0 36 (dk_at dksX7_needEnd_0 17 rfl rfl)
theorem dX7_needEnd_20 : decode cX7_needEnd 20 = .ok (.return_, 1) := dk_177 (dk_at dksX7_needEnd_0 20 rfl rfl)
abbrev cX7_number : ByteArray := prog_10_method_7_code
def yX7_number : MethodName := ⟨RX7, "number", "(I)I"⟩
def dkwX7_number_2 : List UInt8 := [132, 3, 1, 167, 255, 217, 28, 172]
abbrev dktX7_number_2 : List UInt8 := dkwX7_number_2 ++ []
def dkwX7_number_1 : List UInt8 := [20, 0, 54, 184, 0, 44, 153, 0, 23, 16, 10, 28, 104, 42, 16, 48, 16, 10, 182, 0, 48, 96, 61]
abbrev dktX7_number_1 : List UInt8 := dkwX7_number_1 ++ dktX7_number_2
def dkwX7_number_0 : List UInt8 := [42, 16, 48, 16, 10, 182, 0, 48, 61, 4, 62, 29, 27, 162, 0, 40, 42, 182, 0, 40, 133, 20, 0, 52]
abbrev dktX7_number_0 : List UInt8 := dkwX7_number_0 ++ dktX7_number_1
theorem dksX7_number_0 : cX7_number.data.toList.drop 0 = dktX7_number_0 := by decide +kernel
theorem dksX7_number_1 : cX7_number.data.toList.drop 24 = dktX7_number_1 := dk_seg dksX7_number_0 24 rfl rfl
theorem dksX7_number_2 : cX7_number.data.toList.drop 47 = dktX7_number_2 := dk_seg dksX7_number_1 23 rfl rfl
theorem dX7_number_0 : decode cX7_number 0 = .ok (.aload_n 0, 1) := dk_42 (dk_at dksX7_number_0 0 rfl rfl)
theorem dX7_number_1 : decode cX7_number 1 = .ok (.bipush 48, 2) := dk_16 48 (dk_at dksX7_number_0 1 rfl rfl)
theorem dX7_number_3 : decode cX7_number 3 = .ok (.bipush 10, 2) := dk_16 10 (dk_at dksX7_number_0 3 rfl rfl)
theorem dX7_number_5 : decode cX7_number 5 = .ok (.invokevirtual 48, 3) := dk_182 0 48 (dk_at dksX7_number_0 5 rfl rfl)
theorem dX7_number_8 : decode cX7_number 8 = .ok (.istore_n 2, 1) := dk_61 (dk_at dksX7_number_0 8 rfl rfl)
theorem dX7_number_9 : decode cX7_number 9 = .ok (.iconst 1, 1) := dk_4 (dk_at dksX7_number_0 9 rfl rfl)
theorem dX7_number_10 : decode cX7_number 10 = .ok (.istore_n 3, 1) := dk_62 (dk_at dksX7_number_0 10 rfl rfl)
theorem dX7_number_11 : decode cX7_number 11 = .ok (.iload_n 3, 1) := dk_29 (dk_at dksX7_number_0 11 rfl rfl)
theorem dX7_number_12 : decode cX7_number 12 = .ok (.iload_n 1, 1) := dk_27 (dk_at dksX7_number_0 12 rfl rfl)
theorem dX7_number_13 : decode cX7_number 13 = .ok (.if_icmp .ge 40, 3) := dk_162 0 40 (dk_at dksX7_number_0 13 rfl rfl)
theorem dX7_number_16 : decode cX7_number 16 = .ok (.aload_n 0, 1) := dk_42 (dk_at dksX7_number_0 16 rfl rfl)
theorem dX7_number_17 : decode cX7_number 17 = .ok (.invokevirtual 40, 3) := dk_182 0 40 (dk_at dksX7_number_0 17 rfl rfl)
theorem dX7_number_20 : decode cX7_number 20 = .ok (.i2l, 1) := dk_133 (dk_at dksX7_number_0 20 rfl rfl)
theorem dX7_number_21 : decode cX7_number 21 = .ok (.ldc2_w 52, 3) := dk_20 0 52 (dk_at dksX7_number_0 21 rfl rfl)
theorem dX7_number_24 : decode cX7_number 24 = .ok (.ldc2_w 54, 3) := dk_20 0 54 (dk_at dksX7_number_1 0 rfl rfl)
theorem dX7_number_27 : decode cX7_number 27 = .ok (.invokestatic 44, 3) := dk_184 0 44 (dk_at dksX7_number_1 3 rfl rfl)
theorem dX7_number_30 : decode cX7_number 30 = .ok (.ifCond .eq 23, 3) := dk_153 0 23 (dk_at dksX7_number_1 6 rfl rfl)
theorem dX7_number_33 : decode cX7_number 33 = .ok (.bipush 10, 2) := dk_16 10 (dk_at dksX7_number_1 9 rfl rfl)
theorem dX7_number_35 : decode cX7_number 35 = .ok (.iload_n 2, 1) := dk_28 (dk_at dksX7_number_1 11 rfl rfl)
theorem dX7_number_36 : decode cX7_number 36 = .ok (.imul, 1) := dk_104 (dk_at dksX7_number_1 12 rfl rfl)
theorem dX7_number_37 : decode cX7_number 37 = .ok (.aload_n 0, 1) := dk_42 (dk_at dksX7_number_1 13 rfl rfl)
theorem dX7_number_38 : decode cX7_number 38 = .ok (.bipush 48, 2) := dk_16 48 (dk_at dksX7_number_1 14 rfl rfl)
theorem dX7_number_40 : decode cX7_number 40 = .ok (.bipush 10, 2) := dk_16 10 (dk_at dksX7_number_1 16 rfl rfl)
theorem dX7_number_42 : decode cX7_number 42 = .ok (.invokevirtual 48, 3) := dk_182 0 48 (dk_at dksX7_number_1 18 rfl rfl)
theorem dX7_number_45 : decode cX7_number 45 = .ok (.iadd, 1) := dk_96 (dk_at dksX7_number_1 21 rfl rfl)
theorem dX7_number_46 : decode cX7_number 46 = .ok (.istore_n 2, 1) := dk_61 (dk_at dksX7_number_1 22 rfl rfl)
theorem dX7_number_47 : decode cX7_number 47 = .ok (.iinc 3 1, 3) := dk_132 3 1 (dk_at dksX7_number_2 0 rfl rfl)
theorem dX7_number_50 : decode cX7_number 50 = .ok (.goto (-39), 3) := dk_167 255 217 (dk_at dksX7_number_2 3 rfl rfl)
theorem dX7_number_53 : decode cX7_number 53 = .ok (.iload_n 2, 1) := dk_28 (dk_at dksX7_number_2 6 rfl rfl)
theorem dX7_number_54 : decode cX7_number 54 = .ok (.ireturn, 1) := dk_172 (dk_at dksX7_number_2 7 rfl rfl)
theorem q116 : (Jvm.Cond.initialized "BonnetValley$Words") ∈ lw_all := lw_g (lw_at lw_m1 7 rfl) rfl
theorem q352 : (Jvm.Cond.instantiable "BonnetValley$Words" (4 : Nat)) ∈ lw_all := lw_g (lw_at lw_m2 3 rfl) rfl
theorem q354 : (Jvm.Cond.instanceMethod ({ cls := "BonnetValley$Words", name := "<init>", desc := "([BII)V" } : Jvm.MethodName)) ∈ lw_all := lw_g (lw_at lw_m2 5 rfl) rfl
theorem q355 : (Jvm.Cond.code ({ cls := "BonnetValley$Words", name := "<init>", desc := "([BII)V" } : Jvm.MethodName) prog_10_method_1_code (4 : Nat) (Option.none : Option Jvm.ClassFile.FieldType)) ∈ lw_all := lw_g (lw_at lw_m2 6 rfl) rfl
theorem q356 : (Jvm.Cond.methodLink "BonnetValley$Words" (3 : Nat) ({ cls := "java/lang/Object", name := "<init>", desc := "()V" } : Jvm.MethodName)) ∈ lw_all := lw_g (lw_at lw_m2 7 rfl) rfl
theorem q357 : (Jvm.Cond.methodLink "BonnetValley$Words" (19 : Nat) ({ cls := "java/lang/Math", name := "min", desc := "(II)I" } : Jvm.MethodName)) ∈ lw_all := lw_g (lw_at lw_m2 8 rfl) rfl
theorem q360 : (Jvm.Cond.fieldLink "BonnetValley$Words" (9 : Nat) "BonnetValley$Words" "of" "[B") ∈ lw_all := lw_g (lw_at lw_m2 11 rfl) rfl
theorem q361 : (Jvm.Cond.fieldLink "BonnetValley$Words" (15 : Nat) "BonnetValley$Words" "size" "I") ∈ lw_all := lw_g (lw_at lw_m2 12 rfl) rfl
theorem q363 : (Jvm.Cond.fieldLink "BonnetValley$Words" (25 : Nat) "BonnetValley$Words" "end" "I") ∈ lw_all := lw_g (lw_at lw_m2 14 rfl) rfl
theorem q366 : (Jvm.Cond.fieldLink "BonnetValley$Words" (28 : Nat) "BonnetValley$Words" "at" "I") ∈ lw_all := lw_g (lw_at lw_m2 17 rfl) rfl
theorem q372 : (Jvm.Cond.laysFinal "BonnetValley$Words" "BonnetValley$Words" "of" "[B") ∈ lw_all := lw_g (lw_at lw_m2 23 rfl) rfl
theorem q373 : (Jvm.Cond.soleField "BonnetValley$Words" "of") ∈ lw_all := lw_g (lw_at lw_m2 24 rfl) rfl
theorem q374 : (Jvm.Cond.laysFinal "BonnetValley$Words" "BonnetValley$Words" "size" "I") ∈ lw_all := lw_g (lw_at lw_m2 25 rfl) rfl
theorem q375 : (Jvm.Cond.soleField "BonnetValley$Words" "size") ∈ lw_all := lw_g (lw_at lw_m2 26 rfl) rfl
theorem q376 : (Jvm.Cond.laysFinal "BonnetValley$Words" "BonnetValley$Words" "end" "I") ∈ lw_all := lw_g (lw_at lw_m2 27 rfl) rfl
theorem q377 : (Jvm.Cond.soleField "BonnetValley$Words" "end") ∈ lw_all := lw_g (lw_at lw_m2 28 rfl) rfl
theorem q378 : (Jvm.Cond.lays "BonnetValley$Words" "BonnetValley$Words" "at" "I") ∈ lw_all := lw_g (lw_at lw_m2 29 rfl) rfl
theorem q379 : (Jvm.Cond.soleField "BonnetValley$Words" "at") ∈ lw_all := lw_g (lw_at lw_m2 30 rfl) rfl
theorem q380 : (Jvm.Cond.superclass "BonnetValley$Words" "java/lang/Object") ∈ lw_all := lw_g (lw_at lw_m2 31 rfl) rfl
theorem q382 : (Jvm.Cond.instanceMethod ({ cls := "BonnetValley$Words", name := "one", desc := "(CI)I" } : Jvm.MethodName)) ∈ lw_all := lw_g (lw_at lw_m2 33 rfl) rfl
theorem q383 : (Jvm.Cond.selects "BonnetValley$Words" ({ cls := "BonnetValley$Words", name := "one", desc := "(CI)I" } : Jvm.MethodName) ({ cls := "BonnetValley$Words", name := "one", desc := "(CI)I" } : Jvm.MethodName)) ∈ lw_all := lw_g (lw_at lw_m2 34 rfl) rfl
theorem q384 : (Jvm.Cond.sameMethod "BonnetValley$Words" "BonnetValley$Words" "one" "(CI)I") ∈ lw_all := lw_g (lw_at lw_m2 35 rfl) rfl
theorem q387 : (Jvm.Cond.code ({ cls := "BonnetValley$Words", name := "one", desc := "(CI)I" } : Jvm.MethodName) prog_10_method_6_code (3 : Nat) (Option.some Jvm.ClassFile.FieldType.int)) ∈ lw_all := lw_g (lw_at lw_m2 38 rfl) rfl
theorem q388 : (Jvm.Cond.methodLink "BonnetValley$Words" (40 : Nat) ({ cls := "BonnetValley$Words", name := "here", desc := "()I" } : Jvm.MethodName)) ∈ lw_all := lw_g (lw_at lw_m2 39 rfl) rfl
theorem q389 : (Jvm.Cond.instanceMethod ({ cls := "BonnetValley$Words", name := "here", desc := "()I" } : Jvm.MethodName)) ∈ lw_all := lw_g (lw_at lw_m2 40 rfl) rfl
theorem q390 : (Jvm.Cond.selects "BonnetValley$Words" ({ cls := "BonnetValley$Words", name := "here", desc := "()I" } : Jvm.MethodName) ({ cls := "BonnetValley$Words", name := "here", desc := "()I" } : Jvm.MethodName)) ∈ lw_all := lw_g (lw_at lw_m2 41 rfl) rfl
theorem q391 : (Jvm.Cond.sameMethod "BonnetValley$Words" "BonnetValley$Words" "here" "()I") ∈ lw_all := lw_g (lw_at lw_m2 42 rfl) rfl
theorem q394 : (Jvm.Cond.code ({ cls := "BonnetValley$Words", name := "here", desc := "()I" } : Jvm.MethodName) prog_10_method_2_code (1 : Nat) (Option.some Jvm.ClassFile.FieldType.int)) ∈ lw_all := lw_g (lw_at lw_m2 45 rfl) rfl
theorem q395 : (Jvm.Cond.methodLinkNest "BonnetValley$Words" (44 : Nat) ({ cls := "BonnetValley", name := "in", desc := "(JJJ)Z" } : Jvm.MethodName) "BonnetValley") ∈ lw_tbl := lw_at lw_m2 46 rfl
theorem q396 : (Jvm.Cond.methodLink "BonnetValley$Words" (36 : Nat) ({ cls := "BonnetValley$Words", name := "need", desc := "(Z)V" } : Jvm.MethodName)) ∈ lw_all := lw_g (lw_at lw_m2 47 rfl) rfl
theorem q397 : (Jvm.Cond.instanceMethod ({ cls := "BonnetValley$Words", name := "need", desc := "(Z)V" } : Jvm.MethodName)) ∈ lw_all := lw_g (lw_at lw_m2 48 rfl) rfl
theorem q398 : (Jvm.Cond.selects "BonnetValley$Words" ({ cls := "BonnetValley$Words", name := "need", desc := "(Z)V" } : Jvm.MethodName) ({ cls := "BonnetValley$Words", name := "need", desc := "(Z)V" } : Jvm.MethodName)) ∈ lw_all := lw_g (lw_at lw_m2 49 rfl) rfl
theorem q399 : (Jvm.Cond.sameMethod "BonnetValley$Words" "BonnetValley$Words" "need" "(Z)V") ∈ lw_all := lw_g (lw_at lw_m2 50 rfl) rfl
theorem q402 : (Jvm.Cond.code ({ cls := "BonnetValley$Words", name := "need", desc := "(Z)V" } : Jvm.MethodName) prog_10_method_3_code (2 : Nat) (Option.none : Option Jvm.ClassFile.FieldType)) ∈ lw_all := lw_g (lw_at lw_m2 53 rfl) rfl
theorem q403 : (Jvm.Cond.classLink "BonnetValley$Words" (31 : Nat) "BonnetValley$Fault") ∈ lw_all := lw_g (lw_at lw_m2 54 rfl) rfl
theorem q442 : (Jvm.Cond.methodLink "BonnetValley$Words" (33 : Nat) ({ cls := "BonnetValley$Fault", name := "<init>", desc := "(I)V" } : Jvm.MethodName)) ∈ lw_all := lw_g (lw_at lw_m2 93 rfl) rfl
theorem q467 : (Jvm.Cond.instanceMethod ({ cls := "BonnetValley$Words", name := "passes", desc := "(C)Z" } : Jvm.MethodName)) ∈ lw_all := lw_g (lw_at lw_m2 118 rfl) rfl
theorem q468 : (Jvm.Cond.selects "BonnetValley$Words" ({ cls := "BonnetValley$Words", name := "passes", desc := "(C)Z" } : Jvm.MethodName) ({ cls := "BonnetValley$Words", name := "passes", desc := "(C)Z" } : Jvm.MethodName)) ∈ lw_all := lw_g (lw_at lw_m2 119 rfl) rfl
theorem q469 : (Jvm.Cond.sameMethod "BonnetValley$Words" "BonnetValley$Words" "passes" "(C)Z") ∈ lw_all := lw_g (lw_at lw_m2 120 rfl) rfl
theorem q472 : (Jvm.Cond.code ({ cls := "BonnetValley$Words", name := "passes", desc := "(C)Z" } : Jvm.MethodName) prog_10_method_5_code (2 : Nat) (Option.some Jvm.ClassFile.FieldType.boolean)) ∈ lw_all := lw_g (lw_at lw_m2 123 rfl) rfl
theorem q475 : (Jvm.Cond.instanceMethod ({ cls := "BonnetValley$Words", name := "needEnd", desc := "()V" } : Jvm.MethodName)) ∈ lw_all := lw_g (lw_at lw_m2 126 rfl) rfl
theorem q476 : (Jvm.Cond.selects "BonnetValley$Words" ({ cls := "BonnetValley$Words", name := "needEnd", desc := "()V" } : Jvm.MethodName) ({ cls := "BonnetValley$Words", name := "needEnd", desc := "()V" } : Jvm.MethodName)) ∈ lw_all := lw_g (lw_at lw_m2 127 rfl) rfl
theorem q477 : (Jvm.Cond.sameMethod "BonnetValley$Words" "BonnetValley$Words" "needEnd" "()V") ∈ lw_all := lw_g (lw_at lw_m2 128 rfl) rfl
theorem q480 : (Jvm.Cond.code ({ cls := "BonnetValley$Words", name := "needEnd", desc := "()V" } : Jvm.MethodName) prog_10_method_4_code (1 : Nat) (Option.none : Option Jvm.ClassFile.FieldType)) ∈ lw_all := lw_g (lw_at lw_m2 131 rfl) rfl
theorem q570 : (Jvm.Cond.declares ({ cls := "BonnetValley$Words", name := "passes", desc := "(C)Z" } : Jvm.MethodName)) ∈ lw_tbl := lw_at lw_m2 221 rfl
theorem q574 : (Jvm.Cond.declares ({ cls := "BonnetValley$Words", name := "here", desc := "()I" } : Jvm.MethodName)) ∈ lw_tbl := lw_at lw_m2 225 rfl
theorem q578 : (Jvm.Cond.declares ({ cls := "BonnetValley$Words", name := "need", desc := "(Z)V" } : Jvm.MethodName)) ∈ lw_tbl := lw_at lw_m2 229 rfl
theorem q585 : (Jvm.Cond.declares ({ cls := "BonnetValley$Words", name := "number", desc := "(I)I" } : Jvm.MethodName)) ∈ lw_tbl := lw_at lw_m2 236 rfl
theorem q587 : (Jvm.Cond.instanceMethod ({ cls := "BonnetValley$Words", name := "number", desc := "(I)I" } : Jvm.MethodName)) ∈ lw_all := lw_g (lw_at lw_m2 238 rfl) rfl
theorem q588 : (Jvm.Cond.code ({ cls := "BonnetValley$Words", name := "number", desc := "(I)I" } : Jvm.MethodName) prog_10_method_7_code (4 : Nat) (Option.some Jvm.ClassFile.FieldType.int)) ∈ lw_all := lw_g (lw_at lw_m2 239 rfl) rfl
theorem q589 : (Jvm.Cond.methodLink "BonnetValley$Words" (48 : Nat) ({ cls := "BonnetValley$Words", name := "one", desc := "(CI)I" } : Jvm.MethodName)) ∈ lw_all := lw_g (lw_at lw_m3 0 rfl) rfl
theorem q590 : (Jvm.Cond.constantLong "BonnetValley$Words" (52 : Nat) (48 : Int64)) ∈ lw_all := lw_g (lw_at lw_m3 1 rfl) rfl
theorem q591 : (Jvm.Cond.constantLong "BonnetValley$Words" (54 : Nat) (57 : Int64)) ∈ lw_all := lw_g (lw_at lw_m3 2 rfl) rfl
theorem q695 : (Jvm.Cond.declares ({ cls := "BonnetValley$Words", name := "needEnd", desc := "()V" } : Jvm.MethodName)) ∈ lw_tbl := lw_at lw_m3 106 rfl
theorem q973 : (Jvm.Cond.declares ({ cls := "BonnetValley$Words", name := "one", desc := "(CI)I" } : Jvm.MethodName)) ∈ lw_tbl := lw_at lw_m4 144 rfl
theorem q1956 : (Jvm.Cond.castable "BonnetValley$Words" "java/lang/Object") ∈ lw_tbl := lw_at lw_m8 167 rfl
theorem in_X7 : ∀ w ∈ wsX70, w ∈ lw_all := lw_in wsX70 [372, 374, 376, 378] (by decide +kernel) (by decide +kernel)

/-! BonnetValley$Fault -/
set_option maxRecDepth 100000
def RX8 : String := "BonnetValley$Fault"
def TX8 : u_T := fun k => match k with
  | 0 => ("java/lang/Throwable", "cause", "Ljava/lang/Throwable;", false)
  | 1 => ("java/lang/Throwable", "stackTrace", "[Ljava/lang/StackTraceElement;", false)
  | 2 => ("java/lang/Throwable", "suppressedExceptions", "Ljava/util/List;", false)
  | 3 => ("java/lang/Throwable", "detailMessage", "Ljava/lang/String;", false)
  | 4 => ("java/lang/Throwable", "backtrace", "Ljava/lang/Object;", false)
  | 5 => ("java/lang/Throwable", "depth", "I", false)
  | _ => ("BonnetValley$Fault", "at", "I", true)
def tyX8 : Nat → FieldType := fun k => match k with
  | 0 => .object "java/lang/Throwable"
  | 1 => .array (.object "java/lang/StackTraceElement")
  | 2 => .object "java/util/List"
  | 3 => .object "java/lang/String"
  | 4 => .object "java/lang/Object"
  | 5 => .int
  | _ => .int
abbrev wsX80 : List Cond := u_ws RX8 TX8 7
theorem nmX8 : ∀ a, a < 7 → ∀ b, b < 7 → a ≠ b → (TX8 a).2.1 ≠ (TX8 b).2.1 := by decide +kernel
theorem tyX8_ok : ∀ k, k < 7 → parseFieldDescriptor (TX8 k).2.2.1 = some (tyX8 k) := by decide +kernel
abbrev cX8_init : ByteArray := prog_2_method_1_code
def yX8_init : MethodName := ⟨RX8, "<init>", "(I)V"⟩
def dkwX8_init_0 : List UInt8 := [42, 183, 0, 1, 42, 27, 181, 0, 7, 177]
abbrev dktX8_init_0 : List UInt8 := dkwX8_init_0 ++ []
theorem dksX8_init_0 : cX8_init.data.toList.drop 0 = dktX8_init_0 := by decide +kernel
theorem dX8_init_0 : decode cX8_init 0 = .ok (.aload_n 0, 1) := dk_42 (dk_at dksX8_init_0 0 rfl rfl)
theorem dX8_init_1 : decode cX8_init 1 = .ok (.invokespecial 1, 3) := dk_183 0 1 (dk_at dksX8_init_0 1 rfl rfl)
theorem dX8_init_4 : decode cX8_init 4 = .ok (.aload_n 0, 1) := dk_42 (dk_at dksX8_init_0 4 rfl rfl)
theorem dX8_init_5 : decode cX8_init 5 = .ok (.iload_n 1, 1) := dk_27 (dk_at dksX8_init_0 5 rfl rfl)
theorem dX8_init_6 : decode cX8_init 6 = .ok (.putfield 7, 3) := dk_181 0 7 (dk_at dksX8_init_0 6 rfl rfl)
theorem dX8_init_9 : decode cX8_init 9 = .ok (.return_, 1) := dk_177 (dk_at dksX8_init_0 9 rfl rfl)
theorem q120 : (Jvm.Cond.initialized "BonnetValley$Fault") ∈ lw_all := lw_g (lw_at lw_m1 11 rfl) rfl
theorem q404 : (Jvm.Cond.instantiable "BonnetValley$Fault" (7 : Nat)) ∈ lw_all := lw_g (lw_at lw_m2 55 rfl) rfl
theorem q405 : (Jvm.Cond.castable "BonnetValley$Fault" "BonnetValley$Fault") ∈ lw_tbl := lw_at lw_m2 56 rfl
theorem q410 : (Jvm.Cond.selects "BonnetValley$Fault" ({ cls := "java/lang/Throwable", name := "fillInStackTrace", desc := "(I)Ljava/lang/Throwable;" } : Jvm.MethodName) ({ cls := "java/lang/Throwable", name := "fillInStackTrace", desc := "(I)Ljava/lang/Throwable;" } : Jvm.MethodName)) ∈ lw_all := lw_g (lw_at lw_m2 61 rfl) rfl
theorem q411 : (Jvm.Cond.selects "BonnetValley$Fault" ({ cls := "java/lang/Throwable", name := "fillInStackTrace", desc := "()Ljava/lang/Throwable;" } : Jvm.MethodName) ({ cls := "java/lang/Throwable", name := "fillInStackTrace", desc := "()Ljava/lang/Throwable;" } : Jvm.MethodName)) ∈ lw_all := lw_g (lw_at lw_m2 62 rfl) rfl
theorem q412 : (Jvm.Cond.lays "BonnetValley$Fault" "java/lang/Throwable" "cause" "Ljava/lang/Throwable;") ∈ lw_all := lw_g (lw_at lw_m2 63 rfl) rfl
theorem q414 : (Jvm.Cond.lays "BonnetValley$Fault" "java/lang/Throwable" "stackTrace" "[Ljava/lang/StackTraceElement;") ∈ lw_all := lw_g (lw_at lw_m2 65 rfl) rfl
theorem q416 : (Jvm.Cond.lays "BonnetValley$Fault" "java/lang/Throwable" "suppressedExceptions" "Ljava/util/List;") ∈ lw_all := lw_g (lw_at lw_m2 67 rfl) rfl
theorem q418 : (Jvm.Cond.lays "BonnetValley$Fault" "java/lang/Throwable" "detailMessage" "Ljava/lang/String;") ∈ lw_all := lw_g (lw_at lw_m2 69 rfl) rfl
theorem q420 : (Jvm.Cond.lays "BonnetValley$Fault" "java/lang/Throwable" "backtrace" "Ljava/lang/Object;") ∈ lw_all := lw_g (lw_at lw_m2 71 rfl) rfl
theorem q443 : (Jvm.Cond.instanceMethod ({ cls := "BonnetValley$Fault", name := "<init>", desc := "(I)V" } : Jvm.MethodName)) ∈ lw_all := lw_g (lw_at lw_m2 94 rfl) rfl
theorem q444 : (Jvm.Cond.code ({ cls := "BonnetValley$Fault", name := "<init>", desc := "(I)V" } : Jvm.MethodName) prog_2_method_1_code (2 : Nat) (Option.none : Option Jvm.ClassFile.FieldType)) ∈ lw_all := lw_g (lw_at lw_m2 95 rfl) rfl
theorem q445 : (Jvm.Cond.methodLink "BonnetValley$Fault" (1 : Nat) ({ cls := "java/lang/Exception", name := "<init>", desc := "()V" } : Jvm.MethodName)) ∈ lw_all := lw_g (lw_at lw_m2 96 rfl) rfl
theorem q449 : (Jvm.Cond.fieldLink "BonnetValley$Fault" (7 : Nat) "BonnetValley$Fault" "at" "I") ∈ lw_all := lw_g (lw_at lw_m2 100 rfl) rfl
theorem q456 : (Jvm.Cond.laysFinal "BonnetValley$Fault" "BonnetValley$Fault" "at" "I") ∈ lw_all := lw_g (lw_at lw_m2 107 rfl) rfl
theorem q457 : (Jvm.Cond.soleField "BonnetValley$Fault" "at") ∈ lw_all := lw_g (lw_at lw_m2 108 rfl) rfl
theorem q462 : (Jvm.Cond.lays "BonnetValley$Fault" "java/lang/Throwable" "depth" "I") ∈ lw_all := lw_g (lw_at lw_m2 113 rfl) rfl
theorem q465 : (Jvm.Cond.superclass "BonnetValley$Fault" "java/lang/Exception") ∈ lw_all := lw_g (lw_at lw_m2 116 rfl) rfl
theorem q1957 : (Jvm.Cond.castable "BonnetValley$Fault" "java/lang/Object") ∈ lw_tbl := lw_at lw_m8 168 rfl
theorem in_X8 : ∀ w ∈ wsX80, w ∈ lw_all := lw_in wsX80 [412, 414, 416, 418, 420, 462, 456] (by decide +kernel) (by decide +kernel)

/-! BonnetValley$Rule -/
set_option maxRecDepth 100000
def RX9 : String := "BonnetValley$Rule"
def TX9 : u_T := fun k => match k with
  | 0 => ("BonnetValley$Words", "of", "[B", true)
  | 1 => ("BonnetValley$Words", "size", "I", true)
  | 2 => ("BonnetValley$Words", "end", "I", true)
  | 3 => ("BonnetValley$Words", "at", "I", false)
  | 4 => ("BonnetValley$Rule", "upland", "LBonnetValley$Upland;", false)
  | 5 => ("BonnetValley$Rule", "man", "I", false)
  | 6 => ("BonnetValley$Rule", "brim", "I", false)
  | _ => ("BonnetValley$Rule", "this$0", "LBonnetValley;", true)
def tyX9 : Nat → FieldType := fun k => match k with
  | 0 => .array .byte
  | 1 => .int
  | 2 => .int
  | 3 => .int
  | 4 => .object "BonnetValley$Upland"
  | 5 => .int
  | 6 => .int
  | _ => .object "BonnetValley"
abbrev wsX90 : List Cond := u_ws RX9 TX9 8
theorem nmX9 : ∀ a, a < 8 → ∀ b, b < 8 → a ≠ b → (TX9 a).2.1 ≠ (TX9 b).2.1 := by decide +kernel
theorem tyX9_ok : ∀ k, k < 8 → parseFieldDescriptor (TX9 k).2.2.1 = some (tyX9 k) := by decide +kernel
abbrev cX9_init : ByteArray := prog_6_method_1_code
def yX9_init : MethodName := ⟨RX9, "<init>", "(LBonnetValley;[BI)V"⟩
def dkwX9_init_0 : List UInt8 := [42, 43, 181, 0, 3, 42, 44, 29, 16, 40, 183, 0, 9, 177]
abbrev dktX9_init_0 : List UInt8 := dkwX9_init_0 ++ []
theorem dksX9_init_0 : cX9_init.data.toList.drop 0 = dktX9_init_0 := by decide +kernel
theorem dX9_init_0 : decode cX9_init 0 = .ok (.aload_n 0, 1) := dk_42 (dk_at dksX9_init_0 0 rfl rfl)
theorem dX9_init_1 : decode cX9_init 1 = .ok (.aload_n 1, 1) := dk_43 (dk_at dksX9_init_0 1 rfl rfl)
theorem dX9_init_2 : decode cX9_init 2 = .ok (.putfield 3, 3) := dk_181 0 3 (dk_at dksX9_init_0 2 rfl rfl)
theorem dX9_init_5 : decode cX9_init 5 = .ok (.aload_n 0, 1) := dk_42 (dk_at dksX9_init_0 5 rfl rfl)
theorem dX9_init_6 : decode cX9_init 6 = .ok (.aload_n 2, 1) := dk_44 (dk_at dksX9_init_0 6 rfl rfl)
theorem dX9_init_7 : decode cX9_init 7 = .ok (.iload_n 3, 1) := dk_29 (dk_at dksX9_init_0 7 rfl rfl)
theorem dX9_init_8 : decode cX9_init 8 = .ok (.bipush 40, 2) := dk_16 40 (dk_at dksX9_init_0 8 rfl rfl)
theorem dX9_init_10 : decode cX9_init 10 = .ok (.invokespecial 9, 3) := dk_183 0 9 (dk_at dksX9_init_0 10 rfl rfl)
theorem dX9_init_13 : decode cX9_init 13 = .ok (.return_, 1) := dk_177 (dk_at dksX9_init_0 13 rfl rfl)
abbrev cX9_read : ByteArray := prog_6_method_2_code
def yX9_read : MethodName := ⟨RX9, "read", "()LBonnetValley$Rule;"⟩
def dkwX9_read_0 : List UInt8 := [42, 3, 182, 0, 15, 87, 42, 182, 0, 19, 42, 176]
abbrev dktX9_read_0 : List UInt8 := dkwX9_read_0 ++ []
theorem dksX9_read_0 : cX9_read.data.toList.drop 0 = dktX9_read_0 := by decide +kernel
theorem dX9_read_0 : decode cX9_read 0 = .ok (.aload_n 0, 1) := dk_42 (dk_at dksX9_read_0 0 rfl rfl)
theorem dX9_read_1 : decode cX9_read 1 = .ok (.iconst 0, 1) := dk_3 (dk_at dksX9_read_0 1 rfl rfl)
theorem dX9_read_2 : decode cX9_read 2 = .ok (.invokevirtual 15, 3) := dk_182 0 15 (dk_at dksX9_read_0 2 rfl rfl)
theorem dX9_read_5 : decode cX9_read 5 = .ok (.pop, 1) := dk_87 (dk_at dksX9_read_0 5 rfl rfl)
theorem dX9_read_6 : decode cX9_read 6 = .ok (.aload_n 0, 1) := dk_42 (dk_at dksX9_read_0 6 rfl rfl)
theorem dX9_read_7 : decode cX9_read 7 = .ok (.invokevirtual 19, 3) := dk_182 0 19 (dk_at dksX9_read_0 7 rfl rfl)
theorem dX9_read_10 : decode cX9_read 10 = .ok (.aload_n 0, 1) := dk_42 (dk_at dksX9_read_0 10 rfl rfl)
theorem dX9_read_11 : decode cX9_read 11 = .ok (.areturn, 1) := dk_176 (dk_at dksX9_read_0 11 rfl rfl)
abbrev cX9_held : ByteArray := prog_6_method_4_code
def yX9_held : MethodName := ⟨RX9, "held", "(I)I"⟩
def dkwX9_held_3 : List UInt8 := [4, 167, 0, 4, 3, 172, 28, 172]
abbrev dktX9_held_3 : List UInt8 := dkwX9_held_3 ++ []
def dkwX9_held_2 : List UInt8 := [4, 167, 0, 4, 3, 172, 42, 16, 61, 182, 0, 42, 153, 0, 18, 28, 42, 27, 182, 0, 39, 160, 0, 7]
abbrev dktX9_held_2 : List UInt8 := dkwX9_held_2 ++ dktX9_held_3
def dkwX9_held_1 : List UInt8 := [4, 167, 0, 4, 3, 172, 42, 16, 62, 182, 0, 42, 153, 0, 18, 28, 42, 27, 182, 0, 39, 164, 0, 7]
abbrev dktX9_held_1 : List UInt8 := dkwX9_held_1 ++ dktX9_held_2
def dkwX9_held_0 : List UInt8 := [42, 27, 182, 0, 39, 61, 42, 16, 60, 182, 0, 42, 153, 0, 18, 28, 42, 27, 182, 0, 39, 162, 0, 7]
abbrev dktX9_held_0 : List UInt8 := dkwX9_held_0 ++ dktX9_held_1
theorem dksX9_held_0 : cX9_held.data.toList.drop 0 = dktX9_held_0 := by decide +kernel
theorem dksX9_held_1 : cX9_held.data.toList.drop 24 = dktX9_held_1 := dk_seg dksX9_held_0 24 rfl rfl
theorem dksX9_held_2 : cX9_held.data.toList.drop 48 = dktX9_held_2 := dk_seg dksX9_held_1 24 rfl rfl
theorem dksX9_held_3 : cX9_held.data.toList.drop 72 = dktX9_held_3 := dk_seg dksX9_held_2 24 rfl rfl
theorem dX9_held_0 : decode cX9_held 0 = .ok (.aload_n 0, 1) := dk_42 (dk_at dksX9_held_0 0 rfl rfl)
theorem dX9_held_1 : decode cX9_held 1 = .ok (.iload_n 1, 1) := dk_27 (dk_at dksX9_held_0 1 rfl rfl)
theorem dX9_held_2 : decode cX9_held 2 = .ok (.invokevirtual 39, 3) := dk_182 0 39 (dk_at dksX9_held_0 2 rfl rfl)
theorem dX9_held_5 : decode cX9_held 5 = .ok (.istore_n 2, 1) := dk_61 (dk_at dksX9_held_0 5 rfl rfl)
theorem dX9_held_6 : decode cX9_held 6 = .ok (.aload_n 0, 1) := dk_42 (dk_at dksX9_held_0 6 rfl rfl)
theorem dX9_held_7 : decode cX9_held 7 = .ok (.bipush 60, 2) := dk_16 60 (dk_at dksX9_held_0 7 rfl rfl)
theorem dX9_held_9 : decode cX9_held 9 = .ok (.invokevirtual 42, 3) := dk_182 0 42 (dk_at dksX9_held_0 9 rfl rfl)
theorem dX9_held_12 : decode cX9_held 12 = .ok (.ifCond .eq 18, 3) := dk_153 0 18 (dk_at dksX9_held_0 12 rfl rfl)
theorem dX9_held_15 : decode cX9_held 15 = .ok (.iload_n 2, 1) := dk_28 (dk_at dksX9_held_0 15 rfl rfl)
theorem dX9_held_16 : decode cX9_held 16 = .ok (.aload_n 0, 1) := dk_42 (dk_at dksX9_held_0 16 rfl rfl)
theorem dX9_held_17 : decode cX9_held 17 = .ok (.iload_n 1, 1) := dk_27 (dk_at dksX9_held_0 17 rfl rfl)
theorem dX9_held_18 : decode cX9_held 18 = .ok (.invokevirtual 39, 3) := dk_182 0 39 (dk_at dksX9_held_0 18 rfl rfl)
theorem dX9_held_21 : decode cX9_held 21 = .ok (.if_icmp .ge 7, 3) := dk_162 0 7 (dk_at dksX9_held_0 21 rfl rfl)
theorem dX9_held_24 : decode cX9_held 24 = .ok (.iconst 1, 1) := dk_4 (dk_at dksX9_held_1 0 rfl rfl)
theorem dX9_held_25 : decode cX9_held 25 = .ok (.goto 4, 3) := dk_167 0 4 (dk_at dksX9_held_1 1 rfl rfl)
theorem dX9_held_28 : decode cX9_held 28 = .ok (.iconst 0, 1) := dk_3 (dk_at dksX9_held_1 4 rfl rfl)
theorem dX9_held_29 : decode cX9_held 29 = .ok (.ireturn, 1) := dk_172 (dk_at dksX9_held_1 5 rfl rfl)
theorem dX9_held_30 : decode cX9_held 30 = .ok (.aload_n 0, 1) := dk_42 (dk_at dksX9_held_1 6 rfl rfl)
theorem dX9_held_31 : decode cX9_held 31 = .ok (.bipush 62, 2) := dk_16 62 (dk_at dksX9_held_1 7 rfl rfl)
theorem dX9_held_33 : decode cX9_held 33 = .ok (.invokevirtual 42, 3) := dk_182 0 42 (dk_at dksX9_held_1 9 rfl rfl)
theorem dX9_held_36 : decode cX9_held 36 = .ok (.ifCond .eq 18, 3) := dk_153 0 18 (dk_at dksX9_held_1 12 rfl rfl)
theorem dX9_held_39 : decode cX9_held 39 = .ok (.iload_n 2, 1) := dk_28 (dk_at dksX9_held_1 15 rfl rfl)
theorem dX9_held_40 : decode cX9_held 40 = .ok (.aload_n 0, 1) := dk_42 (dk_at dksX9_held_1 16 rfl rfl)
theorem dX9_held_41 : decode cX9_held 41 = .ok (.iload_n 1, 1) := dk_27 (dk_at dksX9_held_1 17 rfl rfl)
theorem dX9_held_42 : decode cX9_held 42 = .ok (.invokevirtual 39, 3) := dk_182 0 39 (dk_at dksX9_held_1 18 rfl rfl)
theorem dX9_held_45 : decode cX9_held 45 = .ok (.if_icmp .le 7, 3) := dk_164 0 7 (dk_at dksX9_held_1 21 rfl rfl)
theorem dX9_held_48 : decode cX9_held 48 = .ok (.iconst 1, 1) := dk_4 (dk_at dksX9_held_2 0 rfl rfl)
theorem dX9_held_49 : decode cX9_held 49 = .ok (.goto 4, 3) := dk_167 0 4 (dk_at dksX9_held_2 1 rfl rfl)
theorem dX9_held_52 : decode cX9_held 52 = .ok (.iconst 0, 1) := dk_3 (dk_at dksX9_held_2 4 rfl rfl)
theorem dX9_held_53 : decode cX9_held 53 = .ok (.ireturn, 1) := dk_172 (dk_at dksX9_held_2 5 rfl rfl)
theorem dX9_held_54 : decode cX9_held 54 = .ok (.aload_n 0, 1) := dk_42 (dk_at dksX9_held_2 6 rfl rfl)
theorem dX9_held_55 : decode cX9_held 55 = .ok (.bipush 61, 2) := dk_16 61 (dk_at dksX9_held_2 7 rfl rfl)
theorem dX9_held_57 : decode cX9_held 57 = .ok (.invokevirtual 42, 3) := dk_182 0 42 (dk_at dksX9_held_2 9 rfl rfl)
theorem dX9_held_60 : decode cX9_held 60 = .ok (.ifCond .eq 18, 3) := dk_153 0 18 (dk_at dksX9_held_2 12 rfl rfl)
theorem dX9_held_63 : decode cX9_held 63 = .ok (.iload_n 2, 1) := dk_28 (dk_at dksX9_held_2 15 rfl rfl)
theorem dX9_held_64 : decode cX9_held 64 = .ok (.aload_n 0, 1) := dk_42 (dk_at dksX9_held_2 16 rfl rfl)
theorem dX9_held_65 : decode cX9_held 65 = .ok (.iload_n 1, 1) := dk_27 (dk_at dksX9_held_2 17 rfl rfl)
theorem dX9_held_66 : decode cX9_held 66 = .ok (.invokevirtual 39, 3) := dk_182 0 39 (dk_at dksX9_held_2 18 rfl rfl)
theorem dX9_held_69 : decode cX9_held 69 = .ok (.if_icmp .ne 7, 3) := dk_160 0 7 (dk_at dksX9_held_2 21 rfl rfl)
theorem dX9_held_72 : decode cX9_held 72 = .ok (.iconst 1, 1) := dk_4 (dk_at dksX9_held_3 0 rfl rfl)
theorem dX9_held_73 : decode cX9_held 73 = .ok (.goto 4, 3) := dk_167 0 4 (dk_at dksX9_held_3 1 rfl rfl)
theorem dX9_held_76 : decode cX9_held 76 = .ok (.iconst 0, 1) := dk_3 (dk_at dksX9_held_3 4 rfl rfl)
theorem dX9_held_77 : decode cX9_held 77 = .ok (.ireturn, 1) := dk_172 (dk_at dksX9_held_3 5 rfl rfl)
theorem dX9_held_78 : decode cX9_held 78 = .ok (.iload_n 2, 1) := dk_28 (dk_at dksX9_held_3 6 rfl rfl)
theorem dX9_held_79 : decode cX9_held 79 = .ok (.ireturn, 1) := dk_172 (dk_at dksX9_held_3 7 rfl rfl)
abbrev cX9_sum : ByteArray := prog_6_method_5_code
def yX9_sum : MethodName := ⟨RX9, "sum", "(I)I"⟩
def dkwX9_sum_3 : List UInt8 := [100, 61, 167, 255, 190, 28, 172]
abbrev dktX9_sum_3 : List UInt8 := dkwX9_sum_3 ++ []
def dkwX9_sum_2 : List UInt8 := [181, 0, 34, 42, 27, 182, 0, 46, 54, 4, 29, 153, 0, 10, 28, 21, 4, 96, 167, 0, 7, 28, 21, 4]
abbrev dktX9_sum_2 : List UInt8 := dkwX9_sum_2 ++ dktX9_sum_3
def dkwX9_sum_1 : List UInt8 := [42, 182, 0, 49, 16, 43, 160, 0, 7, 4, 167, 0, 4, 3, 62, 42, 89, 180, 0, 34, 4, 96]
abbrev dktX9_sum_1 : List UInt8 := dkwX9_sum_1 ++ dktX9_sum_2
def dkwX9_sum_0 : List UInt8 := [42, 27, 182, 0, 46, 61, 42, 182, 0, 49, 16, 43, 159, 0, 12, 42, 182, 0, 49, 16, 45, 160, 0, 54]
abbrev dktX9_sum_0 : List UInt8 := dkwX9_sum_0 ++ dktX9_sum_1
theorem dksX9_sum_0 : cX9_sum.data.toList.drop 0 = dktX9_sum_0 := by decide +kernel
theorem dksX9_sum_1 : cX9_sum.data.toList.drop 24 = dktX9_sum_1 := dk_seg dksX9_sum_0 24 rfl rfl
theorem dksX9_sum_2 : cX9_sum.data.toList.drop 46 = dktX9_sum_2 := dk_seg dksX9_sum_1 22 rfl rfl
theorem dksX9_sum_3 : cX9_sum.data.toList.drop 70 = dktX9_sum_3 := dk_seg dksX9_sum_2 24 rfl rfl
theorem dX9_sum_0 : decode cX9_sum 0 = .ok (.aload_n 0, 1) := dk_42 (dk_at dksX9_sum_0 0 rfl rfl)
theorem dX9_sum_1 : decode cX9_sum 1 = .ok (.iload_n 1, 1) := dk_27 (dk_at dksX9_sum_0 1 rfl rfl)
theorem dX9_sum_2 : decode cX9_sum 2 = .ok (.invokevirtual 46, 3) := dk_182 0 46 (dk_at dksX9_sum_0 2 rfl rfl)
theorem dX9_sum_5 : decode cX9_sum 5 = .ok (.istore_n 2, 1) := dk_61 (dk_at dksX9_sum_0 5 rfl rfl)
theorem dX9_sum_6 : decode cX9_sum 6 = .ok (.aload_n 0, 1) := dk_42 (dk_at dksX9_sum_0 6 rfl rfl)
theorem dX9_sum_7 : decode cX9_sum 7 = .ok (.invokevirtual 49, 3) := dk_182 0 49 (dk_at dksX9_sum_0 7 rfl rfl)
theorem dX9_sum_10 : decode cX9_sum 10 = .ok (.bipush 43, 2) := dk_16 43 (dk_at dksX9_sum_0 10 rfl rfl)
theorem dX9_sum_12 : decode cX9_sum 12 = .ok (.if_icmp .eq 12, 3) := dk_159 0 12 (dk_at dksX9_sum_0 12 rfl rfl)
theorem dX9_sum_15 : decode cX9_sum 15 = .ok (.aload_n 0, 1) := dk_42 (dk_at dksX9_sum_0 15 rfl rfl)
theorem dX9_sum_16 : decode cX9_sum 16 = .ok (.invokevirtual 49, 3) := dk_182 0 49 (dk_at dksX9_sum_0 16 rfl rfl)
theorem dX9_sum_19 : decode cX9_sum 19 = .ok (.bipush 45, 2) := dk_16 45 (dk_at dksX9_sum_0 19 rfl rfl)
theorem dX9_sum_21 : decode cX9_sum 21 = .ok (.if_icmp .ne 54, 3) := dk_160 0 54 (dk_at dksX9_sum_0 21 rfl rfl)
theorem dX9_sum_24 : decode cX9_sum 24 = .ok (.aload_n 0, 1) := dk_42 (dk_at dksX9_sum_1 0 rfl rfl)
theorem dX9_sum_25 : decode cX9_sum 25 = .ok (.invokevirtual 49, 3) := dk_182 0 49 (dk_at dksX9_sum_1 1 rfl rfl)
theorem dX9_sum_28 : decode cX9_sum 28 = .ok (.bipush 43, 2) := dk_16 43 (dk_at dksX9_sum_1 4 rfl rfl)
theorem dX9_sum_30 : decode cX9_sum 30 = .ok (.if_icmp .ne 7, 3) := dk_160 0 7 (dk_at dksX9_sum_1 6 rfl rfl)
theorem dX9_sum_33 : decode cX9_sum 33 = .ok (.iconst 1, 1) := dk_4 (dk_at dksX9_sum_1 9 rfl rfl)
theorem dX9_sum_34 : decode cX9_sum 34 = .ok (.goto 4, 3) := dk_167 0 4 (dk_at dksX9_sum_1 10 rfl rfl)
theorem dX9_sum_37 : decode cX9_sum 37 = .ok (.iconst 0, 1) := dk_3 (dk_at dksX9_sum_1 13 rfl rfl)
theorem dX9_sum_38 : decode cX9_sum 38 = .ok (.istore_n 3, 1) := dk_62 (dk_at dksX9_sum_1 14 rfl rfl)
theorem dX9_sum_39 : decode cX9_sum 39 = .ok (.aload_n 0, 1) := dk_42 (dk_at dksX9_sum_1 15 rfl rfl)
theorem dX9_sum_40 : decode cX9_sum 40 = .ok (.dup, 1) := dk_89 (dk_at dksX9_sum_1 16 rfl rfl)
theorem dX9_sum_41 : decode cX9_sum 41 = .ok (.getfield 34, 3) := dk_180 0 34 (dk_at dksX9_sum_1 17 rfl rfl)
theorem dX9_sum_44 : decode cX9_sum 44 = .ok (.iconst 1, 1) := dk_4 (dk_at dksX9_sum_1 20 rfl rfl)
theorem dX9_sum_45 : decode cX9_sum 45 = .ok (.iadd, 1) := dk_96 (dk_at dksX9_sum_1 21 rfl rfl)
theorem dX9_sum_46 : decode cX9_sum 46 = .ok (.putfield 34, 3) := dk_181 0 34 (dk_at dksX9_sum_2 0 rfl rfl)
theorem dX9_sum_49 : decode cX9_sum 49 = .ok (.aload_n 0, 1) := dk_42 (dk_at dksX9_sum_2 3 rfl rfl)
theorem dX9_sum_50 : decode cX9_sum 50 = .ok (.iload_n 1, 1) := dk_27 (dk_at dksX9_sum_2 4 rfl rfl)
theorem dX9_sum_51 : decode cX9_sum 51 = .ok (.invokevirtual 46, 3) := dk_182 0 46 (dk_at dksX9_sum_2 5 rfl rfl)
theorem dX9_sum_54 : decode cX9_sum 54 = .ok (.istore 4, 2) := dk_54 4 (dk_at dksX9_sum_2 8 rfl rfl)
theorem dX9_sum_56 : decode cX9_sum 56 = .ok (.iload_n 3, 1) := dk_29 (dk_at dksX9_sum_2 10 rfl rfl)
theorem dX9_sum_57 : decode cX9_sum 57 = .ok (.ifCond .eq 10, 3) := dk_153 0 10 (dk_at dksX9_sum_2 11 rfl rfl)
theorem dX9_sum_60 : decode cX9_sum 60 = .ok (.iload_n 2, 1) := dk_28 (dk_at dksX9_sum_2 14 rfl rfl)
theorem dX9_sum_61 : decode cX9_sum 61 = .ok (.iload 4, 2) := dk_21 4 (dk_at dksX9_sum_2 15 rfl rfl)
theorem dX9_sum_63 : decode cX9_sum 63 = .ok (.iadd, 1) := dk_96 (dk_at dksX9_sum_2 17 rfl rfl)
theorem dX9_sum_64 : decode cX9_sum 64 = .ok (.goto 7, 3) := dk_167 0 7 (dk_at dksX9_sum_2 18 rfl rfl)
theorem dX9_sum_67 : decode cX9_sum 67 = .ok (.iload_n 2, 1) := dk_28 (dk_at dksX9_sum_2 21 rfl rfl)
theorem dX9_sum_68 : decode cX9_sum 68 = .ok (.iload 4, 2) := dk_21 4 (dk_at dksX9_sum_2 22 rfl rfl)
theorem dX9_sum_70 : decode cX9_sum 70 = .ok (.isub, 1) := dk_100 (dk_at dksX9_sum_3 0 rfl rfl)
theorem dX9_sum_71 : decode cX9_sum 71 = .ok (.istore_n 2, 1) := dk_61 (dk_at dksX9_sum_3 1 rfl rfl)
theorem dX9_sum_72 : decode cX9_sum 72 = .ok (.goto (-66), 3) := dk_167 255 190 (dk_at dksX9_sum_3 2 rfl rfl)
theorem dX9_sum_75 : decode cX9_sum 75 = .ok (.iload_n 2, 1) := dk_28 (dk_at dksX9_sum_3 5 rfl rfl)
theorem dX9_sum_76 : decode cX9_sum 76 = .ok (.ireturn, 1) := dk_172 (dk_at dksX9_sum_3 6 rfl rfl)
abbrev cX9_product : ByteArray := prog_6_method_6_code
def yX9_product : MethodName := ⟨RX9, "product", "(I)I"⟩
def dkwX9_product_3 : List UInt8 := [154, 0, 7, 3, 167, 0, 7, 28, 21, 4, 108, 61, 167, 255, 181, 28, 172]
abbrev dktX9_product_3 : List UInt8 := dkwX9_product_3 ++ []
def dkwX9_product_2 : List UInt8 := [181, 0, 34, 42, 27, 182, 0, 53, 54, 4, 29, 153, 0, 10, 28, 21, 4, 104, 167, 0, 16, 21, 4]
abbrev dktX9_product_2 : List UInt8 := dkwX9_product_2 ++ dktX9_product_3
def dkwX9_product_1 : List UInt8 := [42, 182, 0, 49, 16, 42, 160, 0, 7, 4, 167, 0, 4, 3, 62, 42, 89, 180, 0, 34, 4, 96]
abbrev dktX9_product_1 : List UInt8 := dkwX9_product_1 ++ dktX9_product_2
def dkwX9_product_0 : List UInt8 := [42, 27, 182, 0, 53, 61, 42, 182, 0, 49, 16, 42, 159, 0, 12, 42, 182, 0, 49, 16, 47, 160, 0, 63]
abbrev dktX9_product_0 : List UInt8 := dkwX9_product_0 ++ dktX9_product_1
theorem dksX9_product_0 : cX9_product.data.toList.drop 0 = dktX9_product_0 := by decide +kernel
theorem dksX9_product_1 : cX9_product.data.toList.drop 24 = dktX9_product_1 := dk_seg dksX9_product_0 24 rfl rfl
theorem dksX9_product_2 : cX9_product.data.toList.drop 46 = dktX9_product_2 := dk_seg dksX9_product_1 22 rfl rfl
theorem dksX9_product_3 : cX9_product.data.toList.drop 69 = dktX9_product_3 := dk_seg dksX9_product_2 23 rfl rfl
theorem dX9_product_0 : decode cX9_product 0 = .ok (.aload_n 0, 1) := dk_42 (dk_at dksX9_product_0 0 rfl rfl)
theorem dX9_product_1 : decode cX9_product 1 = .ok (.iload_n 1, 1) := dk_27 (dk_at dksX9_product_0 1 rfl rfl)
theorem dX9_product_2 : decode cX9_product 2 = .ok (.invokevirtual 53, 3) := dk_182 0 53 (dk_at dksX9_product_0 2 rfl rfl)
theorem dX9_product_5 : decode cX9_product 5 = .ok (.istore_n 2, 1) := dk_61 (dk_at dksX9_product_0 5 rfl rfl)
theorem dX9_product_6 : decode cX9_product 6 = .ok (.aload_n 0, 1) := dk_42 (dk_at dksX9_product_0 6 rfl rfl)
theorem dX9_product_7 : decode cX9_product 7 = .ok (.invokevirtual 49, 3) := dk_182 0 49 (dk_at dksX9_product_0 7 rfl rfl)
theorem dX9_product_10 : decode cX9_product 10 = .ok (.bipush 42, 2) := dk_16 42 (dk_at dksX9_product_0 10 rfl rfl)
theorem dX9_product_12 : decode cX9_product 12 = .ok (.if_icmp .eq 12, 3) := dk_159 0 12 (dk_at dksX9_product_0 12 rfl rfl)
theorem dX9_product_15 : decode cX9_product 15 = .ok (.aload_n 0, 1) := dk_42 (dk_at dksX9_product_0 15 rfl rfl)
theorem dX9_product_16 : decode cX9_product 16 = .ok (.invokevirtual 49, 3) := dk_182 0 49 (dk_at dksX9_product_0 16 rfl rfl)
theorem dX9_product_19 : decode cX9_product 19 = .ok (.bipush 47, 2) := dk_16 47 (dk_at dksX9_product_0 19 rfl rfl)
theorem dX9_product_21 : decode cX9_product 21 = .ok (.if_icmp .ne 63, 3) := dk_160 0 63 (dk_at dksX9_product_0 21 rfl rfl)
theorem dX9_product_24 : decode cX9_product 24 = .ok (.aload_n 0, 1) := dk_42 (dk_at dksX9_product_1 0 rfl rfl)
theorem dX9_product_25 : decode cX9_product 25 = .ok (.invokevirtual 49, 3) := dk_182 0 49 (dk_at dksX9_product_1 1 rfl rfl)
theorem dX9_product_28 : decode cX9_product 28 = .ok (.bipush 42, 2) := dk_16 42 (dk_at dksX9_product_1 4 rfl rfl)
theorem dX9_product_30 : decode cX9_product 30 = .ok (.if_icmp .ne 7, 3) := dk_160 0 7 (dk_at dksX9_product_1 6 rfl rfl)
theorem dX9_product_33 : decode cX9_product 33 = .ok (.iconst 1, 1) := dk_4 (dk_at dksX9_product_1 9 rfl rfl)
theorem dX9_product_34 : decode cX9_product 34 = .ok (.goto 4, 3) := dk_167 0 4 (dk_at dksX9_product_1 10 rfl rfl)
theorem dX9_product_37 : decode cX9_product 37 = .ok (.iconst 0, 1) := dk_3 (dk_at dksX9_product_1 13 rfl rfl)
theorem dX9_product_38 : decode cX9_product 38 = .ok (.istore_n 3, 1) := dk_62 (dk_at dksX9_product_1 14 rfl rfl)
theorem dX9_product_39 : decode cX9_product 39 = .ok (.aload_n 0, 1) := dk_42 (dk_at dksX9_product_1 15 rfl rfl)
theorem dX9_product_40 : decode cX9_product 40 = .ok (.dup, 1) := dk_89 (dk_at dksX9_product_1 16 rfl rfl)
theorem dX9_product_41 : decode cX9_product 41 = .ok (.getfield 34, 3) := dk_180 0 34 (dk_at dksX9_product_1 17 rfl rfl)
theorem dX9_product_44 : decode cX9_product 44 = .ok (.iconst 1, 1) := dk_4 (dk_at dksX9_product_1 20 rfl rfl)
theorem dX9_product_45 : decode cX9_product 45 = .ok (.iadd, 1) := dk_96 (dk_at dksX9_product_1 21 rfl rfl)
theorem dX9_product_46 : decode cX9_product 46 = .ok (.putfield 34, 3) := dk_181 0 34 (dk_at dksX9_product_2 0 rfl rfl)
theorem dX9_product_49 : decode cX9_product 49 = .ok (.aload_n 0, 1) := dk_42 (dk_at dksX9_product_2 3 rfl rfl)
theorem dX9_product_50 : decode cX9_product 50 = .ok (.iload_n 1, 1) := dk_27 (dk_at dksX9_product_2 4 rfl rfl)
theorem dX9_product_51 : decode cX9_product 51 = .ok (.invokevirtual 53, 3) := dk_182 0 53 (dk_at dksX9_product_2 5 rfl rfl)
theorem dX9_product_54 : decode cX9_product 54 = .ok (.istore 4, 2) := dk_54 4 (dk_at dksX9_product_2 8 rfl rfl)
theorem dX9_product_56 : decode cX9_product 56 = .ok (.iload_n 3, 1) := dk_29 (dk_at dksX9_product_2 10 rfl rfl)
theorem dX9_product_57 : decode cX9_product 57 = .ok (.ifCond .eq 10, 3) := dk_153 0 10 (dk_at dksX9_product_2 11 rfl rfl)
theorem dX9_product_60 : decode cX9_product 60 = .ok (.iload_n 2, 1) := dk_28 (dk_at dksX9_product_2 14 rfl rfl)
theorem dX9_product_61 : decode cX9_product 61 = .ok (.iload 4, 2) := dk_21 4 (dk_at dksX9_product_2 15 rfl rfl)
theorem dX9_product_63 : decode cX9_product 63 = .ok (.imul, 1) := dk_104 (dk_at dksX9_product_2 17 rfl rfl)
theorem dX9_product_64 : decode cX9_product 64 = .ok (.goto 16, 3) := dk_167 0 16 (dk_at dksX9_product_2 18 rfl rfl)
theorem dX9_product_67 : decode cX9_product 67 = .ok (.iload 4, 2) := dk_21 4 (dk_at dksX9_product_2 21 rfl rfl)
theorem dX9_product_69 : decode cX9_product 69 = .ok (.ifCond .ne 7, 3) := dk_154 0 7 (dk_at dksX9_product_3 0 rfl rfl)
theorem dX9_product_72 : decode cX9_product 72 = .ok (.iconst 0, 1) := dk_3 (dk_at dksX9_product_3 3 rfl rfl)
theorem dX9_product_73 : decode cX9_product 73 = .ok (.goto 7, 3) := dk_167 0 7 (dk_at dksX9_product_3 4 rfl rfl)
theorem dX9_product_76 : decode cX9_product 76 = .ok (.iload_n 2, 1) := dk_28 (dk_at dksX9_product_3 7 rfl rfl)
theorem dX9_product_77 : decode cX9_product 77 = .ok (.iload 4, 2) := dk_21 4 (dk_at dksX9_product_3 8 rfl rfl)
theorem dX9_product_79 : decode cX9_product 79 = .ok (.idiv, 1) := dk_108 (dk_at dksX9_product_3 10 rfl rfl)
theorem dX9_product_80 : decode cX9_product 80 = .ok (.istore_n 2, 1) := dk_61 (dk_at dksX9_product_3 11 rfl rfl)
theorem dX9_product_81 : decode cX9_product 81 = .ok (.goto (-75), 3) := dk_167 255 181 (dk_at dksX9_product_3 12 rfl rfl)
theorem dX9_product_84 : decode cX9_product 84 = .ok (.iload_n 2, 1) := dk_28 (dk_at dksX9_product_3 15 rfl rfl)
theorem dX9_product_85 : decode cX9_product 85 = .ok (.ireturn, 1) := dk_172 (dk_at dksX9_product_3 16 rfl rfl)
abbrev cX9_thing : ByteArray := prog_6_method_7_code
def yX9_thing : MethodName := ⟨RX9, "thing", "(I)I"⟩
def dkwX9_thing_6 : List UInt8 := [42, 28, 182, 0, 78, 172]
abbrev dktX9_thing_6 : List UInt8 := dkwX9_thing_6 ++ []
def dkwX9_thing_5 : List UInt8 := [182, 0, 56, 42, 89, 180, 0, 34, 4, 96, 181, 0, 34, 42, 180, 0, 23, 199, 0, 7, 3, 167, 0, 8]
abbrev dktX9_thing_5 : List UInt8 := dkwX9_thing_5 ++ dktX9_thing_6
def dkwX9_thing_4 : List UInt8 := [182, 0, 49, 61, 42, 28, 2, 159, 0, 16, 18, 71, 28, 182, 0, 73, 155, 0, 7, 4, 167, 0, 4, 3]
abbrev dktX9_thing_4 : List UInt8 := dkwX9_thing_4 ++ dktX9_thing_5
def dkwX9_thing_3 : List UInt8 := [182, 0, 49, 133, 20, 0, 60, 20, 0, 62, 184, 0, 64, 153, 0, 9, 42, 6, 182, 0, 68, 172, 42]
abbrev dktX9_thing_3 : List UInt8 := dkwX9_thing_3 ++ dktX9_thing_4
def dkwX9_thing_2 : List UInt8 := [181, 0, 34, 42, 27, 4, 96, 182, 0, 15, 61, 42, 42, 16, 41, 182, 0, 42, 182, 0, 56, 28, 172, 42]
abbrev dktX9_thing_2 : List UInt8 := dkwX9_thing_2 ++ dktX9_thing_3
def dkwX9_thing_1 : List UInt8 := [160, 0, 47, 42, 27, 7, 162, 0, 7, 4, 167, 0, 4, 3, 182, 0, 56, 42, 89, 180, 0, 34, 4, 96]
abbrev dktX9_thing_1 : List UInt8 := dkwX9_thing_1 ++ dktX9_thing_2
def dkwX9_thing_0 : List UInt8 := [42, 16, 45, 182, 0, 42, 153, 0, 10, 42, 27, 182, 0, 53, 116, 172, 42, 182, 0, 49, 16, 40]
abbrev dktX9_thing_0 : List UInt8 := dkwX9_thing_0 ++ dktX9_thing_1
theorem dksX9_thing_0 : cX9_thing.data.toList.drop 0 = dktX9_thing_0 := by decide +kernel
theorem dksX9_thing_1 : cX9_thing.data.toList.drop 22 = dktX9_thing_1 := dk_seg dksX9_thing_0 22 rfl rfl
theorem dksX9_thing_2 : cX9_thing.data.toList.drop 46 = dktX9_thing_2 := dk_seg dksX9_thing_1 24 rfl rfl
theorem dksX9_thing_3 : cX9_thing.data.toList.drop 70 = dktX9_thing_3 := dk_seg dksX9_thing_2 24 rfl rfl
theorem dksX9_thing_4 : cX9_thing.data.toList.drop 93 = dktX9_thing_4 := dk_seg dksX9_thing_3 23 rfl rfl
theorem dksX9_thing_5 : cX9_thing.data.toList.drop 117 = dktX9_thing_5 := dk_seg dksX9_thing_4 24 rfl rfl
theorem dksX9_thing_6 : cX9_thing.data.toList.drop 141 = dktX9_thing_6 := dk_seg dksX9_thing_5 24 rfl rfl
theorem dX9_thing_0 : decode cX9_thing 0 = .ok (.aload_n 0, 1) := dk_42 (dk_at dksX9_thing_0 0 rfl rfl)
theorem dX9_thing_1 : decode cX9_thing 1 = .ok (.bipush 45, 2) := dk_16 45 (dk_at dksX9_thing_0 1 rfl rfl)
theorem dX9_thing_3 : decode cX9_thing 3 = .ok (.invokevirtual 42, 3) := dk_182 0 42 (dk_at dksX9_thing_0 3 rfl rfl)
theorem dX9_thing_6 : decode cX9_thing 6 = .ok (.ifCond .eq 10, 3) := dk_153 0 10 (dk_at dksX9_thing_0 6 rfl rfl)
theorem dX9_thing_9 : decode cX9_thing 9 = .ok (.aload_n 0, 1) := dk_42 (dk_at dksX9_thing_0 9 rfl rfl)
theorem dX9_thing_10 : decode cX9_thing 10 = .ok (.iload_n 1, 1) := dk_27 (dk_at dksX9_thing_0 10 rfl rfl)
theorem dX9_thing_11 : decode cX9_thing 11 = .ok (.invokevirtual 53, 3) := dk_182 0 53 (dk_at dksX9_thing_0 11 rfl rfl)
theorem dX9_thing_14 : decode cX9_thing 14 = .ok (.ineg, 1) := dk_116 (dk_at dksX9_thing_0 14 rfl rfl)
theorem dX9_thing_15 : decode cX9_thing 15 = .ok (.ireturn, 1) := dk_172 (dk_at dksX9_thing_0 15 rfl rfl)
theorem dX9_thing_16 : decode cX9_thing 16 = .ok (.aload_n 0, 1) := dk_42 (dk_at dksX9_thing_0 16 rfl rfl)
theorem dX9_thing_17 : decode cX9_thing 17 = .ok (.invokevirtual 49, 3) := dk_182 0 49 (dk_at dksX9_thing_0 17 rfl rfl)
theorem dX9_thing_20 : decode cX9_thing 20 = .ok (.bipush 40, 2) := dk_16 40 (dk_at dksX9_thing_0 20 rfl rfl)
theorem dX9_thing_22 : decode cX9_thing 22 = .ok (.if_icmp .ne 47, 3) := dk_160 0 47 (dk_at dksX9_thing_1 0 rfl rfl)
theorem dX9_thing_25 : decode cX9_thing 25 = .ok (.aload_n 0, 1) := dk_42 (dk_at dksX9_thing_1 3 rfl rfl)
theorem dX9_thing_26 : decode cX9_thing 26 = .ok (.iload_n 1, 1) := dk_27 (dk_at dksX9_thing_1 4 rfl rfl)
theorem dX9_thing_27 : decode cX9_thing 27 = .ok (.iconst 4, 1) := dk_7 (dk_at dksX9_thing_1 5 rfl rfl)
theorem dX9_thing_28 : decode cX9_thing 28 = .ok (.if_icmp .ge 7, 3) := dk_162 0 7 (dk_at dksX9_thing_1 6 rfl rfl)
theorem dX9_thing_31 : decode cX9_thing 31 = .ok (.iconst 1, 1) := dk_4 (dk_at dksX9_thing_1 9 rfl rfl)
theorem dX9_thing_32 : decode cX9_thing 32 = .ok (.goto 4, 3) := dk_167 0 4 (dk_at dksX9_thing_1 10 rfl rfl)
theorem dX9_thing_35 : decode cX9_thing 35 = .ok (.iconst 0, 1) := dk_3 (dk_at dksX9_thing_1 13 rfl rfl)
theorem dX9_thing_36 : decode cX9_thing 36 = .ok (.invokevirtual 56, 3) := dk_182 0 56 (dk_at dksX9_thing_1 14 rfl rfl)
theorem dX9_thing_39 : decode cX9_thing 39 = .ok (.aload_n 0, 1) := dk_42 (dk_at dksX9_thing_1 17 rfl rfl)
theorem dX9_thing_40 : decode cX9_thing 40 = .ok (.dup, 1) := dk_89 (dk_at dksX9_thing_1 18 rfl rfl)
theorem dX9_thing_41 : decode cX9_thing 41 = .ok (.getfield 34, 3) := dk_180 0 34 (dk_at dksX9_thing_1 19 rfl rfl)
theorem dX9_thing_44 : decode cX9_thing 44 = .ok (.iconst 1, 1) := dk_4 (dk_at dksX9_thing_1 22 rfl rfl)
theorem dX9_thing_45 : decode cX9_thing 45 = .ok (.iadd, 1) := dk_96 (dk_at dksX9_thing_1 23 rfl rfl)
theorem dX9_thing_46 : decode cX9_thing 46 = .ok (.putfield 34, 3) := dk_181 0 34 (dk_at dksX9_thing_2 0 rfl rfl)
theorem dX9_thing_49 : decode cX9_thing 49 = .ok (.aload_n 0, 1) := dk_42 (dk_at dksX9_thing_2 3 rfl rfl)
theorem dX9_thing_50 : decode cX9_thing 50 = .ok (.iload_n 1, 1) := dk_27 (dk_at dksX9_thing_2 4 rfl rfl)
theorem dX9_thing_51 : decode cX9_thing 51 = .ok (.iconst 1, 1) := dk_4 (dk_at dksX9_thing_2 5 rfl rfl)
theorem dX9_thing_52 : decode cX9_thing 52 = .ok (.iadd, 1) := dk_96 (dk_at dksX9_thing_2 6 rfl rfl)
theorem dX9_thing_53 : decode cX9_thing 53 = .ok (.invokevirtual 15, 3) := dk_182 0 15 (dk_at dksX9_thing_2 7 rfl rfl)
theorem dX9_thing_56 : decode cX9_thing 56 = .ok (.istore_n 2, 1) := dk_61 (dk_at dksX9_thing_2 10 rfl rfl)
theorem dX9_thing_57 : decode cX9_thing 57 = .ok (.aload_n 0, 1) := dk_42 (dk_at dksX9_thing_2 11 rfl rfl)
theorem dX9_thing_58 : decode cX9_thing 58 = .ok (.aload_n 0, 1) := dk_42 (dk_at dksX9_thing_2 12 rfl rfl)
theorem dX9_thing_59 : decode cX9_thing 59 = .ok (.bipush 41, 2) := dk_16 41 (dk_at dksX9_thing_2 13 rfl rfl)
theorem dX9_thing_61 : decode cX9_thing 61 = .ok (.invokevirtual 42, 3) := dk_182 0 42 (dk_at dksX9_thing_2 15 rfl rfl)
theorem dX9_thing_64 : decode cX9_thing 64 = .ok (.invokevirtual 56, 3) := dk_182 0 56 (dk_at dksX9_thing_2 18 rfl rfl)
theorem dX9_thing_67 : decode cX9_thing 67 = .ok (.iload_n 2, 1) := dk_28 (dk_at dksX9_thing_2 21 rfl rfl)
theorem dX9_thing_68 : decode cX9_thing 68 = .ok (.ireturn, 1) := dk_172 (dk_at dksX9_thing_2 22 rfl rfl)
theorem dX9_thing_69 : decode cX9_thing 69 = .ok (.aload_n 0, 1) := dk_42 (dk_at dksX9_thing_2 23 rfl rfl)
theorem dX9_thing_70 : decode cX9_thing 70 = .ok (.invokevirtual 49, 3) := dk_182 0 49 (dk_at dksX9_thing_3 0 rfl rfl)
theorem dX9_thing_73 : decode cX9_thing 73 = .ok (.i2l, 1) := dk_133 (dk_at dksX9_thing_3 3 rfl rfl)
theorem dX9_thing_74 : decode cX9_thing 74 = .ok (.ldc2_w 60, 3) := dk_20 0 60 (dk_at dksX9_thing_3 4 rfl rfl)
theorem dX9_thing_77 : decode cX9_thing 77 = .ok (.ldc2_w 62, 3) := dk_20 0 62 (dk_at dksX9_thing_3 7 rfl rfl)
theorem dX9_thing_80 : decode cX9_thing 80 = .ok (.invokestatic 64, 3) := dk_184 0 64 (dk_at dksX9_thing_3 10 rfl rfl)
theorem dX9_thing_83 : decode cX9_thing 83 = .ok (.ifCond .eq 9, 3) := dk_153 0 9 (dk_at dksX9_thing_3 13 rfl rfl)
theorem dX9_thing_86 : decode cX9_thing 86 = .ok (.aload_n 0, 1) := dk_42 (dk_at dksX9_thing_3 16 rfl rfl)
theorem dX9_thing_87 : decode cX9_thing 87 = .ok (.iconst 3, 1) := dk_6 (dk_at dksX9_thing_3 17 rfl rfl)
theorem dX9_thing_88 : decode cX9_thing 88 = .ok (.invokevirtual 68, 3) := dk_182 0 68 (dk_at dksX9_thing_3 18 rfl rfl)
theorem dX9_thing_91 : decode cX9_thing 91 = .ok (.ireturn, 1) := dk_172 (dk_at dksX9_thing_3 21 rfl rfl)
theorem dX9_thing_92 : decode cX9_thing 92 = .ok (.aload_n 0, 1) := dk_42 (dk_at dksX9_thing_3 22 rfl rfl)
theorem dX9_thing_93 : decode cX9_thing 93 = .ok (.invokevirtual 49, 3) := dk_182 0 49 (dk_at dksX9_thing_4 0 rfl rfl)
theorem dX9_thing_96 : decode cX9_thing 96 = .ok (.istore_n 2, 1) := dk_61 (dk_at dksX9_thing_4 3 rfl rfl)
theorem dX9_thing_97 : decode cX9_thing 97 = .ok (.aload_n 0, 1) := dk_42 (dk_at dksX9_thing_4 4 rfl rfl)
theorem dX9_thing_98 : decode cX9_thing 98 = .ok (.iload_n 2, 1) := dk_28 (dk_at dksX9_thing_4 5 rfl rfl)
theorem dX9_thing_99 : decode cX9_thing 99 = .ok (.iconst (-1), 1) := dk_2 (dk_at dksX9_thing_4 6 rfl rfl)
theorem dX9_thing_100 : decode cX9_thing 100 = .ok (.if_icmp .eq 16, 3) := dk_159 0 16 (dk_at dksX9_thing_4 7 rfl rfl)
theorem dX9_thing_103 : decode cX9_thing 103 = .ok (.ldc 71, 2) := dk_18 71 (dk_at dksX9_thing_4 10 rfl rfl)
theorem dX9_thing_105 : decode cX9_thing 105 = .ok (.iload_n 2, 1) := dk_28 (dk_at dksX9_thing_4 12 rfl rfl)
theorem dX9_thing_106 : decode cX9_thing 106 = .ok (.invokevirtual 73, 3) := dk_182 0 73 (dk_at dksX9_thing_4 13 rfl rfl)
theorem dX9_thing_109 : decode cX9_thing 109 = .ok (.ifCond .lt 7, 3) := dk_155 0 7 (dk_at dksX9_thing_4 16 rfl rfl)
theorem dX9_thing_112 : decode cX9_thing 112 = .ok (.iconst 1, 1) := dk_4 (dk_at dksX9_thing_4 19 rfl rfl)
theorem dX9_thing_113 : decode cX9_thing 113 = .ok (.goto 4, 3) := dk_167 0 4 (dk_at dksX9_thing_4 20 rfl rfl)
theorem dX9_thing_116 : decode cX9_thing 116 = .ok (.iconst 0, 1) := dk_3 (dk_at dksX9_thing_4 23 rfl rfl)
theorem dX9_thing_117 : decode cX9_thing 117 = .ok (.invokevirtual 56, 3) := dk_182 0 56 (dk_at dksX9_thing_5 0 rfl rfl)
theorem dX9_thing_120 : decode cX9_thing 120 = .ok (.aload_n 0, 1) := dk_42 (dk_at dksX9_thing_5 3 rfl rfl)
theorem dX9_thing_121 : decode cX9_thing 121 = .ok (.dup, 1) := dk_89 (dk_at dksX9_thing_5 4 rfl rfl)
theorem dX9_thing_122 : decode cX9_thing 122 = .ok (.getfield 34, 3) := dk_180 0 34 (dk_at dksX9_thing_5 5 rfl rfl)
theorem dX9_thing_125 : decode cX9_thing 125 = .ok (.iconst 1, 1) := dk_4 (dk_at dksX9_thing_5 8 rfl rfl)
theorem dX9_thing_126 : decode cX9_thing 126 = .ok (.iadd, 1) := dk_96 (dk_at dksX9_thing_5 9 rfl rfl)
theorem dX9_thing_127 : decode cX9_thing 127 = .ok (.putfield 34, 3) := dk_181 0 34 (dk_at dksX9_thing_5 10 rfl rfl)
theorem dX9_thing_130 : decode cX9_thing 130 = .ok (.aload_n 0, 1) := dk_42 (dk_at dksX9_thing_5 13 rfl rfl)
theorem dX9_thing_131 : decode cX9_thing 131 = .ok (.getfield 23, 3) := dk_180 0 23 (dk_at dksX9_thing_5 14 rfl rfl)
theorem dX9_thing_134 : decode cX9_thing 134 = .ok (.ifnonnull 7, 3) := dk_199 0 7 (dk_at dksX9_thing_5 17 rfl rfl)
theorem dX9_thing_137 : decode cX9_thing 137 = .ok (.iconst 0, 1) := dk_3 (dk_at dksX9_thing_5 20 rfl rfl)
theorem dX9_thing_138 : decode cX9_thing 138 = .ok (.goto 8, 3) := dk_167 0 8 (dk_at dksX9_thing_5 21 rfl rfl)
theorem dX9_thing_141 : decode cX9_thing 141 = .ok (.aload_n 0, 1) := dk_42 (dk_at dksX9_thing_6 0 rfl rfl)
theorem dX9_thing_142 : decode cX9_thing 142 = .ok (.iload_n 2, 1) := dk_28 (dk_at dksX9_thing_6 1 rfl rfl)
theorem dX9_thing_143 : decode cX9_thing 143 = .ok (.invokevirtual 78, 3) := dk_182 0 78 (dk_at dksX9_thing_6 2 rfl rfl)
theorem dX9_thing_146 : decode cX9_thing 146 = .ok (.ireturn, 1) := dk_172 (dk_at dksX9_thing_6 5 rfl rfl)
abbrev cX9_value : ByteArray := prog_6_method_8_code
def yX9_value : MethodName := ⟨RX9, "value", "(I)I"⟩
def dkwX9_value_7 : List UInt8 := [180, 0, 27, 46, 121, 182, 0, 106, 184, 0, 93, 172]
abbrev dktX9_value_7 : List UInt8 := dkwX9_value_7 ++ []
def dkwX9_value_6 : List UInt8 := [180, 0, 81, 16, 7, 112, 172, 42, 180, 0, 3, 42, 180, 0, 23, 10, 42, 180, 0, 23, 180, 0, 101, 42]
abbrev dktX9_value_6 : List UInt8 := dkwX9_value_6 ++ dktX9_value_7
def dkwX9_value_5 : List UInt8 := [180, 0, 23, 180, 0, 101, 42, 180, 0, 27, 46, 42, 180, 0, 3, 180, 0, 103, 112, 172, 42, 180, 0, 23]
abbrev dktX9_value_5 : List UInt8 := dkwX9_value_5 ++ dktX9_value_6
def dkwX9_value_4 : List UInt8 := [172, 42, 180, 0, 23, 180, 0, 101, 42, 180, 0, 27, 46, 42, 180, 0, 3, 180, 0, 103, 108, 172, 42]
abbrev dktX9_value_4 : List UInt8 := dkwX9_value_4 ++ dktX9_value_5
def dkwX9_value_3 : List UInt8 := [180, 0, 89, 42, 180, 0, 27, 46, 184, 0, 93, 172, 42, 180, 0, 23, 180, 0, 98, 42, 180, 0, 27, 46]
abbrev dktX9_value_3 : List UInt8 := dkwX9_value_3 ++ dktX9_value_4
def dkwX9_value_2 : List UInt8 := [42, 180, 0, 31, 172, 42, 180, 0, 3, 42, 180, 0, 23, 180, 0, 81, 182, 0, 86, 172, 42, 180, 0, 23]
abbrev dktX9_value_2 : List UInt8 := dkwX9_value_2 ++ dktX9_value_3
def dkwX9_value_1 : List UInt8 := [170, 0, 0, 0, 0, 0, 185, 0, 0, 0, 98, 0, 0, 0, 114, 0, 0, 0, 83, 0, 0, 0, 153, 0, 0, 0, 185, 0, 0, 0, 185, 0, 0, 0, 119, 0, 0, 0, 185, 0, 0, 0, 185, 0, 0, 0, 185, 0, 0, 0, 185, 0, 0, 0, 103, 0, 0, 0, 88, 0, 0, 0, 185, 0, 0, 0, 174, 0, 0, 0, 185, 0, 0, 0, 185, 0, 0, 0, 185, 0, 0, 0, 132]
abbrev dktX9_value_1 : List UInt8 := dkwX9_value_1 ++ dktX9_value_2
def dkwX9_value_0 : List UInt8 := [27]
abbrev dktX9_value_0 : List UInt8 := dkwX9_value_0 ++ dktX9_value_1
theorem dksX9_value_0 : cX9_value.data.toList.drop 0 = dktX9_value_0 := by decide +kernel
theorem dksX9_value_1 : cX9_value.data.toList.drop 1 = dktX9_value_1 := dk_seg dksX9_value_0 1 rfl rfl
theorem dksX9_value_2 : cX9_value.data.toList.drop 84 = dktX9_value_2 := dk_seg dksX9_value_1 83 rfl rfl
theorem dksX9_value_3 : cX9_value.data.toList.drop 108 = dktX9_value_3 := dk_seg dksX9_value_2 24 rfl rfl
theorem dksX9_value_4 : cX9_value.data.toList.drop 132 = dktX9_value_4 := dk_seg dksX9_value_3 24 rfl rfl
theorem dksX9_value_5 : cX9_value.data.toList.drop 155 = dktX9_value_5 := dk_seg dksX9_value_4 23 rfl rfl
theorem dksX9_value_6 : cX9_value.data.toList.drop 179 = dktX9_value_6 := dk_seg dksX9_value_5 24 rfl rfl
theorem dksX9_value_7 : cX9_value.data.toList.drop 203 = dktX9_value_7 := dk_seg dksX9_value_6 24 rfl rfl
theorem dX9_value_0 : decode cX9_value 0 = .ok (.iload_n 1, 1) := dk_27 (dk_at dksX9_value_0 0 rfl rfl)
theorem dX9_value_1 : decode cX9_value 1 = .ok (.tableswitch 185 98 114 #[83, 153, 185, 185, 119, 185, 185, 185, 185, 103, 88, 185, 174, 185, 185, 185, 132], 83) := by decide +kernel
theorem dX9_value_84 : decode cX9_value 84 = .ok (.aload_n 0, 1) := dk_42 (dk_at dksX9_value_2 0 rfl rfl)
theorem dX9_value_85 : decode cX9_value 85 = .ok (.getfield 31, 3) := dk_180 0 31 (dk_at dksX9_value_2 1 rfl rfl)
theorem dX9_value_88 : decode cX9_value 88 = .ok (.ireturn, 1) := dk_172 (dk_at dksX9_value_2 4 rfl rfl)
theorem dX9_value_89 : decode cX9_value 89 = .ok (.aload_n 0, 1) := dk_42 (dk_at dksX9_value_2 5 rfl rfl)
theorem dX9_value_90 : decode cX9_value 90 = .ok (.getfield 3, 3) := dk_180 0 3 (dk_at dksX9_value_2 6 rfl rfl)
theorem dX9_value_93 : decode cX9_value 93 = .ok (.aload_n 0, 1) := dk_42 (dk_at dksX9_value_2 9 rfl rfl)
theorem dX9_value_94 : decode cX9_value 94 = .ok (.getfield 23, 3) := dk_180 0 23 (dk_at dksX9_value_2 10 rfl rfl)
theorem dX9_value_97 : decode cX9_value 97 = .ok (.getfield 81, 3) := dk_180 0 81 (dk_at dksX9_value_2 13 rfl rfl)
theorem dX9_value_100 : decode cX9_value 100 = .ok (.invokevirtual 86, 3) := dk_182 0 86 (dk_at dksX9_value_2 16 rfl rfl)
theorem dX9_value_103 : decode cX9_value 103 = .ok (.ireturn, 1) := dk_172 (dk_at dksX9_value_2 19 rfl rfl)
theorem dX9_value_104 : decode cX9_value 104 = .ok (.aload_n 0, 1) := dk_42 (dk_at dksX9_value_2 20 rfl rfl)
theorem dX9_value_105 : decode cX9_value 105 = .ok (.getfield 23, 3) := dk_180 0 23 (dk_at dksX9_value_2 21 rfl rfl)
theorem dX9_value_108 : decode cX9_value 108 = .ok (.getfield 89, 3) := dk_180 0 89 (dk_at dksX9_value_3 0 rfl rfl)
theorem dX9_value_111 : decode cX9_value 111 = .ok (.aload_n 0, 1) := dk_42 (dk_at dksX9_value_3 3 rfl rfl)
theorem dX9_value_112 : decode cX9_value 112 = .ok (.getfield 27, 3) := dk_180 0 27 (dk_at dksX9_value_3 4 rfl rfl)
theorem dX9_value_115 : decode cX9_value 115 = .ok (.iaload, 1) := dk_46 (dk_at dksX9_value_3 7 rfl rfl)
theorem dX9_value_116 : decode cX9_value 116 = .ok (.invokestatic 93, 3) := dk_184 0 93 (dk_at dksX9_value_3 8 rfl rfl)
theorem dX9_value_119 : decode cX9_value 119 = .ok (.ireturn, 1) := dk_172 (dk_at dksX9_value_3 11 rfl rfl)
theorem dX9_value_120 : decode cX9_value 120 = .ok (.aload_n 0, 1) := dk_42 (dk_at dksX9_value_3 12 rfl rfl)
theorem dX9_value_121 : decode cX9_value 121 = .ok (.getfield 23, 3) := dk_180 0 23 (dk_at dksX9_value_3 13 rfl rfl)
theorem dX9_value_124 : decode cX9_value 124 = .ok (.getfield 98, 3) := dk_180 0 98 (dk_at dksX9_value_3 16 rfl rfl)
theorem dX9_value_127 : decode cX9_value 127 = .ok (.aload_n 0, 1) := dk_42 (dk_at dksX9_value_3 19 rfl rfl)
theorem dX9_value_128 : decode cX9_value 128 = .ok (.getfield 27, 3) := dk_180 0 27 (dk_at dksX9_value_3 20 rfl rfl)
theorem dX9_value_131 : decode cX9_value 131 = .ok (.iaload, 1) := dk_46 (dk_at dksX9_value_3 23 rfl rfl)
theorem dX9_value_132 : decode cX9_value 132 = .ok (.ireturn, 1) := dk_172 (dk_at dksX9_value_4 0 rfl rfl)
theorem dX9_value_133 : decode cX9_value 133 = .ok (.aload_n 0, 1) := dk_42 (dk_at dksX9_value_4 1 rfl rfl)
theorem dX9_value_134 : decode cX9_value 134 = .ok (.getfield 23, 3) := dk_180 0 23 (dk_at dksX9_value_4 2 rfl rfl)
theorem dX9_value_137 : decode cX9_value 137 = .ok (.getfield 101, 3) := dk_180 0 101 (dk_at dksX9_value_4 5 rfl rfl)
theorem dX9_value_140 : decode cX9_value 140 = .ok (.aload_n 0, 1) := dk_42 (dk_at dksX9_value_4 8 rfl rfl)
theorem dX9_value_141 : decode cX9_value 141 = .ok (.getfield 27, 3) := dk_180 0 27 (dk_at dksX9_value_4 9 rfl rfl)
theorem dX9_value_144 : decode cX9_value 144 = .ok (.iaload, 1) := dk_46 (dk_at dksX9_value_4 12 rfl rfl)
theorem dX9_value_145 : decode cX9_value 145 = .ok (.aload_n 0, 1) := dk_42 (dk_at dksX9_value_4 13 rfl rfl)
theorem dX9_value_146 : decode cX9_value 146 = .ok (.getfield 3, 3) := dk_180 0 3 (dk_at dksX9_value_4 14 rfl rfl)
theorem dX9_value_149 : decode cX9_value 149 = .ok (.getfield 103, 3) := dk_180 0 103 (dk_at dksX9_value_4 17 rfl rfl)
theorem dX9_value_152 : decode cX9_value 152 = .ok (.idiv, 1) := dk_108 (dk_at dksX9_value_4 20 rfl rfl)
theorem dX9_value_153 : decode cX9_value 153 = .ok (.ireturn, 1) := dk_172 (dk_at dksX9_value_4 21 rfl rfl)
theorem dX9_value_154 : decode cX9_value 154 = .ok (.aload_n 0, 1) := dk_42 (dk_at dksX9_value_4 22 rfl rfl)
theorem dX9_value_155 : decode cX9_value 155 = .ok (.getfield 23, 3) := dk_180 0 23 (dk_at dksX9_value_5 0 rfl rfl)
theorem dX9_value_158 : decode cX9_value 158 = .ok (.getfield 101, 3) := dk_180 0 101 (dk_at dksX9_value_5 3 rfl rfl)
theorem dX9_value_161 : decode cX9_value 161 = .ok (.aload_n 0, 1) := dk_42 (dk_at dksX9_value_5 6 rfl rfl)
theorem dX9_value_162 : decode cX9_value 162 = .ok (.getfield 27, 3) := dk_180 0 27 (dk_at dksX9_value_5 7 rfl rfl)
theorem dX9_value_165 : decode cX9_value 165 = .ok (.iaload, 1) := dk_46 (dk_at dksX9_value_5 10 rfl rfl)
theorem dX9_value_166 : decode cX9_value 166 = .ok (.aload_n 0, 1) := dk_42 (dk_at dksX9_value_5 11 rfl rfl)
theorem dX9_value_167 : decode cX9_value 167 = .ok (.getfield 3, 3) := dk_180 0 3 (dk_at dksX9_value_5 12 rfl rfl)
theorem dX9_value_170 : decode cX9_value 170 = .ok (.getfield 103, 3) := dk_180 0 103 (dk_at dksX9_value_5 15 rfl rfl)
theorem dX9_value_173 : decode cX9_value 173 = .ok (.irem, 1) := dk_112 (dk_at dksX9_value_5 18 rfl rfl)
theorem dX9_value_174 : decode cX9_value 174 = .ok (.ireturn, 1) := dk_172 (dk_at dksX9_value_5 19 rfl rfl)
theorem dX9_value_175 : decode cX9_value 175 = .ok (.aload_n 0, 1) := dk_42 (dk_at dksX9_value_5 20 rfl rfl)
theorem dX9_value_176 : decode cX9_value 176 = .ok (.getfield 23, 3) := dk_180 0 23 (dk_at dksX9_value_5 21 rfl rfl)
theorem dX9_value_179 : decode cX9_value 179 = .ok (.getfield 81, 3) := dk_180 0 81 (dk_at dksX9_value_6 0 rfl rfl)
theorem dX9_value_182 : decode cX9_value 182 = .ok (.bipush 7, 2) := dk_16 7 (dk_at dksX9_value_6 3 rfl rfl)
theorem dX9_value_184 : decode cX9_value 184 = .ok (.irem, 1) := dk_112 (dk_at dksX9_value_6 5 rfl rfl)
theorem dX9_value_185 : decode cX9_value 185 = .ok (.ireturn, 1) := dk_172 (dk_at dksX9_value_6 6 rfl rfl)
theorem dX9_value_186 : decode cX9_value 186 = .ok (.aload_n 0, 1) := dk_42 (dk_at dksX9_value_6 7 rfl rfl)
theorem dX9_value_187 : decode cX9_value 187 = .ok (.getfield 3, 3) := dk_180 0 3 (dk_at dksX9_value_6 8 rfl rfl)
theorem dX9_value_190 : decode cX9_value 190 = .ok (.aload_n 0, 1) := dk_42 (dk_at dksX9_value_6 11 rfl rfl)
theorem dX9_value_191 : decode cX9_value 191 = .ok (.getfield 23, 3) := dk_180 0 23 (dk_at dksX9_value_6 12 rfl rfl)
theorem dX9_value_194 : decode cX9_value 194 = .ok (.lconst 1, 1) := dk_10 (dk_at dksX9_value_6 15 rfl rfl)
theorem dX9_value_195 : decode cX9_value 195 = .ok (.aload_n 0, 1) := dk_42 (dk_at dksX9_value_6 16 rfl rfl)
theorem dX9_value_196 : decode cX9_value 196 = .ok (.getfield 23, 3) := dk_180 0 23 (dk_at dksX9_value_6 17 rfl rfl)
theorem dX9_value_199 : decode cX9_value 199 = .ok (.getfield 101, 3) := dk_180 0 101 (dk_at dksX9_value_6 20 rfl rfl)
theorem dX9_value_202 : decode cX9_value 202 = .ok (.aload_n 0, 1) := dk_42 (dk_at dksX9_value_6 23 rfl rfl)
theorem dX9_value_203 : decode cX9_value 203 = .ok (.getfield 27, 3) := dk_180 0 27 (dk_at dksX9_value_7 0 rfl rfl)
theorem dX9_value_206 : decode cX9_value 206 = .ok (.iaload, 1) := dk_46 (dk_at dksX9_value_7 3 rfl rfl)
theorem dX9_value_207 : decode cX9_value 207 = .ok (.lshl, 1) := dk_121 (dk_at dksX9_value_7 4 rfl rfl)
theorem dX9_value_208 : decode cX9_value 208 = .ok (.invokevirtual 106, 3) := dk_182 0 106 (dk_at dksX9_value_7 5 rfl rfl)
theorem dX9_value_211 : decode cX9_value 211 = .ok (.invokestatic 93, 3) := dk_184 0 93 (dk_at dksX9_value_7 8 rfl rfl)
theorem dX9_value_214 : decode cX9_value 214 = .ok (.ireturn, 1) := dk_172 (dk_at dksX9_value_7 11 rfl rfl)
abbrev cX9_of : ByteArray := prog_6_method_3_code
def yX9_of : MethodName := ⟨RX9, "of", "(LBonnetValley$Upland;II)I"⟩
def dkwX9_of_2 : List UInt8 := [21, 5, 172, 58, 6, 42, 1, 181, 0, 23, 25, 6, 191]
abbrev dktX9_of_2 : List UInt8 := dkwX9_of_2 ++ []
def dkwX9_of_1 : List UInt8 := [182, 0, 15, 54, 4, 42, 1, 181, 0, 23, 21, 4, 172, 58, 4, 3, 54, 5, 42, 1, 181, 0, 23]
abbrev dktX9_of_1 : List UInt8 := dkwX9_of_1 ++ dktX9_of_2
def dkwX9_of_0 : List UInt8 := [42, 43, 181, 0, 23, 42, 28, 181, 0, 27, 42, 29, 181, 0, 31, 42, 3, 181, 0, 34, 42, 3]
abbrev dktX9_of_0 : List UInt8 := dkwX9_of_0 ++ dktX9_of_1
theorem dksX9_of_0 : cX9_of.data.toList.drop 0 = dktX9_of_0 := by decide +kernel
theorem dksX9_of_1 : cX9_of.data.toList.drop 22 = dktX9_of_1 := dk_seg dksX9_of_0 22 rfl rfl
theorem dksX9_of_2 : cX9_of.data.toList.drop 45 = dktX9_of_2 := dk_seg dksX9_of_1 23 rfl rfl
theorem dX9_of_0 : decode cX9_of 0 = .ok (.aload_n 0, 1) := dk_42 (dk_at dksX9_of_0 0 rfl rfl)
theorem dX9_of_1 : decode cX9_of 1 = .ok (.aload_n 1, 1) := dk_43 (dk_at dksX9_of_0 1 rfl rfl)
theorem dX9_of_2 : decode cX9_of 2 = .ok (.putfield 23, 3) := dk_181 0 23 (dk_at dksX9_of_0 2 rfl rfl)
theorem dX9_of_5 : decode cX9_of 5 = .ok (.aload_n 0, 1) := dk_42 (dk_at dksX9_of_0 5 rfl rfl)
theorem dX9_of_6 : decode cX9_of 6 = .ok (.iload_n 2, 1) := dk_28 (dk_at dksX9_of_0 6 rfl rfl)
theorem dX9_of_7 : decode cX9_of 7 = .ok (.putfield 27, 3) := dk_181 0 27 (dk_at dksX9_of_0 7 rfl rfl)
theorem dX9_of_10 : decode cX9_of 10 = .ok (.aload_n 0, 1) := dk_42 (dk_at dksX9_of_0 10 rfl rfl)
theorem dX9_of_11 : decode cX9_of 11 = .ok (.iload_n 3, 1) := dk_29 (dk_at dksX9_of_0 11 rfl rfl)
theorem dX9_of_12 : decode cX9_of 12 = .ok (.putfield 31, 3) := dk_181 0 31 (dk_at dksX9_of_0 12 rfl rfl)
theorem dX9_of_15 : decode cX9_of 15 = .ok (.aload_n 0, 1) := dk_42 (dk_at dksX9_of_0 15 rfl rfl)
theorem dX9_of_16 : decode cX9_of 16 = .ok (.iconst 0, 1) := dk_3 (dk_at dksX9_of_0 16 rfl rfl)
theorem dX9_of_17 : decode cX9_of 17 = .ok (.putfield 34, 3) := dk_181 0 34 (dk_at dksX9_of_0 17 rfl rfl)
theorem dX9_of_20 : decode cX9_of 20 = .ok (.aload_n 0, 1) := dk_42 (dk_at dksX9_of_0 20 rfl rfl)
theorem dX9_of_21 : decode cX9_of 21 = .ok (.iconst 0, 1) := dk_3 (dk_at dksX9_of_0 21 rfl rfl)
theorem dX9_of_22 : decode cX9_of 22 = .ok (.invokevirtual 15, 3) := dk_182 0 15 (dk_at dksX9_of_1 0 rfl rfl)
theorem dX9_of_25 : decode cX9_of 25 = .ok (.istore 4, 2) := dk_54 4 (dk_at dksX9_of_1 3 rfl rfl)
theorem dX9_of_27 : decode cX9_of 27 = .ok (.aload_n 0, 1) := dk_42 (dk_at dksX9_of_1 5 rfl rfl)
theorem dX9_of_28 : decode cX9_of 28 = .ok (.aconst_null, 1) := dk_1 (dk_at dksX9_of_1 6 rfl rfl)
theorem dX9_of_29 : decode cX9_of 29 = .ok (.putfield 23, 3) := dk_181 0 23 (dk_at dksX9_of_1 7 rfl rfl)
theorem dX9_of_32 : decode cX9_of 32 = .ok (.iload 4, 2) := dk_21 4 (dk_at dksX9_of_1 10 rfl rfl)
theorem dX9_of_34 : decode cX9_of 34 = .ok (.ireturn, 1) := dk_172 (dk_at dksX9_of_1 12 rfl rfl)
theorem dX9_of_35 : decode cX9_of 35 = .ok (.astore 4, 2) := dk_58 4 (dk_at dksX9_of_1 13 rfl rfl)
theorem dX9_of_37 : decode cX9_of 37 = .ok (.iconst 0, 1) := dk_3 (dk_at dksX9_of_1 15 rfl rfl)
theorem dX9_of_38 : decode cX9_of 38 = .ok (.istore 5, 2) := dk_54 5 (dk_at dksX9_of_1 16 rfl rfl)
theorem dX9_of_40 : decode cX9_of 40 = .ok (.aload_n 0, 1) := dk_42 (dk_at dksX9_of_1 18 rfl rfl)
theorem dX9_of_41 : decode cX9_of 41 = .ok (.aconst_null, 1) := dk_1 (dk_at dksX9_of_1 19 rfl rfl)
theorem dX9_of_42 : decode cX9_of 42 = .ok (.putfield 23, 3) := dk_181 0 23 (dk_at dksX9_of_1 20 rfl rfl)
theorem dX9_of_45 : decode cX9_of 45 = .ok (.iload 5, 2) := dk_21 5 (dk_at dksX9_of_2 0 rfl rfl)
theorem dX9_of_47 : decode cX9_of 47 = .ok (.ireturn, 1) := dk_172 (dk_at dksX9_of_2 2 rfl rfl)
theorem dX9_of_48 : decode cX9_of 48 = .ok (.astore 6, 2) := dk_58 6 (dk_at dksX9_of_2 3 rfl rfl)
theorem dX9_of_50 : decode cX9_of 50 = .ok (.aload_n 0, 1) := dk_42 (dk_at dksX9_of_2 5 rfl rfl)
theorem dX9_of_51 : decode cX9_of 51 = .ok (.aconst_null, 1) := dk_1 (dk_at dksX9_of_2 6 rfl rfl)
theorem dX9_of_52 : decode cX9_of 52 = .ok (.putfield 23, 3) := dk_181 0 23 (dk_at dksX9_of_2 7 rfl rfl)
theorem dX9_of_55 : decode cX9_of 55 = .ok (.aload 6, 2) := dk_25 6 (dk_at dksX9_of_2 10 rfl rfl)
theorem dX9_of_57 : decode cX9_of 57 = .ok (.athrow, 1) := dk_191 (dk_at dksX9_of_2 12 rfl rfl)
theorem q125 : (Jvm.Cond.initialized "BonnetValley$Rule") ∈ lw_all := lw_g (lw_at lw_m1 16 rfl) rfl
theorem q190 : (Jvm.Cond.fieldLink "BonnetValley$Rule" (101 : Nat) "BonnetValley$Upland" "at" "[I") ∈ lw_all := lw_g (lw_at lw_m1 81 rfl) rfl
theorem q194 : (Jvm.Cond.fieldLink "BonnetValley$Rule" (98 : Nat) "BonnetValley$Upland" "facing" "[I") ∈ lw_all := lw_g (lw_at lw_m1 85 rfl) rfl
theorem q200 : (Jvm.Cond.fieldLink "BonnetValley$Rule" (89 : Nat) "BonnetValley$Upland" "knows" "[I") ∈ lw_all := lw_g (lw_at lw_m1 91 rfl) rfl
theorem q207 : (Jvm.Cond.fieldLink "BonnetValley$Rule" (81 : Nat) "BonnetValley$Upland" "hour" "I") ∈ lw_all := lw_g (lw_at lw_m1 98 rfl) rfl
theorem q236 : (Jvm.Cond.fieldLinkNest "BonnetValley$Rule" (103 : Nat) "BonnetValley" "columns" "I" "BonnetValley") ∈ lw_tbl := lw_at lw_m1 127 rfl
theorem q369 : (Jvm.Cond.fieldLink "BonnetValley$Rule" (34 : Nat) "BonnetValley$Rule" "at" "I") ∈ lw_all := lw_g (lw_at lw_m2 20 rfl) rfl
theorem q370 : (Jvm.Cond.sameField "BonnetValley$Rule" "BonnetValley$Words" "at" "I") ∈ lw_all := lw_g (lw_at lw_m2 21 rfl) rfl
theorem q386 : (Jvm.Cond.selects "BonnetValley$Rule" ({ cls := "BonnetValley$Words", name := "one", desc := "(CI)I" } : Jvm.MethodName) ({ cls := "BonnetValley$Words", name := "one", desc := "(CI)I" } : Jvm.MethodName)) ∈ lw_all := lw_g (lw_at lw_m2 37 rfl) rfl
theorem q393 : (Jvm.Cond.selects "BonnetValley$Rule" ({ cls := "BonnetValley$Words", name := "here", desc := "()I" } : Jvm.MethodName) ({ cls := "BonnetValley$Words", name := "here", desc := "()I" } : Jvm.MethodName)) ∈ lw_all := lw_g (lw_at lw_m2 44 rfl) rfl
theorem q401 : (Jvm.Cond.selects "BonnetValley$Rule" ({ cls := "BonnetValley$Words", name := "need", desc := "(Z)V" } : Jvm.MethodName) ({ cls := "BonnetValley$Words", name := "need", desc := "(Z)V" } : Jvm.MethodName)) ∈ lw_all := lw_g (lw_at lw_m2 52 rfl) rfl
theorem q471 : (Jvm.Cond.selects "BonnetValley$Rule" ({ cls := "BonnetValley$Words", name := "passes", desc := "(C)Z" } : Jvm.MethodName) ({ cls := "BonnetValley$Words", name := "passes", desc := "(C)Z" } : Jvm.MethodName)) ∈ lw_all := lw_g (lw_at lw_m2 122 rfl) rfl
theorem q479 : (Jvm.Cond.selects "BonnetValley$Rule" ({ cls := "BonnetValley$Words", name := "needEnd", desc := "()V" } : Jvm.MethodName) ({ cls := "BonnetValley$Words", name := "needEnd", desc := "()V" } : Jvm.MethodName)) ∈ lw_all := lw_g (lw_at lw_m2 130 rfl) rfl
theorem q526 : (Jvm.Cond.instantiable "BonnetValley$Rule" (8 : Nat)) ∈ lw_all := lw_g (lw_at lw_m2 177 rfl) rfl
theorem q528 : (Jvm.Cond.instanceMethod ({ cls := "BonnetValley$Rule", name := "<init>", desc := "(LBonnetValley;[BI)V" } : Jvm.MethodName)) ∈ lw_all := lw_g (lw_at lw_m2 179 rfl) rfl
theorem q529 : (Jvm.Cond.code ({ cls := "BonnetValley$Rule", name := "<init>", desc := "(LBonnetValley;[BI)V" } : Jvm.MethodName) prog_6_method_1_code (4 : Nat) (Option.none : Option Jvm.ClassFile.FieldType)) ∈ lw_all := lw_g (lw_at lw_m2 180 rfl) rfl
theorem q530 : (Jvm.Cond.methodLink "BonnetValley$Rule" (9 : Nat) ({ cls := "BonnetValley$Words", name := "<init>", desc := "([BII)V" } : Jvm.MethodName)) ∈ lw_all := lw_g (lw_at lw_m2 181 rfl) rfl
theorem q531 : (Jvm.Cond.fieldLink "BonnetValley$Rule" (23 : Nat) "BonnetValley$Rule" "upland" "LBonnetValley$Upland;") ∈ lw_all := lw_g (lw_at lw_m2 182 rfl) rfl
theorem q532 : (Jvm.Cond.fieldLink "BonnetValley$Rule" (27 : Nat) "BonnetValley$Rule" "man" "I") ∈ lw_all := lw_g (lw_at lw_m2 183 rfl) rfl
theorem q533 : (Jvm.Cond.fieldLink "BonnetValley$Rule" (31 : Nat) "BonnetValley$Rule" "brim" "I") ∈ lw_all := lw_g (lw_at lw_m2 184 rfl) rfl
theorem q534 : (Jvm.Cond.fieldLink "BonnetValley$Rule" (3 : Nat) "BonnetValley$Rule" "this$0" "LBonnetValley;") ∈ lw_all := lw_g (lw_at lw_m2 185 rfl) rfl
theorem q535 : (Jvm.Cond.lays "BonnetValley$Rule" "BonnetValley$Rule" "upland" "LBonnetValley$Upland;") ∈ lw_all := lw_g (lw_at lw_m2 186 rfl) rfl
theorem q536 : (Jvm.Cond.soleField "BonnetValley$Rule" "upland") ∈ lw_all := lw_g (lw_at lw_m2 187 rfl) rfl
theorem q537 : (Jvm.Cond.lays "BonnetValley$Rule" "BonnetValley$Rule" "man" "I") ∈ lw_all := lw_g (lw_at lw_m2 188 rfl) rfl
theorem q538 : (Jvm.Cond.soleField "BonnetValley$Rule" "man") ∈ lw_all := lw_g (lw_at lw_m2 189 rfl) rfl
theorem q539 : (Jvm.Cond.lays "BonnetValley$Rule" "BonnetValley$Rule" "brim" "I") ∈ lw_all := lw_g (lw_at lw_m2 190 rfl) rfl
theorem q540 : (Jvm.Cond.soleField "BonnetValley$Rule" "brim") ∈ lw_all := lw_g (lw_at lw_m2 191 rfl) rfl
theorem q541 : (Jvm.Cond.laysFinal "BonnetValley$Rule" "BonnetValley$Rule" "this$0" "LBonnetValley;") ∈ lw_all := lw_g (lw_at lw_m2 192 rfl) rfl
theorem q542 : (Jvm.Cond.soleField "BonnetValley$Rule" "this$0") ∈ lw_all := lw_g (lw_at lw_m2 193 rfl) rfl
theorem q543 : (Jvm.Cond.laysFinal "BonnetValley$Rule" "BonnetValley$Words" "of" "[B") ∈ lw_all := lw_g (lw_at lw_m2 194 rfl) rfl
theorem q544 : (Jvm.Cond.laysFinal "BonnetValley$Rule" "BonnetValley$Words" "size" "I") ∈ lw_all := lw_g (lw_at lw_m2 195 rfl) rfl
theorem q545 : (Jvm.Cond.laysFinal "BonnetValley$Rule" "BonnetValley$Words" "end" "I") ∈ lw_all := lw_g (lw_at lw_m2 196 rfl) rfl
theorem q546 : (Jvm.Cond.lays "BonnetValley$Rule" "BonnetValley$Words" "at" "I") ∈ lw_all := lw_g (lw_at lw_m2 197 rfl) rfl
theorem q547 : (Jvm.Cond.superclass "BonnetValley$Rule" "BonnetValley$Words") ∈ lw_all := lw_g (lw_at lw_m2 198 rfl) rfl
theorem q549 : (Jvm.Cond.instanceMethod ({ cls := "BonnetValley$Rule", name := "read", desc := "()LBonnetValley$Rule;" } : Jvm.MethodName)) ∈ lw_all := lw_g (lw_at lw_m2 200 rfl) rfl
theorem q550 : (Jvm.Cond.selects "BonnetValley$Rule" ({ cls := "BonnetValley$Rule", name := "read", desc := "()LBonnetValley$Rule;" } : Jvm.MethodName) ({ cls := "BonnetValley$Rule", name := "read", desc := "()LBonnetValley$Rule;" } : Jvm.MethodName)) ∈ lw_all := lw_g (lw_at lw_m2 201 rfl) rfl
theorem q551 : (Jvm.Cond.code ({ cls := "BonnetValley$Rule", name := "read", desc := "()LBonnetValley$Rule;" } : Jvm.MethodName) prog_6_method_2_code (1 : Nat) (Option.some (Jvm.ClassFile.FieldType.object "BonnetValley$Rule"))) ∈ lw_all := lw_g (lw_at lw_m2 202 rfl) rfl
theorem q552 : (Jvm.Cond.methodLink "BonnetValley$Rule" (15 : Nat) ({ cls := "BonnetValley$Rule", name := "held", desc := "(I)I" } : Jvm.MethodName)) ∈ lw_all := lw_g (lw_at lw_m2 203 rfl) rfl
theorem q553 : (Jvm.Cond.privateMethod ({ cls := "BonnetValley$Rule", name := "held", desc := "(I)I" } : Jvm.MethodName)) ∈ lw_tbl := lw_at lw_m2 204 rfl
theorem q554 : (Jvm.Cond.instanceMethod ({ cls := "BonnetValley$Rule", name := "held", desc := "(I)I" } : Jvm.MethodName)) ∈ lw_all := lw_g (lw_at lw_m2 205 rfl) rfl
theorem q555 : (Jvm.Cond.code ({ cls := "BonnetValley$Rule", name := "held", desc := "(I)I" } : Jvm.MethodName) prog_6_method_4_code (3 : Nat) (Option.some Jvm.ClassFile.FieldType.int)) ∈ lw_all := lw_g (lw_at lw_m2 206 rfl) rfl
theorem q556 : (Jvm.Cond.methodLink "BonnetValley$Rule" (39 : Nat) ({ cls := "BonnetValley$Rule", name := "sum", desc := "(I)I" } : Jvm.MethodName)) ∈ lw_all := lw_g (lw_at lw_m2 207 rfl) rfl
theorem q557 : (Jvm.Cond.privateMethod ({ cls := "BonnetValley$Rule", name := "sum", desc := "(I)I" } : Jvm.MethodName)) ∈ lw_tbl := lw_at lw_m2 208 rfl
theorem q558 : (Jvm.Cond.instanceMethod ({ cls := "BonnetValley$Rule", name := "sum", desc := "(I)I" } : Jvm.MethodName)) ∈ lw_all := lw_g (lw_at lw_m2 209 rfl) rfl
theorem q559 : (Jvm.Cond.code ({ cls := "BonnetValley$Rule", name := "sum", desc := "(I)I" } : Jvm.MethodName) prog_6_method_5_code (5 : Nat) (Option.some Jvm.ClassFile.FieldType.int)) ∈ lw_all := lw_g (lw_at lw_m2 210 rfl) rfl
theorem q560 : (Jvm.Cond.methodLink "BonnetValley$Rule" (46 : Nat) ({ cls := "BonnetValley$Rule", name := "product", desc := "(I)I" } : Jvm.MethodName)) ∈ lw_all := lw_g (lw_at lw_m2 211 rfl) rfl
theorem q561 : (Jvm.Cond.privateMethod ({ cls := "BonnetValley$Rule", name := "product", desc := "(I)I" } : Jvm.MethodName)) ∈ lw_tbl := lw_at lw_m2 212 rfl
theorem q562 : (Jvm.Cond.instanceMethod ({ cls := "BonnetValley$Rule", name := "product", desc := "(I)I" } : Jvm.MethodName)) ∈ lw_all := lw_g (lw_at lw_m2 213 rfl) rfl
theorem q563 : (Jvm.Cond.code ({ cls := "BonnetValley$Rule", name := "product", desc := "(I)I" } : Jvm.MethodName) prog_6_method_6_code (5 : Nat) (Option.some Jvm.ClassFile.FieldType.int)) ∈ lw_all := lw_g (lw_at lw_m2 214 rfl) rfl
theorem q564 : (Jvm.Cond.methodLink "BonnetValley$Rule" (53 : Nat) ({ cls := "BonnetValley$Rule", name := "thing", desc := "(I)I" } : Jvm.MethodName)) ∈ lw_all := lw_g (lw_at lw_m2 215 rfl) rfl
theorem q565 : (Jvm.Cond.privateMethod ({ cls := "BonnetValley$Rule", name := "thing", desc := "(I)I" } : Jvm.MethodName)) ∈ lw_tbl := lw_at lw_m2 216 rfl
theorem q566 : (Jvm.Cond.instanceMethod ({ cls := "BonnetValley$Rule", name := "thing", desc := "(I)I" } : Jvm.MethodName)) ∈ lw_all := lw_g (lw_at lw_m2 217 rfl) rfl
theorem q567 : (Jvm.Cond.code ({ cls := "BonnetValley$Rule", name := "thing", desc := "(I)I" } : Jvm.MethodName) prog_6_method_7_code (3 : Nat) (Option.some Jvm.ClassFile.FieldType.int)) ∈ lw_all := lw_g (lw_at lw_m2 218 rfl) rfl
theorem q568 : (Jvm.Cond.methodLink "BonnetValley$Rule" (42 : Nat) ({ cls := "BonnetValley$Rule", name := "passes", desc := "(C)Z" } : Jvm.MethodName)) ∈ lw_all := lw_g (lw_at lw_m2 219 rfl) rfl
theorem q569 : (Jvm.Cond.sameMethod "BonnetValley$Rule" "BonnetValley$Words" "passes" "(C)Z") ∈ lw_all := lw_g (lw_at lw_m2 220 rfl) rfl
theorem q571 : (Jvm.Cond.selects "BonnetValley$Rule" ({ cls := "BonnetValley$Rule", name := "passes", desc := "(C)Z" } : Jvm.MethodName) ({ cls := "BonnetValley$Words", name := "passes", desc := "(C)Z" } : Jvm.MethodName)) ∈ lw_all := lw_g (lw_at lw_m2 222 rfl) rfl
theorem q572 : (Jvm.Cond.methodLink "BonnetValley$Rule" (49 : Nat) ({ cls := "BonnetValley$Rule", name := "here", desc := "()I" } : Jvm.MethodName)) ∈ lw_all := lw_g (lw_at lw_m2 223 rfl) rfl
theorem q573 : (Jvm.Cond.sameMethod "BonnetValley$Rule" "BonnetValley$Words" "here" "()I") ∈ lw_all := lw_g (lw_at lw_m2 224 rfl) rfl
theorem q575 : (Jvm.Cond.selects "BonnetValley$Rule" ({ cls := "BonnetValley$Rule", name := "here", desc := "()I" } : Jvm.MethodName) ({ cls := "BonnetValley$Words", name := "here", desc := "()I" } : Jvm.MethodName)) ∈ lw_all := lw_g (lw_at lw_m2 226 rfl) rfl
theorem q576 : (Jvm.Cond.methodLink "BonnetValley$Rule" (56 : Nat) ({ cls := "BonnetValley$Rule", name := "need", desc := "(Z)V" } : Jvm.MethodName)) ∈ lw_all := lw_g (lw_at lw_m2 227 rfl) rfl
theorem q577 : (Jvm.Cond.sameMethod "BonnetValley$Rule" "BonnetValley$Words" "need" "(Z)V") ∈ lw_all := lw_g (lw_at lw_m2 228 rfl) rfl
theorem q579 : (Jvm.Cond.selects "BonnetValley$Rule" ({ cls := "BonnetValley$Rule", name := "need", desc := "(Z)V" } : Jvm.MethodName) ({ cls := "BonnetValley$Words", name := "need", desc := "(Z)V" } : Jvm.MethodName)) ∈ lw_all := lw_g (lw_at lw_m2 230 rfl) rfl
theorem q580 : (Jvm.Cond.constantLong "BonnetValley$Rule" (60 : Nat) (48 : Int64)) ∈ lw_all := lw_g (lw_at lw_m2 231 rfl) rfl
theorem q581 : (Jvm.Cond.constantLong "BonnetValley$Rule" (62 : Nat) (57 : Int64)) ∈ lw_all := lw_g (lw_at lw_m2 232 rfl) rfl
theorem q582 : (Jvm.Cond.methodLinkNest "BonnetValley$Rule" (64 : Nat) ({ cls := "BonnetValley", name := "in", desc := "(JJJ)Z" } : Jvm.MethodName) "BonnetValley") ∈ lw_tbl := lw_at lw_m2 233 rfl
theorem q583 : (Jvm.Cond.methodLink "BonnetValley$Rule" (68 : Nat) ({ cls := "BonnetValley$Rule", name := "number", desc := "(I)I" } : Jvm.MethodName)) ∈ lw_all := lw_g (lw_at lw_m2 234 rfl) rfl
theorem q584 : (Jvm.Cond.sameMethod "BonnetValley$Rule" "BonnetValley$Words" "number" "(I)I") ∈ lw_all := lw_g (lw_at lw_m2 235 rfl) rfl
theorem q586 : (Jvm.Cond.selects "BonnetValley$Rule" ({ cls := "BonnetValley$Rule", name := "number", desc := "(I)I" } : Jvm.MethodName) ({ cls := "BonnetValley$Words", name := "number", desc := "(I)I" } : Jvm.MethodName)) ∈ lw_all := lw_g (lw_at lw_m2 237 rfl) rfl
theorem q592 : (Jvm.Cond.stringRef "BonnetValley$Rule" (71 : Nat) "blkfrcnp") ∈ lw_tbl := lw_at lw_m3 3 rfl
theorem q593 : (Jvm.Cond.methodLink "BonnetValley$Rule" (73 : Nat) ({ cls := "java/lang/String", name := "indexOf", desc := "(I)I" } : Jvm.MethodName)) ∈ lw_all := lw_g (lw_at lw_m3 4 rfl) rfl
theorem q675 : (Jvm.Cond.methodLink "BonnetValley$Rule" (78 : Nat) ({ cls := "BonnetValley$Rule", name := "value", desc := "(I)I" } : Jvm.MethodName)) ∈ lw_all := lw_g (lw_at lw_m3 86 rfl) rfl
theorem q676 : (Jvm.Cond.privateMethod ({ cls := "BonnetValley$Rule", name := "value", desc := "(I)I" } : Jvm.MethodName)) ∈ lw_tbl := lw_at lw_m3 87 rfl
theorem q677 : (Jvm.Cond.instanceMethod ({ cls := "BonnetValley$Rule", name := "value", desc := "(I)I" } : Jvm.MethodName)) ∈ lw_all := lw_g (lw_at lw_m3 88 rfl) rfl
theorem q678 : (Jvm.Cond.code ({ cls := "BonnetValley$Rule", name := "value", desc := "(I)I" } : Jvm.MethodName) prog_6_method_8_code (2 : Nat) (Option.some Jvm.ClassFile.FieldType.int)) ∈ lw_all := lw_g (lw_at lw_m3 89 rfl) rfl
theorem q679 : (Jvm.Cond.methodLinkNest "BonnetValley$Rule" (86 : Nat) ({ cls := "BonnetValley", name := "lightOf", desc := "(I)I" } : Jvm.MethodName) "BonnetValley") ∈ lw_tbl := lw_at lw_m3 90 rfl
theorem q683 : (Jvm.Cond.methodLink "BonnetValley$Rule" (93 : Nat) ({ cls := "java/lang/Integer", name := "bitCount", desc := "(I)I" } : Jvm.MethodName)) ∈ lw_all := lw_g (lw_at lw_m3 94 rfl) rfl
theorem q689 : (Jvm.Cond.methodLinkNest "BonnetValley$Rule" (106 : Nat) ({ cls := "BonnetValley", name := "peopleOn", desc := "(LBonnetValley$Upland;J)I" } : Jvm.MethodName) "BonnetValley") ∈ lw_tbl := lw_at lw_m3 100 rfl
theorem q693 : (Jvm.Cond.methodLink "BonnetValley$Rule" (19 : Nat) ({ cls := "BonnetValley$Rule", name := "needEnd", desc := "()V" } : Jvm.MethodName)) ∈ lw_all := lw_g (lw_at lw_m3 104 rfl) rfl
theorem q694 : (Jvm.Cond.sameMethod "BonnetValley$Rule" "BonnetValley$Words" "needEnd" "()V") ∈ lw_all := lw_g (lw_at lw_m3 105 rfl) rfl
theorem q696 : (Jvm.Cond.selects "BonnetValley$Rule" ({ cls := "BonnetValley$Rule", name := "needEnd", desc := "()V" } : Jvm.MethodName) ({ cls := "BonnetValley$Words", name := "needEnd", desc := "()V" } : Jvm.MethodName)) ∈ lw_all := lw_g (lw_at lw_m3 107 rfl) rfl
theorem q805 : (Jvm.Cond.instanceMethod ({ cls := "BonnetValley$Rule", name := "of", desc := "(LBonnetValley$Upland;II)I" } : Jvm.MethodName)) ∈ lw_all := lw_g (lw_at lw_m3 216 rfl) rfl
theorem q806 : (Jvm.Cond.selects "BonnetValley$Rule" ({ cls := "BonnetValley$Rule", name := "of", desc := "(LBonnetValley$Upland;II)I" } : Jvm.MethodName) ({ cls := "BonnetValley$Rule", name := "of", desc := "(LBonnetValley$Upland;II)I" } : Jvm.MethodName)) ∈ lw_all := lw_g (lw_at lw_m3 217 rfl) rfl
theorem q807 : (Jvm.Cond.codeWith ({ cls := "BonnetValley$Rule", name := "of", desc := "(LBonnetValley$Upland;II)I" } : Jvm.MethodName) prog_6_method_3_code (7 : Nat) (Option.some Jvm.ClassFile.FieldType.int) [((20 : Nat), (27 : Nat), (35 : Nat), (37 : Nat)), ((20 : Nat), (27 : Nat), (48 : Nat), (0 : Nat)), ((35 : Nat), (40 : Nat), (48 : Nat), (0 : Nat)), ((48 : Nat), (50 : Nat), (48 : Nat), (0 : Nat))]) ∈ lw_all := lw_g (lw_at lw_m3 218 rfl) rfl
theorem q808 : (Jvm.Cond.classLink "BonnetValley$Rule" (37 : Nat) "BonnetValley$Fault") ∈ lw_all := lw_g (lw_at lw_m3 219 rfl) rfl
theorem q1958 : (Jvm.Cond.castable "BonnetValley$Rule" "java/lang/Object") ∈ lw_tbl := lw_at lw_m8 169 rfl
theorem in_X9 : ∀ w ∈ wsX90, w ∈ lw_all := lw_in wsX90 [543, 544, 545, 546, 535, 537, 539, 541] (by decide +kernel) (by decide +kernel)

theorem q519 : (Jvm.Cond.sameMethod "[B" "java/lang/Object" "clone" "()Ljava/lang/Object;") ∈ lw_all := lw_g (lw_at lw_m2 170 rfl) rfl
set_option maxRecDepth 100000
theorem q522 : (Jvm.Cond.selects "[B" ({ cls := "[B", name := "clone", desc := "()Ljava/lang/Object;" } : Jvm.MethodName) ({ cls := "java/lang/Object", name := "clone", desc := "()Ljava/lang/Object;" } : Jvm.MethodName)) ∈ lw_all := lw_g (lw_at lw_m2 173 rfl) rfl
theorem q523 : (Jvm.Cond.castable "[B" "java/lang/Cloneable") ∈ lw_tbl := lw_at lw_m2 174 rfl

theorem q131 : (Jvm.Cond.initialized "java/lang/System") ∈ lw_all := lw_g (lw_at lw_m1 22 rfl) rfl
set_option maxRecDepth 100000
theorem q754 : (Jvm.Cond.static ({ cls := "java/lang/System", name := "arraycopy", desc := "(Ljava/lang/Object;ILjava/lang/Object;II)V" } : Jvm.MethodName)) ∈ lw_all := lw_g (lw_at lw_m3 165 rfl) rfl
theorem q755 : (Jvm.Cond.native ({ cls := "java/lang/System", name := "arraycopy", desc := "(Ljava/lang/Object;ILjava/lang/Object;II)V" } : Jvm.MethodName)) ∈ lw_all := lw_g (lw_at lw_m3 166 rfl) rfl

theorem q221 : (Jvm.Cond.arrayClass Jvm.ClassFile.FieldType.int) ∈ lw_all := lw_g (lw_at lw_m1 112 rfl) rfl
set_option maxRecDepth 100000
theorem q222 : (Jvm.Cond.arrayOver (Jvm.ClassFile.FieldType.object "BonnetValley$Upland")) ∈ lw_tbl := lw_at lw_m1 113 rfl
theorem q224 : (Jvm.Cond.arrayOver (Jvm.ClassFile.FieldType.array Jvm.ClassFile.FieldType.int)) ∈ lw_tbl := lw_at lw_m1 115 rfl
theorem q226 : (Jvm.Cond.arrayOver (Jvm.ClassFile.FieldType.object "BonnetValley$Page")) ∈ lw_tbl := lw_at lw_m1 117 rfl
theorem q329 : (Jvm.Cond.arrayClass Jvm.ClassFile.FieldType.byte) ∈ lw_all := lw_g (lw_at lw_m1 220 rfl) rfl
theorem q330 : (Jvm.Cond.arrayClass Jvm.ClassFile.FieldType.long) ∈ lw_all := lw_g (lw_at lw_m1 221 rfl) rfl
theorem q743 : (Jvm.Cond.arrayClass Jvm.ClassFile.FieldType.short) ∈ lw_all := lw_g (lw_at lw_m3 154 rfl) rfl
theorem q954 : (Jvm.Cond.arrayClass Jvm.ClassFile.FieldType.char) ∈ lw_all := lw_g (lw_at lw_m4 125 rfl) rfl
theorem q1436 : (Jvm.Cond.arrayClass Jvm.ClassFile.FieldType.boolean) ∈ lw_all := lw_g (lw_at lw_m6 127 rfl) rfl
