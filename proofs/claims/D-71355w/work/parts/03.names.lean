/-! java/lang/Throwable -/
set_option maxRecDepth 100000
def RJ0 : String := "java/lang/Throwable"
def TJ0 : u_T := fun k => match k with
  | 0 => ("java/lang/Throwable", "cause", "Ljava/lang/Throwable;", false)
  | 1 => ("java/lang/Throwable", "stackTrace", "[Ljava/lang/StackTraceElement;", false)
  | 2 => ("java/lang/Throwable", "suppressedExceptions", "Ljava/util/List;", false)
  | 3 => ("java/lang/Throwable", "detailMessage", "Ljava/lang/String;", false)
  | _ => ("java/lang/Throwable", "backtrace", "Ljava/lang/Object;", false)
def tyJ0 : Nat → FieldType := fun k => match k with
  | 0 => .object "java/lang/Throwable"
  | 1 => .array (.object "java/lang/StackTraceElement")
  | 2 => .object "java/util/List"
  | 3 => .object "java/lang/String"
  | _ => .object "java/lang/Object"
abbrev wsJ00 : List Cond := u_ws RJ0 TJ0 5
theorem nmJ0 : ∀ a, a < 5 → ∀ b, b < 5 → a ≠ b → (TJ0 a).2.1 ≠ (TJ0 b).2.1 := by decide +kernel
theorem tyJ0_ok : ∀ k, k < 5 → parseFieldDescriptor (TJ0 k).2.2.1 = some (tyJ0 k) := by decide +kernel
abbrev cJ0_init : ByteArray := prog_29_method_1_code
def yJ0_init : MethodName := ⟨RJ0, "<init>", "()V"⟩
def dkwJ0_init_1 : List UInt8 := [182, 0, 27, 87, 177]
abbrev dktJ0_init_1 : List UInt8 := dkwJ0_init_1 ++ []
def dkwJ0_init_0 : List UInt8 := [42, 183, 0, 1, 42, 42, 181, 0, 7, 42, 178, 0, 13, 181, 0, 17, 42, 178, 0, 20, 181, 0, 24, 42]
abbrev dktJ0_init_0 : List UInt8 := dkwJ0_init_0 ++ dktJ0_init_1
theorem dksJ0_init_0 : cJ0_init.data.toList.drop 0 = dktJ0_init_0 := by decide +kernel
theorem dksJ0_init_1 : cJ0_init.data.toList.drop 24 = dktJ0_init_1 := dk_seg dksJ0_init_0 24 rfl rfl
theorem dJ0_init_0 : decode cJ0_init 0 = .ok (.aload_n 0, 1) := dk_42 (dk_at dksJ0_init_0 0 rfl rfl)
theorem dJ0_init_1 : decode cJ0_init 1 = .ok (.invokespecial 1, 3) := dk_183 0 1 (dk_at dksJ0_init_0 1 rfl rfl)
theorem dJ0_init_4 : decode cJ0_init 4 = .ok (.aload_n 0, 1) := dk_42 (dk_at dksJ0_init_0 4 rfl rfl)
theorem dJ0_init_5 : decode cJ0_init 5 = .ok (.aload_n 0, 1) := dk_42 (dk_at dksJ0_init_0 5 rfl rfl)
theorem dJ0_init_6 : decode cJ0_init 6 = .ok (.putfield 7, 3) := dk_181 0 7 (dk_at dksJ0_init_0 6 rfl rfl)
theorem dJ0_init_9 : decode cJ0_init 9 = .ok (.aload_n 0, 1) := dk_42 (dk_at dksJ0_init_0 9 rfl rfl)
theorem dJ0_init_10 : decode cJ0_init 10 = .ok (.getstatic 13, 3) := dk_178 0 13 (dk_at dksJ0_init_0 10 rfl rfl)
theorem dJ0_init_13 : decode cJ0_init 13 = .ok (.putfield 17, 3) := dk_181 0 17 (dk_at dksJ0_init_0 13 rfl rfl)
theorem dJ0_init_16 : decode cJ0_init 16 = .ok (.aload_n 0, 1) := dk_42 (dk_at dksJ0_init_0 16 rfl rfl)
theorem dJ0_init_17 : decode cJ0_init 17 = .ok (.getstatic 20, 3) := dk_178 0 20 (dk_at dksJ0_init_0 17 rfl rfl)
theorem dJ0_init_20 : decode cJ0_init 20 = .ok (.putfield 24, 3) := dk_181 0 24 (dk_at dksJ0_init_0 20 rfl rfl)
theorem dJ0_init_23 : decode cJ0_init 23 = .ok (.aload_n 0, 1) := dk_42 (dk_at dksJ0_init_0 23 rfl rfl)
theorem dJ0_init_24 : decode cJ0_init 24 = .ok (.invokevirtual 27, 3) := dk_182 0 27 (dk_at dksJ0_init_1 0 rfl rfl)
theorem dJ0_init_27 : decode cJ0_init 27 = .ok (.pop, 1) := dk_87 (dk_at dksJ0_init_1 3 rfl rfl)
theorem dJ0_init_28 : decode cJ0_init 28 = .ok (.return_, 1) := dk_177 (dk_at dksJ0_init_1 4 rfl rfl)
abbrev cJ0_init_2 : ByteArray := prog_29_method_5_code
def yJ0_init_2 : MethodName := ⟨RJ0, "<init>", "(Ljava/lang/String;Ljava/lang/Throwable;ZZ)V"⟩
def dkwJ0_init_2_2 : List UInt8 := [44, 181, 0, 7, 29, 154, 0, 8, 42, 1, 181, 0, 24, 177]
abbrev dktJ0_init_2_2 : List UInt8 := dkwJ0_init_2_2 ++ []
def dkwJ0_init_2_1 : List UInt8 := [21, 4, 153, 0, 11, 42, 182, 0, 27, 87, 167, 0, 8, 42, 1, 181, 0, 17, 42, 43, 181, 0, 31, 42]
abbrev dktJ0_init_2_1 : List UInt8 := dkwJ0_init_2_1 ++ dktJ0_init_2_2
def dkwJ0_init_2_0 : List UInt8 := [42, 183, 0, 1, 42, 42, 181, 0, 7, 42, 178, 0, 13, 181, 0, 17, 42, 178, 0, 20, 181, 0, 24]
abbrev dktJ0_init_2_0 : List UInt8 := dkwJ0_init_2_0 ++ dktJ0_init_2_1
theorem dksJ0_init_2_0 : cJ0_init_2.data.toList.drop 0 = dktJ0_init_2_0 := by decide +kernel
theorem dksJ0_init_2_1 : cJ0_init_2.data.toList.drop 23 = dktJ0_init_2_1 := dk_seg dksJ0_init_2_0 23 rfl rfl
theorem dksJ0_init_2_2 : cJ0_init_2.data.toList.drop 47 = dktJ0_init_2_2 := dk_seg dksJ0_init_2_1 24 rfl rfl
theorem dJ0_init_2_0 : decode cJ0_init_2 0 = .ok (.aload_n 0, 1) := dk_42 (dk_at dksJ0_init_2_0 0 rfl rfl)
theorem dJ0_init_2_1 : decode cJ0_init_2 1 = .ok (.invokespecial 1, 3) := dk_183 0 1 (dk_at dksJ0_init_2_0 1 rfl rfl)
theorem dJ0_init_2_4 : decode cJ0_init_2 4 = .ok (.aload_n 0, 1) := dk_42 (dk_at dksJ0_init_2_0 4 rfl rfl)
theorem dJ0_init_2_5 : decode cJ0_init_2 5 = .ok (.aload_n 0, 1) := dk_42 (dk_at dksJ0_init_2_0 5 rfl rfl)
theorem dJ0_init_2_6 : decode cJ0_init_2 6 = .ok (.putfield 7, 3) := dk_181 0 7 (dk_at dksJ0_init_2_0 6 rfl rfl)
theorem dJ0_init_2_9 : decode cJ0_init_2 9 = .ok (.aload_n 0, 1) := dk_42 (dk_at dksJ0_init_2_0 9 rfl rfl)
theorem dJ0_init_2_10 : decode cJ0_init_2 10 = .ok (.getstatic 13, 3) := dk_178 0 13 (dk_at dksJ0_init_2_0 10 rfl rfl)
theorem dJ0_init_2_13 : decode cJ0_init_2 13 = .ok (.putfield 17, 3) := dk_181 0 17 (dk_at dksJ0_init_2_0 13 rfl rfl)
theorem dJ0_init_2_16 : decode cJ0_init_2 16 = .ok (.aload_n 0, 1) := dk_42 (dk_at dksJ0_init_2_0 16 rfl rfl)
theorem dJ0_init_2_17 : decode cJ0_init_2 17 = .ok (.getstatic 20, 3) := dk_178 0 20 (dk_at dksJ0_init_2_0 17 rfl rfl)
theorem dJ0_init_2_20 : decode cJ0_init_2 20 = .ok (.putfield 24, 3) := dk_181 0 24 (dk_at dksJ0_init_2_0 20 rfl rfl)
theorem dJ0_init_2_23 : decode cJ0_init_2 23 = .ok (.iload 4, 2) := dk_21 4 (dk_at dksJ0_init_2_1 0 rfl rfl)
theorem dJ0_init_2_25 : decode cJ0_init_2 25 = .ok (.ifCond .eq 11, 3) := dk_153 0 11 (dk_at dksJ0_init_2_1 2 rfl rfl)
theorem dJ0_init_2_28 : decode cJ0_init_2 28 = .ok (.aload_n 0, 1) := dk_42 (dk_at dksJ0_init_2_1 5 rfl rfl)
theorem dJ0_init_2_29 : decode cJ0_init_2 29 = .ok (.invokevirtual 27, 3) := dk_182 0 27 (dk_at dksJ0_init_2_1 6 rfl rfl)
theorem dJ0_init_2_32 : decode cJ0_init_2 32 = .ok (.pop, 1) := dk_87 (dk_at dksJ0_init_2_1 9 rfl rfl)
theorem dJ0_init_2_33 : decode cJ0_init_2 33 = .ok (.goto 8, 3) := dk_167 0 8 (dk_at dksJ0_init_2_1 10 rfl rfl)
theorem dJ0_init_2_36 : decode cJ0_init_2 36 = .ok (.aload_n 0, 1) := dk_42 (dk_at dksJ0_init_2_1 13 rfl rfl)
theorem dJ0_init_2_37 : decode cJ0_init_2 37 = .ok (.aconst_null, 1) := dk_1 (dk_at dksJ0_init_2_1 14 rfl rfl)
theorem dJ0_init_2_38 : decode cJ0_init_2 38 = .ok (.putfield 17, 3) := dk_181 0 17 (dk_at dksJ0_init_2_1 15 rfl rfl)
theorem dJ0_init_2_41 : decode cJ0_init_2 41 = .ok (.aload_n 0, 1) := dk_42 (dk_at dksJ0_init_2_1 18 rfl rfl)
theorem dJ0_init_2_42 : decode cJ0_init_2 42 = .ok (.aload_n 1, 1) := dk_43 (dk_at dksJ0_init_2_1 19 rfl rfl)
theorem dJ0_init_2_43 : decode cJ0_init_2 43 = .ok (.putfield 31, 3) := dk_181 0 31 (dk_at dksJ0_init_2_1 20 rfl rfl)
theorem dJ0_init_2_46 : decode cJ0_init_2 46 = .ok (.aload_n 0, 1) := dk_42 (dk_at dksJ0_init_2_1 23 rfl rfl)
theorem dJ0_init_2_47 : decode cJ0_init_2 47 = .ok (.aload_n 2, 1) := dk_44 (dk_at dksJ0_init_2_2 0 rfl rfl)
theorem dJ0_init_2_48 : decode cJ0_init_2 48 = .ok (.putfield 7, 3) := dk_181 0 7 (dk_at dksJ0_init_2_2 1 rfl rfl)
theorem dJ0_init_2_51 : decode cJ0_init_2 51 = .ok (.iload_n 3, 1) := dk_29 (dk_at dksJ0_init_2_2 4 rfl rfl)
theorem dJ0_init_2_52 : decode cJ0_init_2 52 = .ok (.ifCond .ne 8, 3) := dk_154 0 8 (dk_at dksJ0_init_2_2 5 rfl rfl)
theorem dJ0_init_2_55 : decode cJ0_init_2 55 = .ok (.aload_n 0, 1) := dk_42 (dk_at dksJ0_init_2_2 8 rfl rfl)
theorem dJ0_init_2_56 : decode cJ0_init_2 56 = .ok (.aconst_null, 1) := dk_1 (dk_at dksJ0_init_2_2 9 rfl rfl)
theorem dJ0_init_2_57 : decode cJ0_init_2 57 = .ok (.putfield 24, 3) := dk_181 0 24 (dk_at dksJ0_init_2_2 10 rfl rfl)
theorem dJ0_init_2_60 : decode cJ0_init_2 60 = .ok (.return_, 1) := dk_177 (dk_at dksJ0_init_2_2 13 rfl rfl)
theorem q68 : (Jvm.Cond.initialized "java/lang/Throwable") ∈ lw_all := lw_g (lw_at lw_m1 8 rfl) rfl
theorem q402 : (Jvm.Cond.declares ({ cls := "java/lang/Throwable", name := "<init>", desc := "()V" } : Jvm.MethodName)) ∈ lw_tbl := lw_at lw_m2 102 rfl
theorem q403 : (Jvm.Cond.declares ({ cls := "java/lang/Throwable", name := "<init>", desc := "(Ljava/lang/String;)V" } : Jvm.MethodName)) ∈ lw_tbl := lw_at lw_m2 103 rfl
theorem q407 : (Jvm.Cond.lays "java/lang/Throwable" "java/lang/Throwable" "cause" "Ljava/lang/Throwable;") ∈ lw_all := lw_g (lw_at lw_m2 107 rfl) rfl
theorem q409 : (Jvm.Cond.lays "java/lang/Throwable" "java/lang/Throwable" "stackTrace" "[Ljava/lang/StackTraceElement;") ∈ lw_all := lw_g (lw_at lw_m2 109 rfl) rfl
theorem q411 : (Jvm.Cond.lays "java/lang/Throwable" "java/lang/Throwable" "suppressedExceptions" "Ljava/util/List;") ∈ lw_all := lw_g (lw_at lw_m2 111 rfl) rfl
theorem q413 : (Jvm.Cond.lays "java/lang/Throwable" "java/lang/Throwable" "detailMessage" "Ljava/lang/String;") ∈ lw_all := lw_g (lw_at lw_m2 113 rfl) rfl
theorem q415 : (Jvm.Cond.lays "java/lang/Throwable" "java/lang/Throwable" "backtrace" "Ljava/lang/Object;") ∈ lw_all := lw_g (lw_at lw_m2 115 rfl) rfl
theorem q416 : (Jvm.Cond.fieldLink "java/lang/Throwable" (198 : Nat) "java/lang/Throwable" "backtrace" "Ljava/lang/Object;") ∈ lw_all := lw_g (lw_at lw_m2 116 rfl) rfl
theorem q417 : (Jvm.Cond.superclass "java/lang/Throwable" "java/lang/Object") ∈ lw_all := lw_g (lw_at lw_m2 117 rfl) rfl
theorem q418 : (Jvm.Cond.instanceMethod ({ cls := "java/lang/Throwable", name := "<init>", desc := "()V" } : Jvm.MethodName)) ∈ lw_all := lw_g (lw_at lw_m2 118 rfl) rfl
theorem q419 : (Jvm.Cond.code ({ cls := "java/lang/Throwable", name := "<init>", desc := "()V" } : Jvm.MethodName) prog_29_method_1_code (1 : Nat) (Option.none : Option Jvm.ClassFile.FieldType)) ∈ lw_all := lw_g (lw_at lw_m2 119 rfl) rfl
theorem q420 : (Jvm.Cond.methodLink "java/lang/Throwable" (1 : Nat) ({ cls := "java/lang/Object", name := "<init>", desc := "()V" } : Jvm.MethodName)) ∈ lw_all := lw_g (lw_at lw_m2 120 rfl) rfl
theorem q421 : (Jvm.Cond.fieldLink "java/lang/Throwable" (13 : Nat) "java/lang/Throwable" "UNASSIGNED_STACK" "[Ljava/lang/StackTraceElement;") ∈ lw_all := lw_g (lw_at lw_m2 121 rfl) rfl
theorem q422 : (Jvm.Cond.laysStatic "java/lang/Throwable" "UNASSIGNED_STACK" "[Ljava/lang/StackTraceElement;") ∈ lw_tbl := lw_at lw_m2 122 rfl
theorem q423 : (Jvm.Cond.fieldLink "java/lang/Throwable" (20 : Nat) "java/lang/Throwable" "SUPPRESSED_SENTINEL" "Ljava/util/List;") ∈ lw_all := lw_g (lw_at lw_m2 123 rfl) rfl
theorem q424 : (Jvm.Cond.laysStatic "java/lang/Throwable" "SUPPRESSED_SENTINEL" "Ljava/util/List;") ∈ lw_tbl := lw_at lw_m2 124 rfl
theorem q425 : (Jvm.Cond.methodLink "java/lang/Throwable" (27 : Nat) ({ cls := "java/lang/Throwable", name := "fillInStackTrace", desc := "()Ljava/lang/Throwable;" } : Jvm.MethodName)) ∈ lw_all := lw_g (lw_at lw_m2 125 rfl) rfl
theorem q426 : (Jvm.Cond.instanceMethod ({ cls := "java/lang/Throwable", name := "fillInStackTrace", desc := "()Ljava/lang/Throwable;" } : Jvm.MethodName)) ∈ lw_all := lw_g (lw_at lw_m2 126 rfl) rfl
theorem q427 : (Jvm.Cond.sameMethod "java/lang/Throwable" "java/lang/Throwable" "fillInStackTrace" "()Ljava/lang/Throwable;") ∈ lw_all := lw_g (lw_at lw_m2 127 rfl) rfl
theorem q428 : (Jvm.Cond.codeSync ({ cls := "java/lang/Throwable", name := "fillInStackTrace", desc := "()Ljava/lang/Throwable;" } : Jvm.MethodName) prog_29_method_18_code (1 : Nat) (Option.some (Jvm.ClassFile.FieldType.object "java/lang/Throwable"))) ∈ lw_all := lw_g (lw_at lw_m2 128 rfl) rfl
theorem q429 : (Jvm.Cond.methodLink "java/lang/Throwable" (202 : Nat) ({ cls := "java/lang/Throwable", name := "fillInStackTrace", desc := "(I)Ljava/lang/Throwable;" } : Jvm.MethodName)) ∈ lw_all := lw_g (lw_at lw_m2 129 rfl) rfl
theorem q430 : (Jvm.Cond.privateMethod ({ cls := "java/lang/Throwable", name := "fillInStackTrace", desc := "(I)Ljava/lang/Throwable;" } : Jvm.MethodName)) ∈ lw_tbl := lw_at lw_m2 130 rfl
theorem q431 : (Jvm.Cond.instanceMethod ({ cls := "java/lang/Throwable", name := "fillInStackTrace", desc := "(I)Ljava/lang/Throwable;" } : Jvm.MethodName)) ∈ lw_all := lw_g (lw_at lw_m2 131 rfl) rfl
theorem q432 : (Jvm.Cond.instantiable "java/lang/Throwable" (6 : Nat)) ∈ lw_all := lw_g (lw_at lw_m2 132 rfl) rfl
theorem q433 : (Jvm.Cond.native ({ cls := "java/lang/Throwable", name := "fillInStackTrace", desc := "(I)Ljava/lang/Throwable;" } : Jvm.MethodName)) ∈ lw_all := lw_g (lw_at lw_m2 133 rfl) rfl
theorem q441 : (Jvm.Cond.instanceMethod ({ cls := "java/lang/Throwable", name := "<init>", desc := "(Ljava/lang/String;Ljava/lang/Throwable;ZZ)V" } : Jvm.MethodName)) ∈ lw_all := lw_g (lw_at lw_m2 141 rfl) rfl
theorem q442 : (Jvm.Cond.code ({ cls := "java/lang/Throwable", name := "<init>", desc := "(Ljava/lang/String;Ljava/lang/Throwable;ZZ)V" } : Jvm.MethodName) prog_29_method_5_code (5 : Nat) (Option.none : Option Jvm.ClassFile.FieldType)) ∈ lw_all := lw_g (lw_at lw_m2 142 rfl) rfl
theorem q445 : (Jvm.Cond.fieldLink "java/lang/Throwable" (198 : Nat) "java/lang/Throwable" "backtrace" "Ljava/lang/Object;") ∈ lw_all := lw_g (lw_at lw_m2 145 rfl) rfl
theorem q446 : (Jvm.Cond.fieldLink "java/lang/Throwable" (31 : Nat) "java/lang/Throwable" "detailMessage" "Ljava/lang/String;") ∈ lw_all := lw_g (lw_at lw_m2 146 rfl) rfl
theorem q447 : (Jvm.Cond.fieldLink "java/lang/Throwable" (7 : Nat) "java/lang/Throwable" "cause" "Ljava/lang/Throwable;") ∈ lw_all := lw_g (lw_at lw_m2 147 rfl) rfl
theorem q448 : (Jvm.Cond.fieldLink "java/lang/Throwable" (17 : Nat) "java/lang/Throwable" "stackTrace" "[Ljava/lang/StackTraceElement;") ∈ lw_all := lw_g (lw_at lw_m2 148 rfl) rfl
theorem q449 : (Jvm.Cond.fieldLink "java/lang/Throwable" (24 : Nat) "java/lang/Throwable" "suppressedExceptions" "Ljava/util/List;") ∈ lw_all := lw_g (lw_at lw_m2 149 rfl) rfl
theorem q452 : (Jvm.Cond.soleField "java/lang/Throwable" "backtrace") ∈ lw_all := lw_g (lw_at lw_m2 152 rfl) rfl
theorem q453 : (Jvm.Cond.soleField "java/lang/Throwable" "detailMessage") ∈ lw_all := lw_g (lw_at lw_m2 153 rfl) rfl
theorem q454 : (Jvm.Cond.soleField "java/lang/Throwable" "cause") ∈ lw_all := lw_g (lw_at lw_m2 154 rfl) rfl
theorem q455 : (Jvm.Cond.soleField "java/lang/Throwable" "stackTrace") ∈ lw_all := lw_g (lw_at lw_m2 155 rfl) rfl
theorem q457 : (Jvm.Cond.soleField "java/lang/Throwable" "depth") ∈ lw_all := lw_g (lw_at lw_m2 157 rfl) rfl
theorem q458 : (Jvm.Cond.soleField "java/lang/Throwable" "suppressedExceptions") ∈ lw_all := lw_g (lw_at lw_m2 158 rfl) rfl
theorem q1359 : (Jvm.Cond.sameMethod "java/lang/Throwable" "java/lang/Throwable" "fillInStackTrace" "(I)Ljava/lang/Throwable;") ∈ lw_all := lw_g (lw_at lw_m6 99 rfl) rfl
theorem in_J0 : ∀ w ∈ wsJ00, w ∈ lw_all := lw_in wsJ00 [407, 409, 411, 413, 415] (by decide +kernel) (by decide +kernel)

/-! java/lang/Exception -/
set_option maxRecDepth 100000
def RJ1 : String := "java/lang/Exception"
abbrev cJ1_init : ByteArray := prog_22_method_5_code
def yJ1_init : MethodName := ⟨RJ1, "<init>", "(Ljava/lang/String;Ljava/lang/Throwable;ZZ)V"⟩
def dkwJ1_init_0 : List UInt8 := [42, 43, 44, 29, 21, 4, 183, 0, 16, 177]
abbrev dktJ1_init_0 : List UInt8 := dkwJ1_init_0 ++ []
theorem dksJ1_init_0 : cJ1_init.data.toList.drop 0 = dktJ1_init_0 := by decide +kernel
theorem dJ1_init_0 : decode cJ1_init 0 = .ok (.aload_n 0, 1) := dk_42 (dk_at dksJ1_init_0 0 rfl rfl)
theorem dJ1_init_1 : decode cJ1_init 1 = .ok (.aload_n 1, 1) := dk_43 (dk_at dksJ1_init_0 1 rfl rfl)
theorem dJ1_init_2 : decode cJ1_init 2 = .ok (.aload_n 2, 1) := dk_44 (dk_at dksJ1_init_0 2 rfl rfl)
theorem dJ1_init_3 : decode cJ1_init 3 = .ok (.iload_n 3, 1) := dk_29 (dk_at dksJ1_init_0 3 rfl rfl)
theorem dJ1_init_4 : decode cJ1_init 4 = .ok (.iload 4, 2) := dk_21 4 (dk_at dksJ1_init_0 4 rfl rfl)
theorem dJ1_init_6 : decode cJ1_init 6 = .ok (.invokespecial 16, 3) := dk_183 0 16 (dk_at dksJ1_init_0 6 rfl rfl)
theorem dJ1_init_9 : decode cJ1_init 9 = .ok (.return_, 1) := dk_177 (dk_at dksJ1_init_0 9 rfl rfl)
theorem q69 : (Jvm.Cond.initialized "java/lang/Exception") ∈ lw_all := lw_g (lw_at lw_m1 9 rfl) rfl
theorem q400 : (Jvm.Cond.declares ({ cls := "java/lang/Exception", name := "<init>", desc := "()V" } : Jvm.MethodName)) ∈ lw_tbl := lw_at lw_m2 100 rfl
theorem q401 : (Jvm.Cond.declares ({ cls := "java/lang/Exception", name := "<init>", desc := "(Ljava/lang/String;)V" } : Jvm.MethodName)) ∈ lw_tbl := lw_at lw_m2 101 rfl
theorem q438 : (Jvm.Cond.instanceMethod ({ cls := "java/lang/Exception", name := "<init>", desc := "(Ljava/lang/String;Ljava/lang/Throwable;ZZ)V" } : Jvm.MethodName)) ∈ lw_all := lw_g (lw_at lw_m2 138 rfl) rfl
theorem q439 : (Jvm.Cond.code ({ cls := "java/lang/Exception", name := "<init>", desc := "(Ljava/lang/String;Ljava/lang/Throwable;ZZ)V" } : Jvm.MethodName) prog_22_method_5_code (5 : Nat) (Option.none : Option Jvm.ClassFile.FieldType)) ∈ lw_all := lw_g (lw_at lw_m2 139 rfl) rfl
theorem q440 : (Jvm.Cond.methodLink "java/lang/Exception" (16 : Nat) ({ cls := "java/lang/Throwable", name := "<init>", desc := "(Ljava/lang/String;Ljava/lang/Throwable;ZZ)V" } : Jvm.MethodName)) ∈ lw_all := lw_g (lw_at lw_m2 140 rfl) rfl

/-! java/lang/String -/
set_option maxRecDepth 100000
def RJ2 : String := "java/lang/String"
abbrev cJ2_length : ByteArray := prog_25_method_54_code
def yJ2_length : MethodName := ⟨RJ2, "length", "()I"⟩
def dkwJ2_length_0 : List UInt8 := [42, 180, 0, 9, 190, 42, 182, 1, 79, 122, 172]
abbrev dktJ2_length_0 : List UInt8 := dkwJ2_length_0 ++ []
theorem dksJ2_length_0 : cJ2_length.data.toList.drop 0 = dktJ2_length_0 := by decide +kernel
theorem dJ2_length_0 : decode cJ2_length 0 = .ok (.aload_n 0, 1) := dk_42 (dk_at dksJ2_length_0 0 rfl rfl)
theorem dJ2_length_1 : decode cJ2_length 1 = .ok (.getfield 9, 3) := dk_180 0 9 (dk_at dksJ2_length_0 1 rfl rfl)
theorem dJ2_length_4 : decode cJ2_length 4 = .ok (.arraylength, 1) := dk_190 (dk_at dksJ2_length_0 4 rfl rfl)
theorem dJ2_length_5 : decode cJ2_length 5 = .ok (.aload_n 0, 1) := dk_42 (dk_at dksJ2_length_0 5 rfl rfl)
theorem dJ2_length_6 : decode cJ2_length 6 = .ok (.invokevirtual 335, 3) := dk_182 1 79 (dk_at dksJ2_length_0 6 rfl rfl)
theorem dJ2_length_9 : decode cJ2_length 9 = .ok (.ishr, 1) := dk_122 (dk_at dksJ2_length_0 9 rfl rfl)
theorem dJ2_length_10 : decode cJ2_length 10 = .ok (.ireturn, 1) := dk_172 (dk_at dksJ2_length_0 10 rfl rfl)
abbrev cJ2_coder : ByteArray := prog_25_method_152_code
def yJ2_coder : MethodName := ⟨RJ2, "coder", "()B"⟩
def dkwJ2_coder_0 : List UInt8 := [178, 0, 38, 153, 0, 10, 42, 180, 0, 15, 167, 0, 4, 4, 172]
abbrev dktJ2_coder_0 : List UInt8 := dkwJ2_coder_0 ++ []
theorem dksJ2_coder_0 : cJ2_coder.data.toList.drop 0 = dktJ2_coder_0 := by decide +kernel
theorem dJ2_coder_0 : decode cJ2_coder 0 = .ok (.getstatic 38, 3) := dk_178 0 38 (dk_at dksJ2_coder_0 0 rfl rfl)
theorem dJ2_coder_3 : decode cJ2_coder 3 = .ok (.ifCond .eq 10, 3) := dk_153 0 10 (dk_at dksJ2_coder_0 3 rfl rfl)
theorem dJ2_coder_6 : decode cJ2_coder 6 = .ok (.aload_n 0, 1) := dk_42 (dk_at dksJ2_coder_0 6 rfl rfl)
theorem dJ2_coder_7 : decode cJ2_coder 7 = .ok (.getfield 15, 3) := dk_180 0 15 (dk_at dksJ2_coder_0 7 rfl rfl)
theorem dJ2_coder_10 : decode cJ2_coder 10 = .ok (.goto 4, 3) := dk_167 0 4 (dk_at dksJ2_coder_0 10 rfl rfl)
theorem dJ2_coder_13 : decode cJ2_coder 13 = .ok (.iconst 1, 1) := dk_4 (dk_at dksJ2_coder_0 13 rfl rfl)
theorem dJ2_coder_14 : decode cJ2_coder 14 = .ok (.ireturn, 1) := dk_172 (dk_at dksJ2_coder_0 14 rfl rfl)
abbrev cJ2_charAt : ByteArray := prog_25_method_56_code
def yJ2_charAt : MethodName := ⟨RJ2, "charAt", "(I)C"⟩
def dkwJ2_charAt_1 : List UInt8 := [172]
abbrev dktJ2_charAt_1 : List UInt8 := dkwJ2_charAt_1 ++ []
def dkwJ2_charAt_0 : List UInt8 := [42, 182, 1, 236, 153, 0, 12, 42, 180, 0, 9, 27, 184, 1, 239, 172, 42, 180, 0, 9, 27, 184, 1, 242]
abbrev dktJ2_charAt_0 : List UInt8 := dkwJ2_charAt_0 ++ dktJ2_charAt_1
theorem dksJ2_charAt_0 : cJ2_charAt.data.toList.drop 0 = dktJ2_charAt_0 := by decide +kernel
theorem dksJ2_charAt_1 : cJ2_charAt.data.toList.drop 24 = dktJ2_charAt_1 := dk_seg dksJ2_charAt_0 24 rfl rfl
theorem dJ2_charAt_0 : decode cJ2_charAt 0 = .ok (.aload_n 0, 1) := dk_42 (dk_at dksJ2_charAt_0 0 rfl rfl)
theorem dJ2_charAt_1 : decode cJ2_charAt 1 = .ok (.invokevirtual 492, 3) := dk_182 1 236 (dk_at dksJ2_charAt_0 1 rfl rfl)
theorem dJ2_charAt_4 : decode cJ2_charAt 4 = .ok (.ifCond .eq 12, 3) := dk_153 0 12 (dk_at dksJ2_charAt_0 4 rfl rfl)
theorem dJ2_charAt_7 : decode cJ2_charAt 7 = .ok (.aload_n 0, 1) := dk_42 (dk_at dksJ2_charAt_0 7 rfl rfl)
theorem dJ2_charAt_8 : decode cJ2_charAt 8 = .ok (.getfield 9, 3) := dk_180 0 9 (dk_at dksJ2_charAt_0 8 rfl rfl)
theorem dJ2_charAt_11 : decode cJ2_charAt 11 = .ok (.iload_n 1, 1) := dk_27 (dk_at dksJ2_charAt_0 11 rfl rfl)
theorem dJ2_charAt_12 : decode cJ2_charAt 12 = .ok (.invokestatic 495, 3) := dk_184 1 239 (dk_at dksJ2_charAt_0 12 rfl rfl)
theorem dJ2_charAt_15 : decode cJ2_charAt 15 = .ok (.ireturn, 1) := dk_172 (dk_at dksJ2_charAt_0 15 rfl rfl)
theorem dJ2_charAt_16 : decode cJ2_charAt 16 = .ok (.aload_n 0, 1) := dk_42 (dk_at dksJ2_charAt_0 16 rfl rfl)
theorem dJ2_charAt_17 : decode cJ2_charAt 17 = .ok (.getfield 9, 3) := dk_180 0 9 (dk_at dksJ2_charAt_0 17 rfl rfl)
theorem dJ2_charAt_20 : decode cJ2_charAt 20 = .ok (.iload_n 1, 1) := dk_27 (dk_at dksJ2_charAt_0 20 rfl rfl)
theorem dJ2_charAt_21 : decode cJ2_charAt 21 = .ok (.invokestatic 498, 3) := dk_184 1 242 (dk_at dksJ2_charAt_0 21 rfl rfl)
theorem dJ2_charAt_24 : decode cJ2_charAt 24 = .ok (.ireturn, 1) := dk_172 (dk_at dksJ2_charAt_1 0 rfl rfl)
abbrev cJ2_isLatin1 : ByteArray := prog_25_method_154_code
def yJ2_isLatin1 : MethodName := ⟨RJ2, "isLatin1", "()Z"⟩
def dkwJ2_isLatin1_0 : List UInt8 := [178, 0, 38, 153, 0, 14, 42, 180, 0, 15, 154, 0, 7, 4, 167, 0, 4, 3, 172]
abbrev dktJ2_isLatin1_0 : List UInt8 := dkwJ2_isLatin1_0 ++ []
theorem dksJ2_isLatin1_0 : cJ2_isLatin1.data.toList.drop 0 = dktJ2_isLatin1_0 := by decide +kernel
theorem dJ2_isLatin1_0 : decode cJ2_isLatin1 0 = .ok (.getstatic 38, 3) := dk_178 0 38 (dk_at dksJ2_isLatin1_0 0 rfl rfl)
theorem dJ2_isLatin1_3 : decode cJ2_isLatin1 3 = .ok (.ifCond .eq 14, 3) := dk_153 0 14 (dk_at dksJ2_isLatin1_0 3 rfl rfl)
theorem dJ2_isLatin1_6 : decode cJ2_isLatin1 6 = .ok (.aload_n 0, 1) := dk_42 (dk_at dksJ2_isLatin1_0 6 rfl rfl)
theorem dJ2_isLatin1_7 : decode cJ2_isLatin1 7 = .ok (.getfield 15, 3) := dk_180 0 15 (dk_at dksJ2_isLatin1_0 7 rfl rfl)
theorem dJ2_isLatin1_10 : decode cJ2_isLatin1 10 = .ok (.ifCond .ne 7, 3) := dk_154 0 7 (dk_at dksJ2_isLatin1_0 10 rfl rfl)
theorem dJ2_isLatin1_13 : decode cJ2_isLatin1 13 = .ok (.iconst 1, 1) := dk_4 (dk_at dksJ2_isLatin1_0 13 rfl rfl)
theorem dJ2_isLatin1_14 : decode cJ2_isLatin1 14 = .ok (.goto 4, 3) := dk_167 0 4 (dk_at dksJ2_isLatin1_0 14 rfl rfl)
theorem dJ2_isLatin1_17 : decode cJ2_isLatin1 17 = .ok (.iconst 0, 1) := dk_3 (dk_at dksJ2_isLatin1_0 17 rfl rfl)
theorem dJ2_isLatin1_18 : decode cJ2_isLatin1 18 = .ok (.ireturn, 1) := dk_172 (dk_at dksJ2_isLatin1_0 18 rfl rfl)
abbrev cJ2_checkIndex : ByteArray := prog_25_method_155_code
def yJ2_checkIndex : MethodName := ⟨RJ2, "checkIndex", "(II)V"⟩
def dkwJ2_checkIndex_0 : List UInt8 := [26, 27, 178, 4, 29, 184, 4, 35, 87, 177]
abbrev dktJ2_checkIndex_0 : List UInt8 := dkwJ2_checkIndex_0 ++ []
theorem dksJ2_checkIndex_0 : cJ2_checkIndex.data.toList.drop 0 = dktJ2_checkIndex_0 := by decide +kernel
theorem dJ2_checkIndex_0 : decode cJ2_checkIndex 0 = .ok (.iload_n 0, 1) := dk_26 (dk_at dksJ2_checkIndex_0 0 rfl rfl)
theorem dJ2_checkIndex_1 : decode cJ2_checkIndex 1 = .ok (.iload_n 1, 1) := dk_27 (dk_at dksJ2_checkIndex_0 1 rfl rfl)
theorem dJ2_checkIndex_2 : decode cJ2_checkIndex 2 = .ok (.getstatic 1053, 3) := dk_178 4 29 (dk_at dksJ2_checkIndex_0 2 rfl rfl)
theorem dJ2_checkIndex_5 : decode cJ2_checkIndex 5 = .ok (.invokestatic 1059, 3) := dk_184 4 35 (dk_at dksJ2_checkIndex_0 5 rfl rfl)
theorem dJ2_checkIndex_8 : decode cJ2_checkIndex 8 = .ok (.pop, 1) := dk_87 (dk_at dksJ2_checkIndex_0 8 rfl rfl)
theorem dJ2_checkIndex_9 : decode cJ2_checkIndex 9 = .ok (.return_, 1) := dk_177 (dk_at dksJ2_checkIndex_0 9 rfl rfl)
theorem q71 : (Jvm.Cond.initialized "java/lang/String") ∈ lw_all := lw_g (lw_at lw_m1 11 rfl) rfl
theorem q470 : (Jvm.Cond.instanceMethod ({ cls := "java/lang/String", name := "length", desc := "()I" } : Jvm.MethodName)) ∈ lw_all := lw_g (lw_at lw_m2 170 rfl) rfl
theorem q471 : (Jvm.Cond.selects "java/lang/String" ({ cls := "java/lang/String", name := "length", desc := "()I" } : Jvm.MethodName) ({ cls := "java/lang/String", name := "length", desc := "()I" } : Jvm.MethodName)) ∈ lw_all := lw_g (lw_at lw_m2 171 rfl) rfl
theorem q472 : (Jvm.Cond.code ({ cls := "java/lang/String", name := "length", desc := "()I" } : Jvm.MethodName) prog_25_method_54_code (1 : Nat) (Option.some Jvm.ClassFile.FieldType.int)) ∈ lw_all := lw_g (lw_at lw_m2 172 rfl) rfl
theorem q473 : (Jvm.Cond.methodLink "java/lang/String" (335 : Nat) ({ cls := "java/lang/String", name := "coder", desc := "()B" } : Jvm.MethodName)) ∈ lw_all := lw_g (lw_at lw_m2 173 rfl) rfl
theorem q474 : (Jvm.Cond.instanceMethod ({ cls := "java/lang/String", name := "coder", desc := "()B" } : Jvm.MethodName)) ∈ lw_all := lw_g (lw_at lw_m2 174 rfl) rfl
theorem q475 : (Jvm.Cond.selects "java/lang/String" ({ cls := "java/lang/String", name := "coder", desc := "()B" } : Jvm.MethodName) ({ cls := "java/lang/String", name := "coder", desc := "()B" } : Jvm.MethodName)) ∈ lw_all := lw_g (lw_at lw_m2 175 rfl) rfl
theorem q476 : (Jvm.Cond.code ({ cls := "java/lang/String", name := "coder", desc := "()B" } : Jvm.MethodName) prog_25_method_152_code (1 : Nat) (Option.some Jvm.ClassFile.FieldType.byte)) ∈ lw_all := lw_g (lw_at lw_m2 176 rfl) rfl
theorem q477 : (Jvm.Cond.fieldLink "java/lang/String" (38 : Nat) "java/lang/String" "COMPACT_STRINGS" "Z") ∈ lw_all := lw_g (lw_at lw_m2 177 rfl) rfl
theorem q478 : (Jvm.Cond.laysStatic "java/lang/String" "COMPACT_STRINGS" "Z") ∈ lw_tbl := lw_at lw_m2 178 rfl
theorem q480 : (Jvm.Cond.instanceMethod ({ cls := "java/lang/String", name := "charAt", desc := "(I)C" } : Jvm.MethodName)) ∈ lw_all := lw_g (lw_at lw_m2 180 rfl) rfl
theorem q481 : (Jvm.Cond.selects "java/lang/String" ({ cls := "java/lang/String", name := "charAt", desc := "(I)C" } : Jvm.MethodName) ({ cls := "java/lang/String", name := "charAt", desc := "(I)C" } : Jvm.MethodName)) ∈ lw_all := lw_g (lw_at lw_m2 181 rfl) rfl
theorem q482 : (Jvm.Cond.code ({ cls := "java/lang/String", name := "charAt", desc := "(I)C" } : Jvm.MethodName) prog_25_method_56_code (2 : Nat) (Option.some Jvm.ClassFile.FieldType.char)) ∈ lw_all := lw_g (lw_at lw_m2 182 rfl) rfl
theorem q483 : (Jvm.Cond.methodLink "java/lang/String" (492 : Nat) ({ cls := "java/lang/String", name := "isLatin1", desc := "()Z" } : Jvm.MethodName)) ∈ lw_all := lw_g (lw_at lw_m2 183 rfl) rfl
theorem q484 : (Jvm.Cond.instanceMethod ({ cls := "java/lang/String", name := "isLatin1", desc := "()Z" } : Jvm.MethodName)) ∈ lw_all := lw_g (lw_at lw_m2 184 rfl) rfl
theorem q485 : (Jvm.Cond.selects "java/lang/String" ({ cls := "java/lang/String", name := "isLatin1", desc := "()Z" } : Jvm.MethodName) ({ cls := "java/lang/String", name := "isLatin1", desc := "()Z" } : Jvm.MethodName)) ∈ lw_all := lw_g (lw_at lw_m2 185 rfl) rfl
theorem q486 : (Jvm.Cond.code ({ cls := "java/lang/String", name := "isLatin1", desc := "()Z" } : Jvm.MethodName) prog_25_method_154_code (1 : Nat) (Option.some Jvm.ClassFile.FieldType.boolean)) ∈ lw_all := lw_g (lw_at lw_m2 186 rfl) rfl
theorem q487 : (Jvm.Cond.methodLink "java/lang/String" (495 : Nat) ({ cls := "java/lang/StringLatin1", name := "charAt", desc := "([BI)C" } : Jvm.MethodName)) ∈ lw_all := lw_g (lw_at lw_m2 187 rfl) rfl
theorem q491 : (Jvm.Cond.static ({ cls := "java/lang/String", name := "checkIndex", desc := "(II)V" } : Jvm.MethodName)) ∈ lw_all := lw_g (lw_at lw_m2 191 rfl) rfl
theorem q492 : (Jvm.Cond.code ({ cls := "java/lang/String", name := "checkIndex", desc := "(II)V" } : Jvm.MethodName) prog_25_method_155_code (2 : Nat) (Option.none : Option Jvm.ClassFile.FieldType)) ∈ lw_all := lw_g (lw_at lw_m2 192 rfl) rfl
theorem q493 : (Jvm.Cond.fieldLink "java/lang/String" (1053 : Nat) "jdk/internal/util/Preconditions" "SIOOBE_FORMATTER" "Ljava/util/function/BiFunction;") ∈ lw_all := lw_g (lw_at lw_m2 193 rfl) rfl
theorem q495 : (Jvm.Cond.methodLink "java/lang/String" (1059 : Nat) ({ cls := "jdk/internal/util/Preconditions", name := "checkIndex", desc := "(IILjava/util/function/BiFunction;)I" } : Jvm.MethodName)) ∈ lw_all := lw_g (lw_at lw_m2 195 rfl) rfl
theorem q498 : (Jvm.Cond.methodLink "java/lang/String" (498 : Nat) ({ cls := "java/lang/StringUTF16", name := "charAt", desc := "([BI)C" } : Jvm.MethodName)) ∈ lw_all := lw_g (lw_at lw_m2 198 rfl) rfl
theorem q1374 : (Jvm.Cond.fieldLink "java/lang/String" (9 : Nat) "java/lang/String" "value" "[B") ∈ lw_all := lw_g (lw_at lw_m6 114 rfl) rfl
theorem q1375 : (Jvm.Cond.fieldLink "java/lang/String" (15 : Nat) "java/lang/String" "coder" "B") ∈ lw_all := lw_g (lw_at lw_m6 115 rfl) rfl

/-! java/lang/StringLatin1 -/
set_option maxRecDepth 100000
def RJ3 : String := "java/lang/StringLatin1"
abbrev cJ3_charAt : ByteArray := prog_26_method_2_code
def yJ3_charAt : MethodName := ⟨RJ3, "charAt", "([BI)C"⟩
def dkwJ3_charAt_0 : List UInt8 := [27, 42, 190, 184, 0, 9, 42, 27, 51, 17, 0, 255, 126, 146, 172]
abbrev dktJ3_charAt_0 : List UInt8 := dkwJ3_charAt_0 ++ []
theorem dksJ3_charAt_0 : cJ3_charAt.data.toList.drop 0 = dktJ3_charAt_0 := by decide +kernel
theorem dJ3_charAt_0 : decode cJ3_charAt 0 = .ok (.iload_n 1, 1) := dk_27 (dk_at dksJ3_charAt_0 0 rfl rfl)
theorem dJ3_charAt_1 : decode cJ3_charAt 1 = .ok (.aload_n 0, 1) := dk_42 (dk_at dksJ3_charAt_0 1 rfl rfl)
theorem dJ3_charAt_2 : decode cJ3_charAt 2 = .ok (.arraylength, 1) := dk_190 (dk_at dksJ3_charAt_0 2 rfl rfl)
theorem dJ3_charAt_3 : decode cJ3_charAt 3 = .ok (.invokestatic 9, 3) := dk_184 0 9 (dk_at dksJ3_charAt_0 3 rfl rfl)
theorem dJ3_charAt_6 : decode cJ3_charAt 6 = .ok (.aload_n 0, 1) := dk_42 (dk_at dksJ3_charAt_0 6 rfl rfl)
theorem dJ3_charAt_7 : decode cJ3_charAt 7 = .ok (.iload_n 1, 1) := dk_27 (dk_at dksJ3_charAt_0 7 rfl rfl)
theorem dJ3_charAt_8 : decode cJ3_charAt 8 = .ok (.baload, 1) := dk_51 (dk_at dksJ3_charAt_0 8 rfl rfl)
theorem dJ3_charAt_9 : decode cJ3_charAt 9 = .ok (.sipush 255, 3) := dk_17 0 255 (dk_at dksJ3_charAt_0 9 rfl rfl)
theorem dJ3_charAt_12 : decode cJ3_charAt 12 = .ok (.iand, 1) := dk_126 (dk_at dksJ3_charAt_0 12 rfl rfl)
theorem dJ3_charAt_13 : decode cJ3_charAt 13 = .ok (.i2c, 1) := dk_146 (dk_at dksJ3_charAt_0 13 rfl rfl)
theorem dJ3_charAt_14 : decode cJ3_charAt 14 = .ok (.ireturn, 1) := dk_172 (dk_at dksJ3_charAt_0 14 rfl rfl)
theorem q72 : (Jvm.Cond.initialized "java/lang/StringLatin1") ∈ lw_all := lw_g (lw_at lw_m1 12 rfl) rfl
theorem q488 : (Jvm.Cond.static ({ cls := "java/lang/StringLatin1", name := "charAt", desc := "([BI)C" } : Jvm.MethodName)) ∈ lw_all := lw_g (lw_at lw_m2 188 rfl) rfl
theorem q489 : (Jvm.Cond.code ({ cls := "java/lang/StringLatin1", name := "charAt", desc := "([BI)C" } : Jvm.MethodName) prog_26_method_2_code (2 : Nat) (Option.some Jvm.ClassFile.FieldType.char)) ∈ lw_all := lw_g (lw_at lw_m2 189 rfl) rfl
theorem q490 : (Jvm.Cond.methodLink "java/lang/StringLatin1" (9 : Nat) ({ cls := "java/lang/String", name := "checkIndex", desc := "(II)V" } : Jvm.MethodName)) ∈ lw_all := lw_g (lw_at lw_m2 190 rfl) rfl

/-! jdk/internal/util/Preconditions -/
set_option maxRecDepth 100000
def RJ4 : String := "jdk/internal/util/Preconditions"
abbrev cJ4_checkIndex : ByteArray := prog_30_method_11_code
def yJ4_checkIndex : MethodName := ⟨RJ4, "checkIndex", "(IILjava/util/function/BiFunction;)I"⟩
def dkwJ4_checkIndex_0 : List UInt8 := [26, 155, 0, 8, 26, 27, 161, 0, 10, 44, 26, 27, 184, 0, 95, 191, 26, 172]
abbrev dktJ4_checkIndex_0 : List UInt8 := dkwJ4_checkIndex_0 ++ []
theorem dksJ4_checkIndex_0 : cJ4_checkIndex.data.toList.drop 0 = dktJ4_checkIndex_0 := by decide +kernel
theorem dJ4_checkIndex_0 : decode cJ4_checkIndex 0 = .ok (.iload_n 0, 1) := dk_26 (dk_at dksJ4_checkIndex_0 0 rfl rfl)
theorem dJ4_checkIndex_1 : decode cJ4_checkIndex 1 = .ok (.ifCond .lt 8, 3) := dk_155 0 8 (dk_at dksJ4_checkIndex_0 1 rfl rfl)
theorem dJ4_checkIndex_4 : decode cJ4_checkIndex 4 = .ok (.iload_n 0, 1) := dk_26 (dk_at dksJ4_checkIndex_0 4 rfl rfl)
theorem dJ4_checkIndex_5 : decode cJ4_checkIndex 5 = .ok (.iload_n 1, 1) := dk_27 (dk_at dksJ4_checkIndex_0 5 rfl rfl)
theorem dJ4_checkIndex_6 : decode cJ4_checkIndex 6 = .ok (.if_icmp .lt 10, 3) := dk_161 0 10 (dk_at dksJ4_checkIndex_0 6 rfl rfl)
theorem dJ4_checkIndex_9 : decode cJ4_checkIndex 9 = .ok (.aload_n 2, 1) := dk_44 (dk_at dksJ4_checkIndex_0 9 rfl rfl)
theorem dJ4_checkIndex_10 : decode cJ4_checkIndex 10 = .ok (.iload_n 0, 1) := dk_26 (dk_at dksJ4_checkIndex_0 10 rfl rfl)
theorem dJ4_checkIndex_11 : decode cJ4_checkIndex 11 = .ok (.iload_n 1, 1) := dk_27 (dk_at dksJ4_checkIndex_0 11 rfl rfl)
theorem dJ4_checkIndex_12 : decode cJ4_checkIndex 12 = .ok (.invokestatic 95, 3) := dk_184 0 95 (dk_at dksJ4_checkIndex_0 12 rfl rfl)
theorem dJ4_checkIndex_15 : decode cJ4_checkIndex 15 = .ok (.athrow, 1) := dk_191 (dk_at dksJ4_checkIndex_0 15 rfl rfl)
theorem dJ4_checkIndex_16 : decode cJ4_checkIndex 16 = .ok (.iload_n 0, 1) := dk_26 (dk_at dksJ4_checkIndex_0 16 rfl rfl)
theorem dJ4_checkIndex_17 : decode cJ4_checkIndex 17 = .ok (.ireturn, 1) := dk_172 (dk_at dksJ4_checkIndex_0 17 rfl rfl)
theorem q73 : (Jvm.Cond.initialized "jdk/internal/util/Preconditions") ∈ lw_all := lw_g (lw_at lw_m1 13 rfl) rfl
theorem q494 : (Jvm.Cond.laysStatic "jdk/internal/util/Preconditions" "SIOOBE_FORMATTER" "Ljava/util/function/BiFunction;") ∈ lw_tbl := lw_at lw_m2 194 rfl
theorem q496 : (Jvm.Cond.static ({ cls := "jdk/internal/util/Preconditions", name := "checkIndex", desc := "(IILjava/util/function/BiFunction;)I" } : Jvm.MethodName)) ∈ lw_all := lw_g (lw_at lw_m2 196 rfl) rfl
theorem q497 : (Jvm.Cond.code ({ cls := "jdk/internal/util/Preconditions", name := "checkIndex", desc := "(IILjava/util/function/BiFunction;)I" } : Jvm.MethodName) prog_30_method_11_code (3 : Nat) (Option.some Jvm.ClassFile.FieldType.int)) ∈ lw_all := lw_g (lw_at lw_m2 197 rfl) rfl

/-! java/lang/StringUTF16 -/
set_option maxRecDepth 100000
def RJ5 : String := "java/lang/StringUTF16"
abbrev cJ5_charAt : ByteArray := prog_27_method_83_code
def yJ5_charAt : MethodName := ⟨RJ5, "charAt", "([BI)C"⟩
def dkwJ5_charAt_0 : List UInt8 := [27, 42, 184, 0, 67, 42, 27, 184, 0, 71, 172]
abbrev dktJ5_charAt_0 : List UInt8 := dkwJ5_charAt_0 ++ []
theorem dksJ5_charAt_0 : cJ5_charAt.data.toList.drop 0 = dktJ5_charAt_0 := by decide +kernel
theorem dJ5_charAt_0 : decode cJ5_charAt 0 = .ok (.iload_n 1, 1) := dk_27 (dk_at dksJ5_charAt_0 0 rfl rfl)
theorem dJ5_charAt_1 : decode cJ5_charAt 1 = .ok (.aload_n 0, 1) := dk_42 (dk_at dksJ5_charAt_0 1 rfl rfl)
theorem dJ5_charAt_2 : decode cJ5_charAt 2 = .ok (.invokestatic 67, 3) := dk_184 0 67 (dk_at dksJ5_charAt_0 2 rfl rfl)
theorem dJ5_charAt_5 : decode cJ5_charAt 5 = .ok (.aload_n 0, 1) := dk_42 (dk_at dksJ5_charAt_0 5 rfl rfl)
theorem dJ5_charAt_6 : decode cJ5_charAt 6 = .ok (.iload_n 1, 1) := dk_27 (dk_at dksJ5_charAt_0 6 rfl rfl)
theorem dJ5_charAt_7 : decode cJ5_charAt 7 = .ok (.invokestatic 71, 3) := dk_184 0 71 (dk_at dksJ5_charAt_0 7 rfl rfl)
theorem dJ5_charAt_10 : decode cJ5_charAt 10 = .ok (.ireturn, 1) := dk_172 (dk_at dksJ5_charAt_0 10 rfl rfl)
abbrev cJ5_checkIndex : ByteArray := prog_27_method_91_code
def yJ5_checkIndex : MethodName := ⟨RJ5, "checkIndex", "(I[B)V"⟩
def dkwJ5_checkIndex_0 : List UInt8 := [26, 43, 184, 0, 48, 184, 1, 158, 177]
abbrev dktJ5_checkIndex_0 : List UInt8 := dkwJ5_checkIndex_0 ++ []
theorem dksJ5_checkIndex_0 : cJ5_checkIndex.data.toList.drop 0 = dktJ5_checkIndex_0 := by decide +kernel
theorem dJ5_checkIndex_0 : decode cJ5_checkIndex 0 = .ok (.iload_n 0, 1) := dk_26 (dk_at dksJ5_checkIndex_0 0 rfl rfl)
theorem dJ5_checkIndex_1 : decode cJ5_checkIndex 1 = .ok (.aload_n 1, 1) := dk_43 (dk_at dksJ5_checkIndex_0 1 rfl rfl)
theorem dJ5_checkIndex_2 : decode cJ5_checkIndex 2 = .ok (.invokestatic 48, 3) := dk_184 0 48 (dk_at dksJ5_checkIndex_0 2 rfl rfl)
theorem dJ5_checkIndex_5 : decode cJ5_checkIndex 5 = .ok (.invokestatic 414, 3) := dk_184 1 158 (dk_at dksJ5_checkIndex_0 5 rfl rfl)
theorem dJ5_checkIndex_8 : decode cJ5_checkIndex 8 = .ok (.return_, 1) := dk_177 (dk_at dksJ5_checkIndex_0 8 rfl rfl)
abbrev cJ5_length : ByteArray := prog_27_method_6_code
def yJ5_length : MethodName := ⟨RJ5, "length", "([B)I"⟩
def dkwJ5_length_0 : List UInt8 := [42, 190, 4, 122, 172]
abbrev dktJ5_length_0 : List UInt8 := dkwJ5_length_0 ++ []
theorem dksJ5_length_0 : cJ5_length.data.toList.drop 0 = dktJ5_length_0 := by decide +kernel
theorem dJ5_length_0 : decode cJ5_length 0 = .ok (.aload_n 0, 1) := dk_42 (dk_at dksJ5_length_0 0 rfl rfl)
theorem dJ5_length_1 : decode cJ5_length 1 = .ok (.arraylength, 1) := dk_190 (dk_at dksJ5_length_0 1 rfl rfl)
theorem dJ5_length_2 : decode cJ5_length 2 = .ok (.iconst 1, 1) := dk_4 (dk_at dksJ5_length_0 2 rfl rfl)
theorem dJ5_length_3 : decode cJ5_length 3 = .ok (.ishr, 1) := dk_122 (dk_at dksJ5_length_0 3 rfl rfl)
theorem dJ5_length_4 : decode cJ5_length 4 = .ok (.ireturn, 1) := dk_172 (dk_at dksJ5_length_0 4 rfl rfl)
abbrev cJ5_getChar : ByteArray := prog_27_method_5_code
def yJ5_getChar : MethodName := ⟨RJ5, "getChar", "([BI)C"⟩
def dkwJ5_getChar_2 : List UInt8 := [51, 17, 0, 255, 126, 178, 0, 63, 120, 128, 146, 172]
abbrev dktJ5_getChar_2 : List UInt8 := dkwJ5_getChar_2 ++ []
def dkwJ5_getChar_1 : List UInt8 := [183, 0, 56, 191, 27, 4, 120, 60, 42, 27, 132, 1, 1, 51, 17, 0, 255, 126, 178, 0, 59, 120, 42, 27]
abbrev dktJ5_getChar_1 : List UInt8 := dkwJ5_getChar_1 ++ dktJ5_getChar_2
def dkwJ5_getChar_0 : List UInt8 := [178, 0, 44, 154, 0, 25, 27, 155, 0, 11, 27, 42, 184, 0, 48, 161, 0, 13, 187, 0, 52, 89, 18, 54]
abbrev dktJ5_getChar_0 : List UInt8 := dkwJ5_getChar_0 ++ dktJ5_getChar_1
theorem dksJ5_getChar_0 : cJ5_getChar.data.toList.drop 0 = dktJ5_getChar_0 := by decide +kernel
theorem dksJ5_getChar_1 : cJ5_getChar.data.toList.drop 24 = dktJ5_getChar_1 := dk_seg dksJ5_getChar_0 24 rfl rfl
theorem dksJ5_getChar_2 : cJ5_getChar.data.toList.drop 48 = dktJ5_getChar_2 := dk_seg dksJ5_getChar_1 24 rfl rfl
theorem dJ5_getChar_0 : decode cJ5_getChar 0 = .ok (.getstatic 44, 3) := dk_178 0 44 (dk_at dksJ5_getChar_0 0 rfl rfl)
theorem dJ5_getChar_3 : decode cJ5_getChar 3 = .ok (.ifCond .ne 25, 3) := dk_154 0 25 (dk_at dksJ5_getChar_0 3 rfl rfl)
theorem dJ5_getChar_6 : decode cJ5_getChar 6 = .ok (.iload_n 1, 1) := dk_27 (dk_at dksJ5_getChar_0 6 rfl rfl)
theorem dJ5_getChar_7 : decode cJ5_getChar 7 = .ok (.ifCond .lt 11, 3) := dk_155 0 11 (dk_at dksJ5_getChar_0 7 rfl rfl)
theorem dJ5_getChar_10 : decode cJ5_getChar 10 = .ok (.iload_n 1, 1) := dk_27 (dk_at dksJ5_getChar_0 10 rfl rfl)
theorem dJ5_getChar_11 : decode cJ5_getChar 11 = .ok (.aload_n 0, 1) := dk_42 (dk_at dksJ5_getChar_0 11 rfl rfl)
theorem dJ5_getChar_12 : decode cJ5_getChar 12 = .ok (.invokestatic 48, 3) := dk_184 0 48 (dk_at dksJ5_getChar_0 12 rfl rfl)
theorem dJ5_getChar_15 : decode cJ5_getChar 15 = .ok (.if_icmp .lt 13, 3) := dk_161 0 13 (dk_at dksJ5_getChar_0 15 rfl rfl)
theorem dJ5_getChar_18 : decode cJ5_getChar 18 = .ok (.new 52, 3) := dk_187 0 52 (dk_at dksJ5_getChar_0 18 rfl rfl)
theorem dJ5_getChar_21 : decode cJ5_getChar 21 = .ok (.dup, 1) := dk_89 (dk_at dksJ5_getChar_0 21 rfl rfl)
theorem dJ5_getChar_22 : decode cJ5_getChar 22 = .ok (.ldc 54, 2) := dk_18 54 (dk_at dksJ5_getChar_0 22 rfl rfl)
theorem dJ5_getChar_24 : decode cJ5_getChar 24 = .ok (.invokespecial 56, 3) := dk_183 0 56 (dk_at dksJ5_getChar_1 0 rfl rfl)
theorem dJ5_getChar_27 : decode cJ5_getChar 27 = .ok (.athrow, 1) := dk_191 (dk_at dksJ5_getChar_1 3 rfl rfl)
theorem dJ5_getChar_28 : decode cJ5_getChar 28 = .ok (.iload_n 1, 1) := dk_27 (dk_at dksJ5_getChar_1 4 rfl rfl)
theorem dJ5_getChar_29 : decode cJ5_getChar 29 = .ok (.iconst 1, 1) := dk_4 (dk_at dksJ5_getChar_1 5 rfl rfl)
theorem dJ5_getChar_30 : decode cJ5_getChar 30 = .ok (.ishl, 1) := dk_120 (dk_at dksJ5_getChar_1 6 rfl rfl)
theorem dJ5_getChar_31 : decode cJ5_getChar 31 = .ok (.istore_n 1, 1) := dk_60 (dk_at dksJ5_getChar_1 7 rfl rfl)
theorem dJ5_getChar_32 : decode cJ5_getChar 32 = .ok (.aload_n 0, 1) := dk_42 (dk_at dksJ5_getChar_1 8 rfl rfl)
theorem dJ5_getChar_33 : decode cJ5_getChar 33 = .ok (.iload_n 1, 1) := dk_27 (dk_at dksJ5_getChar_1 9 rfl rfl)
theorem dJ5_getChar_34 : decode cJ5_getChar 34 = .ok (.iinc 1 1, 3) := dk_132 1 1 (dk_at dksJ5_getChar_1 10 rfl rfl)
theorem dJ5_getChar_37 : decode cJ5_getChar 37 = .ok (.baload, 1) := dk_51 (dk_at dksJ5_getChar_1 13 rfl rfl)
theorem dJ5_getChar_38 : decode cJ5_getChar 38 = .ok (.sipush 255, 3) := dk_17 0 255 (dk_at dksJ5_getChar_1 14 rfl rfl)
theorem dJ5_getChar_41 : decode cJ5_getChar 41 = .ok (.iand, 1) := dk_126 (dk_at dksJ5_getChar_1 17 rfl rfl)
theorem dJ5_getChar_42 : decode cJ5_getChar 42 = .ok (.getstatic 59, 3) := dk_178 0 59 (dk_at dksJ5_getChar_1 18 rfl rfl)
theorem dJ5_getChar_45 : decode cJ5_getChar 45 = .ok (.ishl, 1) := dk_120 (dk_at dksJ5_getChar_1 21 rfl rfl)
theorem dJ5_getChar_46 : decode cJ5_getChar 46 = .ok (.aload_n 0, 1) := dk_42 (dk_at dksJ5_getChar_1 22 rfl rfl)
theorem dJ5_getChar_47 : decode cJ5_getChar 47 = .ok (.iload_n 1, 1) := dk_27 (dk_at dksJ5_getChar_1 23 rfl rfl)
theorem dJ5_getChar_48 : decode cJ5_getChar 48 = .ok (.baload, 1) := dk_51 (dk_at dksJ5_getChar_2 0 rfl rfl)
theorem dJ5_getChar_49 : decode cJ5_getChar 49 = .ok (.sipush 255, 3) := dk_17 0 255 (dk_at dksJ5_getChar_2 1 rfl rfl)
theorem dJ5_getChar_52 : decode cJ5_getChar 52 = .ok (.iand, 1) := dk_126 (dk_at dksJ5_getChar_2 4 rfl rfl)
theorem dJ5_getChar_53 : decode cJ5_getChar 53 = .ok (.getstatic 63, 3) := dk_178 0 63 (dk_at dksJ5_getChar_2 5 rfl rfl)
theorem dJ5_getChar_56 : decode cJ5_getChar 56 = .ok (.ishl, 1) := dk_120 (dk_at dksJ5_getChar_2 8 rfl rfl)
theorem dJ5_getChar_57 : decode cJ5_getChar 57 = .ok (.ior, 1) := dk_128 (dk_at dksJ5_getChar_2 9 rfl rfl)
theorem dJ5_getChar_58 : decode cJ5_getChar 58 = .ok (.i2c, 1) := dk_146 (dk_at dksJ5_getChar_2 10 rfl rfl)
theorem dJ5_getChar_59 : decode cJ5_getChar 59 = .ok (.ireturn, 1) := dk_172 (dk_at dksJ5_getChar_2 11 rfl rfl)
theorem q74 : (Jvm.Cond.initialized "java/lang/StringUTF16") ∈ lw_all := lw_g (lw_at lw_m1 14 rfl) rfl
theorem q499 : (Jvm.Cond.static ({ cls := "java/lang/StringUTF16", name := "charAt", desc := "([BI)C" } : Jvm.MethodName)) ∈ lw_all := lw_g (lw_at lw_m2 199 rfl) rfl
theorem q500 : (Jvm.Cond.code ({ cls := "java/lang/StringUTF16", name := "charAt", desc := "([BI)C" } : Jvm.MethodName) prog_27_method_83_code (2 : Nat) (Option.some Jvm.ClassFile.FieldType.char)) ∈ lw_all := lw_g (lw_at lw_m2 200 rfl) rfl
theorem q501 : (Jvm.Cond.methodLink "java/lang/StringUTF16" (67 : Nat) ({ cls := "java/lang/StringUTF16", name := "checkIndex", desc := "(I[B)V" } : Jvm.MethodName)) ∈ lw_all := lw_g (lw_at lw_m2 201 rfl) rfl
theorem q502 : (Jvm.Cond.static ({ cls := "java/lang/StringUTF16", name := "checkIndex", desc := "(I[B)V" } : Jvm.MethodName)) ∈ lw_all := lw_g (lw_at lw_m2 202 rfl) rfl
theorem q503 : (Jvm.Cond.code ({ cls := "java/lang/StringUTF16", name := "checkIndex", desc := "(I[B)V" } : Jvm.MethodName) prog_27_method_91_code (2 : Nat) (Option.none : Option Jvm.ClassFile.FieldType)) ∈ lw_all := lw_g (lw_at lw_m2 203 rfl) rfl
theorem q504 : (Jvm.Cond.methodLink "java/lang/StringUTF16" (48 : Nat) ({ cls := "java/lang/StringUTF16", name := "length", desc := "([B)I" } : Jvm.MethodName)) ∈ lw_all := lw_g (lw_at lw_m2 204 rfl) rfl
theorem q505 : (Jvm.Cond.static ({ cls := "java/lang/StringUTF16", name := "length", desc := "([B)I" } : Jvm.MethodName)) ∈ lw_all := lw_g (lw_at lw_m2 205 rfl) rfl
theorem q506 : (Jvm.Cond.code ({ cls := "java/lang/StringUTF16", name := "length", desc := "([B)I" } : Jvm.MethodName) prog_27_method_6_code (1 : Nat) (Option.some Jvm.ClassFile.FieldType.int)) ∈ lw_all := lw_g (lw_at lw_m2 206 rfl) rfl
theorem q507 : (Jvm.Cond.methodLink "java/lang/StringUTF16" (414 : Nat) ({ cls := "java/lang/String", name := "checkIndex", desc := "(II)V" } : Jvm.MethodName)) ∈ lw_all := lw_g (lw_at lw_m2 207 rfl) rfl
theorem q508 : (Jvm.Cond.methodLink "java/lang/StringUTF16" (71 : Nat) ({ cls := "java/lang/StringUTF16", name := "getChar", desc := "([BI)C" } : Jvm.MethodName)) ∈ lw_all := lw_g (lw_at lw_m2 208 rfl) rfl
theorem q509 : (Jvm.Cond.static ({ cls := "java/lang/StringUTF16", name := "getChar", desc := "([BI)C" } : Jvm.MethodName)) ∈ lw_all := lw_g (lw_at lw_m2 209 rfl) rfl
theorem q510 : (Jvm.Cond.code ({ cls := "java/lang/StringUTF16", name := "getChar", desc := "([BI)C" } : Jvm.MethodName) prog_27_method_5_code (2 : Nat) (Option.some Jvm.ClassFile.FieldType.char)) ∈ lw_all := lw_g (lw_at lw_m2 210 rfl) rfl
theorem q511 : (Jvm.Cond.fieldLink "java/lang/StringUTF16" (44 : Nat) "java/lang/StringUTF16" "$assertionsDisabled" "Z") ∈ lw_all := lw_g (lw_at lw_m2 211 rfl) rfl
theorem q512 : (Jvm.Cond.laysStatic "java/lang/StringUTF16" "$assertionsDisabled" "Z") ∈ lw_tbl := lw_at lw_m2 212 rfl
theorem q513 : (Jvm.Cond.fieldLink "java/lang/StringUTF16" (59 : Nat) "java/lang/StringUTF16" "HI_BYTE_SHIFT" "I") ∈ lw_all := lw_g (lw_at lw_m2 213 rfl) rfl
theorem q514 : (Jvm.Cond.laysStatic "java/lang/StringUTF16" "HI_BYTE_SHIFT" "I") ∈ lw_tbl := lw_at lw_m2 214 rfl
theorem q515 : (Jvm.Cond.fieldLink "java/lang/StringUTF16" (63 : Nat) "java/lang/StringUTF16" "LO_BYTE_SHIFT" "I") ∈ lw_all := lw_g (lw_at lw_m2 215 rfl) rfl
theorem q516 : (Jvm.Cond.laysStatic "java/lang/StringUTF16" "LO_BYTE_SHIFT" "I") ∈ lw_tbl := lw_at lw_m2 216 rfl

/-! java/lang/Math -/
set_option maxRecDepth 100000
def RJ6 : String := "java/lang/Math"
abbrev cJ6_max : ByteArray := prog_24_method_65_code
def yJ6_max : MethodName := ⟨RJ6, "max", "(II)I"⟩
def dkwJ6_max_0 : List UInt8 := [26, 27, 161, 0, 7, 26, 167, 0, 4, 27, 172]
abbrev dktJ6_max_0 : List UInt8 := dkwJ6_max_0 ++ []
theorem dksJ6_max_0 : cJ6_max.data.toList.drop 0 = dktJ6_max_0 := by decide +kernel
theorem dJ6_max_0 : decode cJ6_max 0 = .ok (.iload_n 0, 1) := dk_26 (dk_at dksJ6_max_0 0 rfl rfl)
theorem dJ6_max_1 : decode cJ6_max 1 = .ok (.iload_n 1, 1) := dk_27 (dk_at dksJ6_max_0 1 rfl rfl)
theorem dJ6_max_2 : decode cJ6_max 2 = .ok (.if_icmp .lt 7, 3) := dk_161 0 7 (dk_at dksJ6_max_0 2 rfl rfl)
theorem dJ6_max_5 : decode cJ6_max 5 = .ok (.iload_n 0, 1) := dk_26 (dk_at dksJ6_max_0 5 rfl rfl)
theorem dJ6_max_6 : decode cJ6_max 6 = .ok (.goto 4, 3) := dk_167 0 4 (dk_at dksJ6_max_0 6 rfl rfl)
theorem dJ6_max_9 : decode cJ6_max 9 = .ok (.iload_n 1, 1) := dk_27 (dk_at dksJ6_max_0 9 rfl rfl)
theorem dJ6_max_10 : decode cJ6_max 10 = .ok (.ireturn, 1) := dk_172 (dk_at dksJ6_max_0 10 rfl rfl)
abbrev cJ6_min : ByteArray := prog_24_method_69_code
def yJ6_min : MethodName := ⟨RJ6, "min", "(II)I"⟩
def dkwJ6_min_0 : List UInt8 := [26, 27, 163, 0, 7, 26, 167, 0, 4, 27, 172]
abbrev dktJ6_min_0 : List UInt8 := dkwJ6_min_0 ++ []
theorem dksJ6_min_0 : cJ6_min.data.toList.drop 0 = dktJ6_min_0 := by decide +kernel
theorem dJ6_min_0 : decode cJ6_min 0 = .ok (.iload_n 0, 1) := dk_26 (dk_at dksJ6_min_0 0 rfl rfl)
theorem dJ6_min_1 : decode cJ6_min 1 = .ok (.iload_n 1, 1) := dk_27 (dk_at dksJ6_min_0 1 rfl rfl)
theorem dJ6_min_2 : decode cJ6_min 2 = .ok (.if_icmp .gt 7, 3) := dk_163 0 7 (dk_at dksJ6_min_0 2 rfl rfl)
theorem dJ6_min_5 : decode cJ6_min 5 = .ok (.iload_n 0, 1) := dk_26 (dk_at dksJ6_min_0 5 rfl rfl)
theorem dJ6_min_6 : decode cJ6_min 6 = .ok (.goto 4, 3) := dk_167 0 4 (dk_at dksJ6_min_0 6 rfl rfl)
theorem dJ6_min_9 : decode cJ6_min 9 = .ok (.iload_n 1, 1) := dk_27 (dk_at dksJ6_min_0 9 rfl rfl)
theorem dJ6_min_10 : decode cJ6_min 10 = .ok (.ireturn, 1) := dk_172 (dk_at dksJ6_min_0 10 rfl rfl)
theorem q75 : (Jvm.Cond.initialized "java/lang/Math") ∈ lw_all := lw_g (lw_at lw_m1 15 rfl) rfl
theorem q568 : (Jvm.Cond.static ({ cls := "java/lang/Math", name := "max", desc := "(II)I" } : Jvm.MethodName)) ∈ lw_all := lw_g (lw_at lw_m3 28 rfl) rfl
theorem q569 : (Jvm.Cond.code ({ cls := "java/lang/Math", name := "max", desc := "(II)I" } : Jvm.MethodName) prog_24_method_65_code (2 : Nat) (Option.some Jvm.ClassFile.FieldType.int)) ∈ lw_all := lw_g (lw_at lw_m3 29 rfl) rfl
theorem q574 : (Jvm.Cond.static ({ cls := "java/lang/Math", name := "min", desc := "(II)I" } : Jvm.MethodName)) ∈ lw_all := lw_g (lw_at lw_m3 34 rfl) rfl
theorem q575 : (Jvm.Cond.code ({ cls := "java/lang/Math", name := "min", desc := "(II)I" } : Jvm.MethodName) prog_24_method_69_code (2 : Nat) (Option.some Jvm.ClassFile.FieldType.int)) ∈ lw_all := lw_g (lw_at lw_m3 35 rfl) rfl

/-! java/lang/Integer -/
set_option maxRecDepth 100000
def RJ7 : String := "java/lang/Integer"
abbrev cJ7_bitCount : ByteArray := prog_23_method_49_code
def yJ7_bitCount : MethodName := ⟨RJ7, "bitCount", "(I)I"⟩
def dkwJ7_bitCount_2 : List UInt8 := [26, 16, 63, 126, 172]
abbrev dktJ7_bitCount_2 : List UInt8 := dkwJ7_bitCount_2 ++ []
def dkwJ7_bitCount_1 : List UInt8 := [26, 26, 7, 124, 96, 19, 1, 11, 126, 59, 26, 26, 16, 8, 124, 96, 59, 26, 26, 16, 16, 124, 96, 59]
abbrev dktJ7_bitCount_1 : List UInt8 := dkwJ7_bitCount_1 ++ dktJ7_bitCount_2
def dkwJ7_bitCount_0 : List UInt8 := [26, 26, 4, 124, 19, 1, 9, 126, 100, 59, 26, 19, 1, 10, 126, 26, 5, 124, 19, 1, 10, 126, 96, 59]
abbrev dktJ7_bitCount_0 : List UInt8 := dkwJ7_bitCount_0 ++ dktJ7_bitCount_1
theorem dksJ7_bitCount_0 : cJ7_bitCount.data.toList.drop 0 = dktJ7_bitCount_0 := by decide +kernel
theorem dksJ7_bitCount_1 : cJ7_bitCount.data.toList.drop 24 = dktJ7_bitCount_1 := dk_seg dksJ7_bitCount_0 24 rfl rfl
theorem dksJ7_bitCount_2 : cJ7_bitCount.data.toList.drop 48 = dktJ7_bitCount_2 := dk_seg dksJ7_bitCount_1 24 rfl rfl
theorem dJ7_bitCount_0 : decode cJ7_bitCount 0 = .ok (.iload_n 0, 1) := dk_26 (dk_at dksJ7_bitCount_0 0 rfl rfl)
theorem dJ7_bitCount_1 : decode cJ7_bitCount 1 = .ok (.iload_n 0, 1) := dk_26 (dk_at dksJ7_bitCount_0 1 rfl rfl)
theorem dJ7_bitCount_2 : decode cJ7_bitCount 2 = .ok (.iconst 1, 1) := dk_4 (dk_at dksJ7_bitCount_0 2 rfl rfl)
theorem dJ7_bitCount_3 : decode cJ7_bitCount 3 = .ok (.iushr, 1) := dk_124 (dk_at dksJ7_bitCount_0 3 rfl rfl)
theorem dJ7_bitCount_4 : decode cJ7_bitCount 4 = .ok (.ldc_w 265, 3) := dk_19 1 9 (dk_at dksJ7_bitCount_0 4 rfl rfl)
theorem dJ7_bitCount_7 : decode cJ7_bitCount 7 = .ok (.iand, 1) := dk_126 (dk_at dksJ7_bitCount_0 7 rfl rfl)
theorem dJ7_bitCount_8 : decode cJ7_bitCount 8 = .ok (.isub, 1) := dk_100 (dk_at dksJ7_bitCount_0 8 rfl rfl)
theorem dJ7_bitCount_9 : decode cJ7_bitCount 9 = .ok (.istore_n 0, 1) := dk_59 (dk_at dksJ7_bitCount_0 9 rfl rfl)
theorem dJ7_bitCount_10 : decode cJ7_bitCount 10 = .ok (.iload_n 0, 1) := dk_26 (dk_at dksJ7_bitCount_0 10 rfl rfl)
theorem dJ7_bitCount_11 : decode cJ7_bitCount 11 = .ok (.ldc_w 266, 3) := dk_19 1 10 (dk_at dksJ7_bitCount_0 11 rfl rfl)
theorem dJ7_bitCount_14 : decode cJ7_bitCount 14 = .ok (.iand, 1) := dk_126 (dk_at dksJ7_bitCount_0 14 rfl rfl)
theorem dJ7_bitCount_15 : decode cJ7_bitCount 15 = .ok (.iload_n 0, 1) := dk_26 (dk_at dksJ7_bitCount_0 15 rfl rfl)
theorem dJ7_bitCount_16 : decode cJ7_bitCount 16 = .ok (.iconst 2, 1) := dk_5 (dk_at dksJ7_bitCount_0 16 rfl rfl)
theorem dJ7_bitCount_17 : decode cJ7_bitCount 17 = .ok (.iushr, 1) := dk_124 (dk_at dksJ7_bitCount_0 17 rfl rfl)
theorem dJ7_bitCount_18 : decode cJ7_bitCount 18 = .ok (.ldc_w 266, 3) := dk_19 1 10 (dk_at dksJ7_bitCount_0 18 rfl rfl)
theorem dJ7_bitCount_21 : decode cJ7_bitCount 21 = .ok (.iand, 1) := dk_126 (dk_at dksJ7_bitCount_0 21 rfl rfl)
theorem dJ7_bitCount_22 : decode cJ7_bitCount 22 = .ok (.iadd, 1) := dk_96 (dk_at dksJ7_bitCount_0 22 rfl rfl)
theorem dJ7_bitCount_23 : decode cJ7_bitCount 23 = .ok (.istore_n 0, 1) := dk_59 (dk_at dksJ7_bitCount_0 23 rfl rfl)
theorem dJ7_bitCount_24 : decode cJ7_bitCount 24 = .ok (.iload_n 0, 1) := dk_26 (dk_at dksJ7_bitCount_1 0 rfl rfl)
theorem dJ7_bitCount_25 : decode cJ7_bitCount 25 = .ok (.iload_n 0, 1) := dk_26 (dk_at dksJ7_bitCount_1 1 rfl rfl)
theorem dJ7_bitCount_26 : decode cJ7_bitCount 26 = .ok (.iconst 4, 1) := dk_7 (dk_at dksJ7_bitCount_1 2 rfl rfl)
theorem dJ7_bitCount_27 : decode cJ7_bitCount 27 = .ok (.iushr, 1) := dk_124 (dk_at dksJ7_bitCount_1 3 rfl rfl)
theorem dJ7_bitCount_28 : decode cJ7_bitCount 28 = .ok (.iadd, 1) := dk_96 (dk_at dksJ7_bitCount_1 4 rfl rfl)
theorem dJ7_bitCount_29 : decode cJ7_bitCount 29 = .ok (.ldc_w 267, 3) := dk_19 1 11 (dk_at dksJ7_bitCount_1 5 rfl rfl)
theorem dJ7_bitCount_32 : decode cJ7_bitCount 32 = .ok (.iand, 1) := dk_126 (dk_at dksJ7_bitCount_1 8 rfl rfl)
theorem dJ7_bitCount_33 : decode cJ7_bitCount 33 = .ok (.istore_n 0, 1) := dk_59 (dk_at dksJ7_bitCount_1 9 rfl rfl)
theorem dJ7_bitCount_34 : decode cJ7_bitCount 34 = .ok (.iload_n 0, 1) := dk_26 (dk_at dksJ7_bitCount_1 10 rfl rfl)
theorem dJ7_bitCount_35 : decode cJ7_bitCount 35 = .ok (.iload_n 0, 1) := dk_26 (dk_at dksJ7_bitCount_1 11 rfl rfl)
theorem dJ7_bitCount_36 : decode cJ7_bitCount 36 = .ok (.bipush 8, 2) := dk_16 8 (dk_at dksJ7_bitCount_1 12 rfl rfl)
theorem dJ7_bitCount_38 : decode cJ7_bitCount 38 = .ok (.iushr, 1) := dk_124 (dk_at dksJ7_bitCount_1 14 rfl rfl)
theorem dJ7_bitCount_39 : decode cJ7_bitCount 39 = .ok (.iadd, 1) := dk_96 (dk_at dksJ7_bitCount_1 15 rfl rfl)
theorem dJ7_bitCount_40 : decode cJ7_bitCount 40 = .ok (.istore_n 0, 1) := dk_59 (dk_at dksJ7_bitCount_1 16 rfl rfl)
theorem dJ7_bitCount_41 : decode cJ7_bitCount 41 = .ok (.iload_n 0, 1) := dk_26 (dk_at dksJ7_bitCount_1 17 rfl rfl)
theorem dJ7_bitCount_42 : decode cJ7_bitCount 42 = .ok (.iload_n 0, 1) := dk_26 (dk_at dksJ7_bitCount_1 18 rfl rfl)
theorem dJ7_bitCount_43 : decode cJ7_bitCount 43 = .ok (.bipush 16, 2) := dk_16 16 (dk_at dksJ7_bitCount_1 19 rfl rfl)
theorem dJ7_bitCount_45 : decode cJ7_bitCount 45 = .ok (.iushr, 1) := dk_124 (dk_at dksJ7_bitCount_1 21 rfl rfl)
theorem dJ7_bitCount_46 : decode cJ7_bitCount 46 = .ok (.iadd, 1) := dk_96 (dk_at dksJ7_bitCount_1 22 rfl rfl)
theorem dJ7_bitCount_47 : decode cJ7_bitCount 47 = .ok (.istore_n 0, 1) := dk_59 (dk_at dksJ7_bitCount_1 23 rfl rfl)
theorem dJ7_bitCount_48 : decode cJ7_bitCount 48 = .ok (.iload_n 0, 1) := dk_26 (dk_at dksJ7_bitCount_2 0 rfl rfl)
theorem dJ7_bitCount_49 : decode cJ7_bitCount 49 = .ok (.bipush 63, 2) := dk_16 63 (dk_at dksJ7_bitCount_2 1 rfl rfl)
theorem dJ7_bitCount_51 : decode cJ7_bitCount 51 = .ok (.iand, 1) := dk_126 (dk_at dksJ7_bitCount_2 3 rfl rfl)
theorem dJ7_bitCount_52 : decode cJ7_bitCount 52 = .ok (.ireturn, 1) := dk_172 (dk_at dksJ7_bitCount_2 4 rfl rfl)
theorem q77 : (Jvm.Cond.initialized "java/lang/Integer") ∈ lw_all := lw_g (lw_at lw_m1 17 rfl) rfl
theorem q616 : (Jvm.Cond.static ({ cls := "java/lang/Integer", name := "bitCount", desc := "(I)I" } : Jvm.MethodName)) ∈ lw_all := lw_g (lw_at lw_m3 76 rfl) rfl
theorem q617 : (Jvm.Cond.code ({ cls := "java/lang/Integer", name := "bitCount", desc := "(I)I" } : Jvm.MethodName) prog_23_method_49_code (1 : Nat) (Option.some Jvm.ClassFile.FieldType.int)) ∈ lw_all := lw_g (lw_at lw_m3 77 rfl) rfl
theorem q618 : (Jvm.Cond.constant "java/lang/Integer" (265 : Nat) (1431655765 : Int32)) ∈ lw_all := lw_g (lw_at lw_m3 78 rfl) rfl
theorem q619 : (Jvm.Cond.constant "java/lang/Integer" (266 : Nat) (858993459 : Int32)) ∈ lw_all := lw_g (lw_at lw_m3 79 rfl) rfl
theorem q620 : (Jvm.Cond.constant "java/lang/Integer" (267 : Nat) (252645135 : Int32)) ∈ lw_all := lw_g (lw_at lw_m3 80 rfl) rfl

/-! java/lang/Object -/
set_option maxRecDepth 100000
def RJ8 : String := "java/lang/Object"
abbrev cJ8_init : ByteArray := object_method_1_code
def yJ8_init : MethodName := ⟨RJ8, "<init>", "()V"⟩
theorem dJ8_init_0 : decode cJ8_init 0 = .ok (.return_, 1) := by decide +kernel
theorem q84 : (Jvm.Cond.instanceMethod ({ cls := "java/lang/Object", name := "<init>", desc := "()V" } : Jvm.MethodName)) ∈ lw_all := lw_g (lw_at lw_m1 24 rfl) rfl
theorem q85 : (Jvm.Cond.code ({ cls := "java/lang/Object", name := "<init>", desc := "()V" } : Jvm.MethodName) object_method_1_code (1 : Nat) (Option.none : Option Jvm.ClassFile.FieldType)) ∈ lw_all := lw_g (lw_at lw_m1 25 rfl) rfl

/-! LeftBehind$Island -/
set_option maxRecDepth 100000
def RX1 : String := "LeftBehind$Island"
def TX1 : u_T := fun k => match k with
  | 0 => ("LeftBehind$Island", "ships", "[LLeftBehind$Ship;", true)
  | 1 => ("LeftBehind$Island", "fleet", "I", false)
  | 2 => ("LeftBehind$Island", "men", "[LLeftBehind$Man;", true)
  | 3 => ("LeftBehind$Island", "skills", "[I", true)
  | 4 => ("LeftBehind$Island", "many", "I", false)
  | 5 => ("LeftBehind$Island", "seen", "[I", true)
  | 6 => ("LeftBehind$Island", "sights", "I", false)
  | 7 => ("LeftBehind$Island", "notes", "[I", true)
  | 8 => ("LeftBehind$Island", "noted", "I", false)
  | 9 => ("LeftBehind$Island", "marks", "[I", true)
  | 10 => ("LeftBehind$Island", "marked", "I", false)
  | 11 => ("LeftBehind$Island", "now", "LLeftBehind$State;", true)
  | 12 => ("LeftBehind$Island", "was", "[LLeftBehind$State;", true)
  | _ => ("LeftBehind$Island", "undos", "I", false)
def tyX1 : Nat → FieldType := fun k => match k with
  | 0 => .array (.object "LeftBehind$Ship")
  | 1 => .int
  | 2 => .array (.object "LeftBehind$Man")
  | 3 => .array .int
  | 4 => .int
  | 5 => .array .int
  | 6 => .int
  | 7 => .array .int
  | 8 => .int
  | 9 => .array .int
  | 10 => .int
  | 11 => .object "LeftBehind$State"
  | 12 => .array (.object "LeftBehind$State")
  | _ => .int
abbrev wsX10 : List Cond := u_ws RX1 TX1 14
set_option maxRecDepth 100000 in
theorem nmX1 : ∀ a, a < 14 → ∀ b, b < 14 → a ≠ b → (TX1 a).2.1 ≠ (TX1 b).2.1 := by decide +kernel
set_option maxRecDepth 100000 in
theorem tyX1_ok : ∀ k, k < 14 → parseFieldDescriptor (TX1 k).2.2.1 = some (tyX1 k) := by decide +kernel
abbrev cX1_init : ByteArray := prog_11_method_1_code
def yX1_init : MethodName := ⟨RX1, "<init>", "()V"⟩
def dkwX1_init_6 : List UInt8 := [187, 0, 36, 89, 183, 0, 38, 83, 181, 0, 43, 177]
abbrev dktX1_init_6 : List UInt8 := dkwX1_init_6 ++ []
def dkwX1_init_5 : List UInt8 := [89, 8, 187, 0, 36, 89, 183, 0, 38, 83, 89, 16, 6, 187, 0, 36, 89, 183, 0, 38, 83, 89, 16, 7]
abbrev dktX1_init_5 : List UInt8 := dkwX1_init_5 ++ dktX1_init_6
def dkwX1_init_4 : List UInt8 := [183, 0, 38, 83, 89, 6, 187, 0, 36, 89, 183, 0, 38, 83, 89, 7, 187, 0, 36, 89, 183, 0, 38, 83]
abbrev dktX1_init_4 : List UInt8 := dkwX1_init_4 ++ dktX1_init_5
def dkwX1_init_3 : List UInt8 := [187, 0, 36, 89, 183, 0, 38, 83, 89, 4, 187, 0, 36, 89, 183, 0, 38, 83, 89, 5, 187, 0, 36, 89]
abbrev dktX1_init_3 : List UInt8 := dkwX1_init_3 ++ dktX1_init_4
def dkwX1_init_2 : List UInt8 := [188, 10, 181, 0, 33, 42, 187, 0, 36, 89, 183, 0, 38, 181, 0, 39, 42, 16, 8, 189, 0, 36, 89, 3]
abbrev dktX1_init_2 : List UInt8 := dkwX1_init_2 ++ dktX1_init_3
def dkwX1_init_1 : List UInt8 := [188, 10, 181, 0, 23, 42, 16, 20, 188, 10, 181, 0, 27, 42, 16, 24, 188, 10, 181, 0, 30, 42, 16, 24]
abbrev dktX1_init_1 : List UInt8 := dkwX1_init_1 ++ dktX1_init_2
def dkwX1_init_0 : List UInt8 := [42, 183, 0, 3, 42, 6, 189, 0, 9, 181, 0, 11, 42, 16, 8, 189, 0, 17, 181, 0, 19, 42, 16, 8]
abbrev dktX1_init_0 : List UInt8 := dkwX1_init_0 ++ dktX1_init_1
theorem dksX1_init_0 : cX1_init.data.toList.drop 0 = dktX1_init_0 := by decide +kernel
theorem dksX1_init_1 : cX1_init.data.toList.drop 24 = dktX1_init_1 := dk_seg dksX1_init_0 24 rfl rfl
theorem dksX1_init_2 : cX1_init.data.toList.drop 48 = dktX1_init_2 := dk_seg dksX1_init_1 24 rfl rfl
theorem dksX1_init_3 : cX1_init.data.toList.drop 72 = dktX1_init_3 := dk_seg dksX1_init_2 24 rfl rfl
theorem dksX1_init_4 : cX1_init.data.toList.drop 96 = dktX1_init_4 := dk_seg dksX1_init_3 24 rfl rfl
theorem dksX1_init_5 : cX1_init.data.toList.drop 120 = dktX1_init_5 := dk_seg dksX1_init_4 24 rfl rfl
theorem dksX1_init_6 : cX1_init.data.toList.drop 144 = dktX1_init_6 := dk_seg dksX1_init_5 24 rfl rfl
theorem dX1_init_0 : decode cX1_init 0 = .ok (.aload_n 0, 1) := dk_42 (dk_at dksX1_init_0 0 rfl rfl)
theorem dX1_init_1 : decode cX1_init 1 = .ok (.invokespecial 3, 3) := dk_183 0 3 (dk_at dksX1_init_0 1 rfl rfl)
theorem dX1_init_4 : decode cX1_init 4 = .ok (.aload_n 0, 1) := dk_42 (dk_at dksX1_init_0 4 rfl rfl)
theorem dX1_init_5 : decode cX1_init 5 = .ok (.iconst 3, 1) := dk_6 (dk_at dksX1_init_0 5 rfl rfl)
theorem dX1_init_6 : decode cX1_init 6 = .ok (.anewarray 9, 3) := dk_189 0 9 (dk_at dksX1_init_0 6 rfl rfl)
theorem dX1_init_9 : decode cX1_init 9 = .ok (.putfield 11, 3) := dk_181 0 11 (dk_at dksX1_init_0 9 rfl rfl)
theorem dX1_init_12 : decode cX1_init 12 = .ok (.aload_n 0, 1) := dk_42 (dk_at dksX1_init_0 12 rfl rfl)
theorem dX1_init_13 : decode cX1_init 13 = .ok (.bipush 8, 2) := dk_16 8 (dk_at dksX1_init_0 13 rfl rfl)
theorem dX1_init_15 : decode cX1_init 15 = .ok (.anewarray 17, 3) := dk_189 0 17 (dk_at dksX1_init_0 15 rfl rfl)
theorem dX1_init_18 : decode cX1_init 18 = .ok (.putfield 19, 3) := dk_181 0 19 (dk_at dksX1_init_0 18 rfl rfl)
theorem dX1_init_21 : decode cX1_init 21 = .ok (.aload_n 0, 1) := dk_42 (dk_at dksX1_init_0 21 rfl rfl)
theorem dX1_init_22 : decode cX1_init 22 = .ok (.bipush 8, 2) := dk_16 8 (dk_at dksX1_init_0 22 rfl rfl)
theorem dX1_init_24 : decode cX1_init 24 = .ok (.newarray .int, 2) := dk_188_10 (dk_at dksX1_init_1 0 rfl rfl)
theorem dX1_init_26 : decode cX1_init 26 = .ok (.putfield 23, 3) := dk_181 0 23 (dk_at dksX1_init_1 2 rfl rfl)
theorem dX1_init_29 : decode cX1_init 29 = .ok (.aload_n 0, 1) := dk_42 (dk_at dksX1_init_1 5 rfl rfl)
theorem dX1_init_30 : decode cX1_init 30 = .ok (.bipush 20, 2) := dk_16 20 (dk_at dksX1_init_1 6 rfl rfl)
theorem dX1_init_32 : decode cX1_init 32 = .ok (.newarray .int, 2) := dk_188_10 (dk_at dksX1_init_1 8 rfl rfl)
theorem dX1_init_34 : decode cX1_init 34 = .ok (.putfield 27, 3) := dk_181 0 27 (dk_at dksX1_init_1 10 rfl rfl)
theorem dX1_init_37 : decode cX1_init 37 = .ok (.aload_n 0, 1) := dk_42 (dk_at dksX1_init_1 13 rfl rfl)
theorem dX1_init_38 : decode cX1_init 38 = .ok (.bipush 24, 2) := dk_16 24 (dk_at dksX1_init_1 14 rfl rfl)
theorem dX1_init_40 : decode cX1_init 40 = .ok (.newarray .int, 2) := dk_188_10 (dk_at dksX1_init_1 16 rfl rfl)
theorem dX1_init_42 : decode cX1_init 42 = .ok (.putfield 30, 3) := dk_181 0 30 (dk_at dksX1_init_1 18 rfl rfl)
theorem dX1_init_45 : decode cX1_init 45 = .ok (.aload_n 0, 1) := dk_42 (dk_at dksX1_init_1 21 rfl rfl)
theorem dX1_init_46 : decode cX1_init 46 = .ok (.bipush 24, 2) := dk_16 24 (dk_at dksX1_init_1 22 rfl rfl)
theorem dX1_init_48 : decode cX1_init 48 = .ok (.newarray .int, 2) := dk_188_10 (dk_at dksX1_init_2 0 rfl rfl)
theorem dX1_init_50 : decode cX1_init 50 = .ok (.putfield 33, 3) := dk_181 0 33 (dk_at dksX1_init_2 2 rfl rfl)
theorem dX1_init_53 : decode cX1_init 53 = .ok (.aload_n 0, 1) := dk_42 (dk_at dksX1_init_2 5 rfl rfl)
theorem dX1_init_54 : decode cX1_init 54 = .ok (.new 36, 3) := dk_187 0 36 (dk_at dksX1_init_2 6 rfl rfl)
theorem dX1_init_57 : decode cX1_init 57 = .ok (.dup, 1) := dk_89 (dk_at dksX1_init_2 9 rfl rfl)
theorem dX1_init_58 : decode cX1_init 58 = .ok (.invokespecial 38, 3) := dk_183 0 38 (dk_at dksX1_init_2 10 rfl rfl)
theorem dX1_init_61 : decode cX1_init 61 = .ok (.putfield 39, 3) := dk_181 0 39 (dk_at dksX1_init_2 13 rfl rfl)
theorem dX1_init_64 : decode cX1_init 64 = .ok (.aload_n 0, 1) := dk_42 (dk_at dksX1_init_2 16 rfl rfl)
theorem dX1_init_65 : decode cX1_init 65 = .ok (.bipush 8, 2) := dk_16 8 (dk_at dksX1_init_2 17 rfl rfl)
theorem dX1_init_67 : decode cX1_init 67 = .ok (.anewarray 36, 3) := dk_189 0 36 (dk_at dksX1_init_2 19 rfl rfl)
theorem dX1_init_70 : decode cX1_init 70 = .ok (.dup, 1) := dk_89 (dk_at dksX1_init_2 22 rfl rfl)
theorem dX1_init_71 : decode cX1_init 71 = .ok (.iconst 0, 1) := dk_3 (dk_at dksX1_init_2 23 rfl rfl)
theorem dX1_init_72 : decode cX1_init 72 = .ok (.new 36, 3) := dk_187 0 36 (dk_at dksX1_init_3 0 rfl rfl)
theorem dX1_init_75 : decode cX1_init 75 = .ok (.dup, 1) := dk_89 (dk_at dksX1_init_3 3 rfl rfl)
theorem dX1_init_76 : decode cX1_init 76 = .ok (.invokespecial 38, 3) := dk_183 0 38 (dk_at dksX1_init_3 4 rfl rfl)
theorem dX1_init_79 : decode cX1_init 79 = .ok (.aastore, 1) := dk_83 (dk_at dksX1_init_3 7 rfl rfl)
theorem dX1_init_80 : decode cX1_init 80 = .ok (.dup, 1) := dk_89 (dk_at dksX1_init_3 8 rfl rfl)
theorem dX1_init_81 : decode cX1_init 81 = .ok (.iconst 1, 1) := dk_4 (dk_at dksX1_init_3 9 rfl rfl)
theorem dX1_init_82 : decode cX1_init 82 = .ok (.new 36, 3) := dk_187 0 36 (dk_at dksX1_init_3 10 rfl rfl)
theorem dX1_init_85 : decode cX1_init 85 = .ok (.dup, 1) := dk_89 (dk_at dksX1_init_3 13 rfl rfl)
theorem dX1_init_86 : decode cX1_init 86 = .ok (.invokespecial 38, 3) := dk_183 0 38 (dk_at dksX1_init_3 14 rfl rfl)
theorem dX1_init_89 : decode cX1_init 89 = .ok (.aastore, 1) := dk_83 (dk_at dksX1_init_3 17 rfl rfl)
theorem dX1_init_90 : decode cX1_init 90 = .ok (.dup, 1) := dk_89 (dk_at dksX1_init_3 18 rfl rfl)
theorem dX1_init_91 : decode cX1_init 91 = .ok (.iconst 2, 1) := dk_5 (dk_at dksX1_init_3 19 rfl rfl)
theorem dX1_init_92 : decode cX1_init 92 = .ok (.new 36, 3) := dk_187 0 36 (dk_at dksX1_init_3 20 rfl rfl)
theorem dX1_init_95 : decode cX1_init 95 = .ok (.dup, 1) := dk_89 (dk_at dksX1_init_3 23 rfl rfl)
theorem dX1_init_96 : decode cX1_init 96 = .ok (.invokespecial 38, 3) := dk_183 0 38 (dk_at dksX1_init_4 0 rfl rfl)
theorem dX1_init_99 : decode cX1_init 99 = .ok (.aastore, 1) := dk_83 (dk_at dksX1_init_4 3 rfl rfl)
theorem dX1_init_100 : decode cX1_init 100 = .ok (.dup, 1) := dk_89 (dk_at dksX1_init_4 4 rfl rfl)
theorem dX1_init_101 : decode cX1_init 101 = .ok (.iconst 3, 1) := dk_6 (dk_at dksX1_init_4 5 rfl rfl)
theorem dX1_init_102 : decode cX1_init 102 = .ok (.new 36, 3) := dk_187 0 36 (dk_at dksX1_init_4 6 rfl rfl)
theorem dX1_init_105 : decode cX1_init 105 = .ok (.dup, 1) := dk_89 (dk_at dksX1_init_4 9 rfl rfl)
theorem dX1_init_106 : decode cX1_init 106 = .ok (.invokespecial 38, 3) := dk_183 0 38 (dk_at dksX1_init_4 10 rfl rfl)
theorem dX1_init_109 : decode cX1_init 109 = .ok (.aastore, 1) := dk_83 (dk_at dksX1_init_4 13 rfl rfl)
theorem dX1_init_110 : decode cX1_init 110 = .ok (.dup, 1) := dk_89 (dk_at dksX1_init_4 14 rfl rfl)
theorem dX1_init_111 : decode cX1_init 111 = .ok (.iconst 4, 1) := dk_7 (dk_at dksX1_init_4 15 rfl rfl)
theorem dX1_init_112 : decode cX1_init 112 = .ok (.new 36, 3) := dk_187 0 36 (dk_at dksX1_init_4 16 rfl rfl)
theorem dX1_init_115 : decode cX1_init 115 = .ok (.dup, 1) := dk_89 (dk_at dksX1_init_4 19 rfl rfl)
theorem dX1_init_116 : decode cX1_init 116 = .ok (.invokespecial 38, 3) := dk_183 0 38 (dk_at dksX1_init_4 20 rfl rfl)
theorem dX1_init_119 : decode cX1_init 119 = .ok (.aastore, 1) := dk_83 (dk_at dksX1_init_4 23 rfl rfl)
theorem dX1_init_120 : decode cX1_init 120 = .ok (.dup, 1) := dk_89 (dk_at dksX1_init_5 0 rfl rfl)
theorem dX1_init_121 : decode cX1_init 121 = .ok (.iconst 5, 1) := dk_8 (dk_at dksX1_init_5 1 rfl rfl)
theorem dX1_init_122 : decode cX1_init 122 = .ok (.new 36, 3) := dk_187 0 36 (dk_at dksX1_init_5 2 rfl rfl)
theorem dX1_init_125 : decode cX1_init 125 = .ok (.dup, 1) := dk_89 (dk_at dksX1_init_5 5 rfl rfl)
theorem dX1_init_126 : decode cX1_init 126 = .ok (.invokespecial 38, 3) := dk_183 0 38 (dk_at dksX1_init_5 6 rfl rfl)
theorem dX1_init_129 : decode cX1_init 129 = .ok (.aastore, 1) := dk_83 (dk_at dksX1_init_5 9 rfl rfl)
theorem dX1_init_130 : decode cX1_init 130 = .ok (.dup, 1) := dk_89 (dk_at dksX1_init_5 10 rfl rfl)
theorem dX1_init_131 : decode cX1_init 131 = .ok (.bipush 6, 2) := dk_16 6 (dk_at dksX1_init_5 11 rfl rfl)
theorem dX1_init_133 : decode cX1_init 133 = .ok (.new 36, 3) := dk_187 0 36 (dk_at dksX1_init_5 13 rfl rfl)
theorem dX1_init_136 : decode cX1_init 136 = .ok (.dup, 1) := dk_89 (dk_at dksX1_init_5 16 rfl rfl)
theorem dX1_init_137 : decode cX1_init 137 = .ok (.invokespecial 38, 3) := dk_183 0 38 (dk_at dksX1_init_5 17 rfl rfl)
theorem dX1_init_140 : decode cX1_init 140 = .ok (.aastore, 1) := dk_83 (dk_at dksX1_init_5 20 rfl rfl)
theorem dX1_init_141 : decode cX1_init 141 = .ok (.dup, 1) := dk_89 (dk_at dksX1_init_5 21 rfl rfl)
theorem dX1_init_142 : decode cX1_init 142 = .ok (.bipush 7, 2) := dk_16 7 (dk_at dksX1_init_5 22 rfl rfl)
theorem dX1_init_144 : decode cX1_init 144 = .ok (.new 36, 3) := dk_187 0 36 (dk_at dksX1_init_6 0 rfl rfl)
theorem dX1_init_147 : decode cX1_init 147 = .ok (.dup, 1) := dk_89 (dk_at dksX1_init_6 3 rfl rfl)
theorem dX1_init_148 : decode cX1_init 148 = .ok (.invokespecial 38, 3) := dk_183 0 38 (dk_at dksX1_init_6 4 rfl rfl)
theorem dX1_init_151 : decode cX1_init 151 = .ok (.aastore, 1) := dk_83 (dk_at dksX1_init_6 7 rfl rfl)
theorem dX1_init_152 : decode cX1_init 152 = .ok (.putfield 43, 3) := dk_181 0 43 (dk_at dksX1_init_6 8 rfl rfl)
theorem dX1_init_155 : decode cX1_init 155 = .ok (.return_, 1) := dk_177 (dk_at dksX1_init_6 11 rfl rfl)
abbrev cX1_begins : ByteArray := prog_11_method_2_code
def yX1_begins : MethodName := ⟨RX1, "begins", "()V"⟩
def dkwX1_begins_1 : List UInt8 := [181, 0, 60, 42, 3, 181, 0, 63, 177]
abbrev dktX1_begins_1 : List UInt8 := dkwX1_begins_1 ++ []
def dkwX1_begins_0 : List UInt8 := [42, 3, 181, 0, 47, 42, 3, 181, 0, 51, 42, 3, 181, 0, 54, 42, 3, 181, 0, 57, 42, 3]
abbrev dktX1_begins_0 : List UInt8 := dkwX1_begins_0 ++ dktX1_begins_1
theorem dksX1_begins_0 : cX1_begins.data.toList.drop 0 = dktX1_begins_0 := by decide +kernel
theorem dksX1_begins_1 : cX1_begins.data.toList.drop 22 = dktX1_begins_1 := dk_seg dksX1_begins_0 22 rfl rfl
theorem dX1_begins_0 : decode cX1_begins 0 = .ok (.aload_n 0, 1) := dk_42 (dk_at dksX1_begins_0 0 rfl rfl)
theorem dX1_begins_1 : decode cX1_begins 1 = .ok (.iconst 0, 1) := dk_3 (dk_at dksX1_begins_0 1 rfl rfl)
theorem dX1_begins_2 : decode cX1_begins 2 = .ok (.putfield 47, 3) := dk_181 0 47 (dk_at dksX1_begins_0 2 rfl rfl)
theorem dX1_begins_5 : decode cX1_begins 5 = .ok (.aload_n 0, 1) := dk_42 (dk_at dksX1_begins_0 5 rfl rfl)
theorem dX1_begins_6 : decode cX1_begins 6 = .ok (.iconst 0, 1) := dk_3 (dk_at dksX1_begins_0 6 rfl rfl)
theorem dX1_begins_7 : decode cX1_begins 7 = .ok (.putfield 51, 3) := dk_181 0 51 (dk_at dksX1_begins_0 7 rfl rfl)
theorem dX1_begins_10 : decode cX1_begins 10 = .ok (.aload_n 0, 1) := dk_42 (dk_at dksX1_begins_0 10 rfl rfl)
theorem dX1_begins_11 : decode cX1_begins 11 = .ok (.iconst 0, 1) := dk_3 (dk_at dksX1_begins_0 11 rfl rfl)
theorem dX1_begins_12 : decode cX1_begins 12 = .ok (.putfield 54, 3) := dk_181 0 54 (dk_at dksX1_begins_0 12 rfl rfl)
theorem dX1_begins_15 : decode cX1_begins 15 = .ok (.aload_n 0, 1) := dk_42 (dk_at dksX1_begins_0 15 rfl rfl)
theorem dX1_begins_16 : decode cX1_begins 16 = .ok (.iconst 0, 1) := dk_3 (dk_at dksX1_begins_0 16 rfl rfl)
theorem dX1_begins_17 : decode cX1_begins 17 = .ok (.putfield 57, 3) := dk_181 0 57 (dk_at dksX1_begins_0 17 rfl rfl)
theorem dX1_begins_20 : decode cX1_begins 20 = .ok (.aload_n 0, 1) := dk_42 (dk_at dksX1_begins_0 20 rfl rfl)
theorem dX1_begins_21 : decode cX1_begins 21 = .ok (.iconst 0, 1) := dk_3 (dk_at dksX1_begins_0 21 rfl rfl)
theorem dX1_begins_22 : decode cX1_begins 22 = .ok (.putfield 60, 3) := dk_181 0 60 (dk_at dksX1_begins_1 0 rfl rfl)
theorem dX1_begins_25 : decode cX1_begins 25 = .ok (.aload_n 0, 1) := dk_42 (dk_at dksX1_begins_1 3 rfl rfl)
theorem dX1_begins_26 : decode cX1_begins 26 = .ok (.iconst 0, 1) := dk_3 (dk_at dksX1_begins_1 4 rfl rfl)
theorem dX1_begins_27 : decode cX1_begins 27 = .ok (.putfield 63, 3) := dk_181 0 63 (dk_at dksX1_begins_1 5 rfl rfl)
theorem dX1_begins_30 : decode cX1_begins 30 = .ok (.return_, 1) := dk_177 (dk_at dksX1_begins_1 8 rfl rfl)
abbrev cX1_launches : ByteArray := prog_11_method_3_code
def yX1_launches : MethodName := ⟨RX1, "launches", "(I)V"⟩
def dkwX1_launches_1 : List UInt8 := [180, 0, 47, 3, 79, 42, 89, 180, 0, 47, 4, 96, 181, 0, 47, 42, 3, 181, 0, 63, 177]
abbrev dktX1_launches_1 : List UInt8 := dkwX1_launches_1 ++ []
def dkwX1_launches_0 : List UInt8 := [42, 180, 0, 11, 42, 180, 0, 47, 178, 0, 66, 27, 50, 83, 42, 180, 0, 39, 180, 0, 69, 42]
abbrev dktX1_launches_0 : List UInt8 := dkwX1_launches_0 ++ dktX1_launches_1
theorem dksX1_launches_0 : cX1_launches.data.toList.drop 0 = dktX1_launches_0 := by decide +kernel
theorem dksX1_launches_1 : cX1_launches.data.toList.drop 22 = dktX1_launches_1 := dk_seg dksX1_launches_0 22 rfl rfl
theorem dX1_launches_0 : decode cX1_launches 0 = .ok (.aload_n 0, 1) := dk_42 (dk_at dksX1_launches_0 0 rfl rfl)
theorem dX1_launches_1 : decode cX1_launches 1 = .ok (.getfield 11, 3) := dk_180 0 11 (dk_at dksX1_launches_0 1 rfl rfl)
theorem dX1_launches_4 : decode cX1_launches 4 = .ok (.aload_n 0, 1) := dk_42 (dk_at dksX1_launches_0 4 rfl rfl)
theorem dX1_launches_5 : decode cX1_launches 5 = .ok (.getfield 47, 3) := dk_180 0 47 (dk_at dksX1_launches_0 5 rfl rfl)
theorem dX1_launches_8 : decode cX1_launches 8 = .ok (.getstatic 66, 3) := dk_178 0 66 (dk_at dksX1_launches_0 8 rfl rfl)
theorem dX1_launches_11 : decode cX1_launches 11 = .ok (.iload_n 1, 1) := dk_27 (dk_at dksX1_launches_0 11 rfl rfl)
theorem dX1_launches_12 : decode cX1_launches 12 = .ok (.aaload, 1) := dk_50 (dk_at dksX1_launches_0 12 rfl rfl)
theorem dX1_launches_13 : decode cX1_launches 13 = .ok (.aastore, 1) := dk_83 (dk_at dksX1_launches_0 13 rfl rfl)
theorem dX1_launches_14 : decode cX1_launches 14 = .ok (.aload_n 0, 1) := dk_42 (dk_at dksX1_launches_0 14 rfl rfl)
theorem dX1_launches_15 : decode cX1_launches 15 = .ok (.getfield 39, 3) := dk_180 0 39 (dk_at dksX1_launches_0 15 rfl rfl)
theorem dX1_launches_18 : decode cX1_launches 18 = .ok (.getfield 69, 3) := dk_180 0 69 (dk_at dksX1_launches_0 18 rfl rfl)
theorem dX1_launches_21 : decode cX1_launches 21 = .ok (.aload_n 0, 1) := dk_42 (dk_at dksX1_launches_0 21 rfl rfl)
theorem dX1_launches_22 : decode cX1_launches 22 = .ok (.getfield 47, 3) := dk_180 0 47 (dk_at dksX1_launches_1 0 rfl rfl)
theorem dX1_launches_25 : decode cX1_launches 25 = .ok (.iconst 0, 1) := dk_3 (dk_at dksX1_launches_1 3 rfl rfl)
theorem dX1_launches_26 : decode cX1_launches 26 = .ok (.iastore, 1) := dk_79 (dk_at dksX1_launches_1 4 rfl rfl)
theorem dX1_launches_27 : decode cX1_launches 27 = .ok (.aload_n 0, 1) := dk_42 (dk_at dksX1_launches_1 5 rfl rfl)
theorem dX1_launches_28 : decode cX1_launches 28 = .ok (.dup, 1) := dk_89 (dk_at dksX1_launches_1 6 rfl rfl)
theorem dX1_launches_29 : decode cX1_launches 29 = .ok (.getfield 47, 3) := dk_180 0 47 (dk_at dksX1_launches_1 7 rfl rfl)
theorem dX1_launches_32 : decode cX1_launches 32 = .ok (.iconst 1, 1) := dk_4 (dk_at dksX1_launches_1 10 rfl rfl)
theorem dX1_launches_33 : decode cX1_launches 33 = .ok (.iadd, 1) := dk_96 (dk_at dksX1_launches_1 11 rfl rfl)
theorem dX1_launches_34 : decode cX1_launches 34 = .ok (.putfield 47, 3) := dk_181 0 47 (dk_at dksX1_launches_1 12 rfl rfl)
theorem dX1_launches_37 : decode cX1_launches 37 = .ok (.aload_n 0, 1) := dk_42 (dk_at dksX1_launches_1 15 rfl rfl)
theorem dX1_launches_38 : decode cX1_launches 38 = .ok (.iconst 0, 1) := dk_3 (dk_at dksX1_launches_1 16 rfl rfl)
theorem dX1_launches_39 : decode cX1_launches 39 = .ok (.putfield 63, 3) := dk_181 0 63 (dk_at dksX1_launches_1 17 rfl rfl)
theorem dX1_launches_42 : decode cX1_launches 42 = .ok (.return_, 1) := dk_177 (dk_at dksX1_launches_1 20 rfl rfl)
abbrev cX1_adds : ByteArray := prog_11_method_4_code
def yX1_adds : MethodName := ⟨RX1, "adds", "(III)V"⟩
def dkwX1_adds_2 : List UInt8 := [3, 181, 0, 63, 177]
abbrev dktX1_adds_2 : List UInt8 := dkwX1_adds_2 ++ []
def dkwX1_adds_1 : List UInt8 := [42, 180, 0, 39, 180, 0, 75, 42, 180, 0, 51, 29, 79, 42, 89, 180, 0, 51, 4, 96, 181, 0, 51, 42]
abbrev dktX1_adds_1 : List UInt8 := dkwX1_adds_1 ++ dktX1_adds_2
def dkwX1_adds_0 : List UInt8 := [42, 180, 0, 19, 42, 180, 0, 51, 178, 0, 72, 27, 50, 83, 42, 180, 0, 23, 42, 180, 0, 51, 28, 79]
abbrev dktX1_adds_0 : List UInt8 := dkwX1_adds_0 ++ dktX1_adds_1
theorem dksX1_adds_0 : cX1_adds.data.toList.drop 0 = dktX1_adds_0 := by decide +kernel
theorem dksX1_adds_1 : cX1_adds.data.toList.drop 24 = dktX1_adds_1 := dk_seg dksX1_adds_0 24 rfl rfl
theorem dksX1_adds_2 : cX1_adds.data.toList.drop 48 = dktX1_adds_2 := dk_seg dksX1_adds_1 24 rfl rfl
theorem dX1_adds_0 : decode cX1_adds 0 = .ok (.aload_n 0, 1) := dk_42 (dk_at dksX1_adds_0 0 rfl rfl)
theorem dX1_adds_1 : decode cX1_adds 1 = .ok (.getfield 19, 3) := dk_180 0 19 (dk_at dksX1_adds_0 1 rfl rfl)
theorem dX1_adds_4 : decode cX1_adds 4 = .ok (.aload_n 0, 1) := dk_42 (dk_at dksX1_adds_0 4 rfl rfl)
theorem dX1_adds_5 : decode cX1_adds 5 = .ok (.getfield 51, 3) := dk_180 0 51 (dk_at dksX1_adds_0 5 rfl rfl)
theorem dX1_adds_8 : decode cX1_adds 8 = .ok (.getstatic 72, 3) := dk_178 0 72 (dk_at dksX1_adds_0 8 rfl rfl)
theorem dX1_adds_11 : decode cX1_adds 11 = .ok (.iload_n 1, 1) := dk_27 (dk_at dksX1_adds_0 11 rfl rfl)
theorem dX1_adds_12 : decode cX1_adds 12 = .ok (.aaload, 1) := dk_50 (dk_at dksX1_adds_0 12 rfl rfl)
theorem dX1_adds_13 : decode cX1_adds 13 = .ok (.aastore, 1) := dk_83 (dk_at dksX1_adds_0 13 rfl rfl)
theorem dX1_adds_14 : decode cX1_adds 14 = .ok (.aload_n 0, 1) := dk_42 (dk_at dksX1_adds_0 14 rfl rfl)
theorem dX1_adds_15 : decode cX1_adds 15 = .ok (.getfield 23, 3) := dk_180 0 23 (dk_at dksX1_adds_0 15 rfl rfl)
theorem dX1_adds_18 : decode cX1_adds 18 = .ok (.aload_n 0, 1) := dk_42 (dk_at dksX1_adds_0 18 rfl rfl)
theorem dX1_adds_19 : decode cX1_adds 19 = .ok (.getfield 51, 3) := dk_180 0 51 (dk_at dksX1_adds_0 19 rfl rfl)
theorem dX1_adds_22 : decode cX1_adds 22 = .ok (.iload_n 2, 1) := dk_28 (dk_at dksX1_adds_0 22 rfl rfl)
theorem dX1_adds_23 : decode cX1_adds 23 = .ok (.iastore, 1) := dk_79 (dk_at dksX1_adds_0 23 rfl rfl)
theorem dX1_adds_24 : decode cX1_adds 24 = .ok (.aload_n 0, 1) := dk_42 (dk_at dksX1_adds_1 0 rfl rfl)
theorem dX1_adds_25 : decode cX1_adds 25 = .ok (.getfield 39, 3) := dk_180 0 39 (dk_at dksX1_adds_1 1 rfl rfl)
theorem dX1_adds_28 : decode cX1_adds 28 = .ok (.getfield 75, 3) := dk_180 0 75 (dk_at dksX1_adds_1 4 rfl rfl)
theorem dX1_adds_31 : decode cX1_adds 31 = .ok (.aload_n 0, 1) := dk_42 (dk_at dksX1_adds_1 7 rfl rfl)
theorem dX1_adds_32 : decode cX1_adds 32 = .ok (.getfield 51, 3) := dk_180 0 51 (dk_at dksX1_adds_1 8 rfl rfl)
theorem dX1_adds_35 : decode cX1_adds 35 = .ok (.iload_n 3, 1) := dk_29 (dk_at dksX1_adds_1 11 rfl rfl)
theorem dX1_adds_36 : decode cX1_adds 36 = .ok (.iastore, 1) := dk_79 (dk_at dksX1_adds_1 12 rfl rfl)
theorem dX1_adds_37 : decode cX1_adds 37 = .ok (.aload_n 0, 1) := dk_42 (dk_at dksX1_adds_1 13 rfl rfl)
theorem dX1_adds_38 : decode cX1_adds 38 = .ok (.dup, 1) := dk_89 (dk_at dksX1_adds_1 14 rfl rfl)
theorem dX1_adds_39 : decode cX1_adds 39 = .ok (.getfield 51, 3) := dk_180 0 51 (dk_at dksX1_adds_1 15 rfl rfl)
theorem dX1_adds_42 : decode cX1_adds 42 = .ok (.iconst 1, 1) := dk_4 (dk_at dksX1_adds_1 18 rfl rfl)
theorem dX1_adds_43 : decode cX1_adds 43 = .ok (.iadd, 1) := dk_96 (dk_at dksX1_adds_1 19 rfl rfl)
theorem dX1_adds_44 : decode cX1_adds 44 = .ok (.putfield 51, 3) := dk_181 0 51 (dk_at dksX1_adds_1 20 rfl rfl)
theorem dX1_adds_47 : decode cX1_adds 47 = .ok (.aload_n 0, 1) := dk_42 (dk_at dksX1_adds_1 23 rfl rfl)
theorem dX1_adds_48 : decode cX1_adds 48 = .ok (.iconst 0, 1) := dk_3 (dk_at dksX1_adds_2 0 rfl rfl)
theorem dX1_adds_49 : decode cX1_adds 49 = .ok (.putfield 63, 3) := dk_181 0 63 (dk_at dksX1_adds_2 1 rfl rfl)
theorem dX1_adds_52 : decode cX1_adds 52 = .ok (.return_, 1) := dk_177 (dk_at dksX1_adds_2 4 rfl rfl)
abbrev cX1_at : ByteArray := prog_11_method_7_code
def yX1_at : MethodName := ⟨RX1, "at", "(LLeftBehind$State;I)I"⟩
def dkwX1_at_1 : List UInt8 := [160, 0, 10, 4, 21, 4, 120, 167, 0, 4, 3, 128, 62, 132, 4, 1, 167, 255, 222, 29, 172]
abbrev dktX1_at_1 : List UInt8 := dkwX1_at_1 ++ []
def dkwX1_at_0 : List UInt8 := [3, 62, 3, 54, 4, 21, 4, 42, 180, 0, 51, 162, 0, 31, 29, 43, 180, 0, 75, 21, 4, 46, 28]
abbrev dktX1_at_0 : List UInt8 := dkwX1_at_0 ++ dktX1_at_1
theorem dksX1_at_0 : cX1_at.data.toList.drop 0 = dktX1_at_0 := by decide +kernel
theorem dksX1_at_1 : cX1_at.data.toList.drop 23 = dktX1_at_1 := dk_seg dksX1_at_0 23 rfl rfl
theorem dX1_at_0 : decode cX1_at 0 = .ok (.iconst 0, 1) := dk_3 (dk_at dksX1_at_0 0 rfl rfl)
theorem dX1_at_1 : decode cX1_at 1 = .ok (.istore_n 3, 1) := dk_62 (dk_at dksX1_at_0 1 rfl rfl)
theorem dX1_at_2 : decode cX1_at 2 = .ok (.iconst 0, 1) := dk_3 (dk_at dksX1_at_0 2 rfl rfl)
theorem dX1_at_3 : decode cX1_at 3 = .ok (.istore 4, 2) := dk_54 4 (dk_at dksX1_at_0 3 rfl rfl)
theorem dX1_at_5 : decode cX1_at 5 = .ok (.iload 4, 2) := dk_21 4 (dk_at dksX1_at_0 5 rfl rfl)
theorem dX1_at_7 : decode cX1_at 7 = .ok (.aload_n 0, 1) := dk_42 (dk_at dksX1_at_0 7 rfl rfl)
theorem dX1_at_8 : decode cX1_at 8 = .ok (.getfield 51, 3) := dk_180 0 51 (dk_at dksX1_at_0 8 rfl rfl)
theorem dX1_at_11 : decode cX1_at 11 = .ok (.if_icmp .ge 31, 3) := dk_162 0 31 (dk_at dksX1_at_0 11 rfl rfl)
theorem dX1_at_14 : decode cX1_at 14 = .ok (.iload_n 3, 1) := dk_29 (dk_at dksX1_at_0 14 rfl rfl)
theorem dX1_at_15 : decode cX1_at 15 = .ok (.aload_n 1, 1) := dk_43 (dk_at dksX1_at_0 15 rfl rfl)
theorem dX1_at_16 : decode cX1_at 16 = .ok (.getfield 75, 3) := dk_180 0 75 (dk_at dksX1_at_0 16 rfl rfl)
theorem dX1_at_19 : decode cX1_at 19 = .ok (.iload 4, 2) := dk_21 4 (dk_at dksX1_at_0 19 rfl rfl)
theorem dX1_at_21 : decode cX1_at 21 = .ok (.iaload, 1) := dk_46 (dk_at dksX1_at_0 21 rfl rfl)
theorem dX1_at_22 : decode cX1_at 22 = .ok (.iload_n 2, 1) := dk_28 (dk_at dksX1_at_0 22 rfl rfl)
theorem dX1_at_23 : decode cX1_at 23 = .ok (.if_icmp .ne 10, 3) := dk_160 0 10 (dk_at dksX1_at_1 0 rfl rfl)
theorem dX1_at_26 : decode cX1_at 26 = .ok (.iconst 1, 1) := dk_4 (dk_at dksX1_at_1 3 rfl rfl)
theorem dX1_at_27 : decode cX1_at 27 = .ok (.iload 4, 2) := dk_21 4 (dk_at dksX1_at_1 4 rfl rfl)
theorem dX1_at_29 : decode cX1_at 29 = .ok (.ishl, 1) := dk_120 (dk_at dksX1_at_1 6 rfl rfl)
theorem dX1_at_30 : decode cX1_at 30 = .ok (.goto 4, 3) := dk_167 0 4 (dk_at dksX1_at_1 7 rfl rfl)
theorem dX1_at_33 : decode cX1_at 33 = .ok (.iconst 0, 1) := dk_3 (dk_at dksX1_at_1 10 rfl rfl)
theorem dX1_at_34 : decode cX1_at 34 = .ok (.ior, 1) := dk_128 (dk_at dksX1_at_1 11 rfl rfl)
theorem dX1_at_35 : decode cX1_at 35 = .ok (.istore_n 3, 1) := dk_62 (dk_at dksX1_at_1 12 rfl rfl)
theorem dX1_at_36 : decode cX1_at 36 = .ok (.iinc 4 1, 3) := dk_132 4 1 (dk_at dksX1_at_1 13 rfl rfl)
theorem dX1_at_39 : decode cX1_at 39 = .ok (.goto (-34), 3) := dk_167 255 222 (dk_at dksX1_at_1 16 rfl rfl)
theorem dX1_at_42 : decode cX1_at 42 = .ok (.iload_n 3, 1) := dk_29 (dk_at dksX1_at_1 19 rfl rfl)
theorem dX1_at_43 : decode cX1_at 43 = .ok (.ireturn, 1) := dk_172 (dk_at dksX1_at_1 20 rfl rfl)
abbrev cX1_calls : ByteArray := prog_11_method_10_code
def yX1_calls : MethodName := ⟨RX1, "calls", "(LLeftBehind$State;I)I"⟩
def dkwX1_calls_1 : List UInt8 := [180, 0, 69, 28, 46, 4, 96, 184, 0, 93, 79, 29, 172]
abbrev dktX1_calls_1 : List UInt8 := dkwX1_calls_1 ++ []
def dkwX1_calls_0 : List UInt8 := [42, 43, 28, 182, 0, 98, 62, 43, 180, 0, 75, 29, 2, 79, 43, 180, 0, 69, 28, 16, 99, 43]
abbrev dktX1_calls_0 : List UInt8 := dkwX1_calls_0 ++ dktX1_calls_1
theorem dksX1_calls_0 : cX1_calls.data.toList.drop 0 = dktX1_calls_0 := by decide +kernel
theorem dksX1_calls_1 : cX1_calls.data.toList.drop 22 = dktX1_calls_1 := dk_seg dksX1_calls_0 22 rfl rfl
theorem dX1_calls_0 : decode cX1_calls 0 = .ok (.aload_n 0, 1) := dk_42 (dk_at dksX1_calls_0 0 rfl rfl)
theorem dX1_calls_1 : decode cX1_calls 1 = .ok (.aload_n 1, 1) := dk_43 (dk_at dksX1_calls_0 1 rfl rfl)
theorem dX1_calls_2 : decode cX1_calls 2 = .ok (.iload_n 2, 1) := dk_28 (dk_at dksX1_calls_0 2 rfl rfl)
theorem dX1_calls_3 : decode cX1_calls 3 = .ok (.invokevirtual 98, 3) := dk_182 0 98 (dk_at dksX1_calls_0 3 rfl rfl)
theorem dX1_calls_6 : decode cX1_calls 6 = .ok (.istore_n 3, 1) := dk_62 (dk_at dksX1_calls_0 6 rfl rfl)
theorem dX1_calls_7 : decode cX1_calls 7 = .ok (.aload_n 1, 1) := dk_43 (dk_at dksX1_calls_0 7 rfl rfl)
theorem dX1_calls_8 : decode cX1_calls 8 = .ok (.getfield 75, 3) := dk_180 0 75 (dk_at dksX1_calls_0 8 rfl rfl)
theorem dX1_calls_11 : decode cX1_calls 11 = .ok (.iload_n 3, 1) := dk_29 (dk_at dksX1_calls_0 11 rfl rfl)
theorem dX1_calls_12 : decode cX1_calls 12 = .ok (.iconst (-1), 1) := dk_2 (dk_at dksX1_calls_0 12 rfl rfl)
theorem dX1_calls_13 : decode cX1_calls 13 = .ok (.iastore, 1) := dk_79 (dk_at dksX1_calls_0 13 rfl rfl)
theorem dX1_calls_14 : decode cX1_calls 14 = .ok (.aload_n 1, 1) := dk_43 (dk_at dksX1_calls_0 14 rfl rfl)
theorem dX1_calls_15 : decode cX1_calls 15 = .ok (.getfield 69, 3) := dk_180 0 69 (dk_at dksX1_calls_0 15 rfl rfl)
theorem dX1_calls_18 : decode cX1_calls 18 = .ok (.iload_n 2, 1) := dk_28 (dk_at dksX1_calls_0 18 rfl rfl)
theorem dX1_calls_19 : decode cX1_calls 19 = .ok (.bipush 99, 2) := dk_16 99 (dk_at dksX1_calls_0 19 rfl rfl)
theorem dX1_calls_21 : decode cX1_calls 21 = .ok (.aload_n 1, 1) := dk_43 (dk_at dksX1_calls_0 21 rfl rfl)
theorem dX1_calls_22 : decode cX1_calls 22 = .ok (.getfield 69, 3) := dk_180 0 69 (dk_at dksX1_calls_1 0 rfl rfl)
theorem dX1_calls_25 : decode cX1_calls 25 = .ok (.iload_n 2, 1) := dk_28 (dk_at dksX1_calls_1 3 rfl rfl)
theorem dX1_calls_26 : decode cX1_calls 26 = .ok (.iaload, 1) := dk_46 (dk_at dksX1_calls_1 4 rfl rfl)
theorem dX1_calls_27 : decode cX1_calls 27 = .ok (.iconst 1, 1) := dk_4 (dk_at dksX1_calls_1 5 rfl rfl)
theorem dX1_calls_28 : decode cX1_calls 28 = .ok (.iadd, 1) := dk_96 (dk_at dksX1_calls_1 6 rfl rfl)
theorem dX1_calls_29 : decode cX1_calls 29 = .ok (.invokestatic 93, 3) := dk_184 0 93 (dk_at dksX1_calls_1 7 rfl rfl)
theorem dX1_calls_32 : decode cX1_calls 32 = .ok (.iastore, 1) := dk_79 (dk_at dksX1_calls_1 10 rfl rfl)
theorem dX1_calls_33 : decode cX1_calls 33 = .ok (.iload_n 3, 1) := dk_29 (dk_at dksX1_calls_1 11 rfl rfl)
theorem dX1_calls_34 : decode cX1_calls 34 = .ok (.ireturn, 1) := dk_172 (dk_at dksX1_calls_1 12 rfl rfl)
abbrev cX1_left : ByteArray := prog_11_method_9_code
def yX1_left : MethodName := ⟨RX1, "left", "(LLeftBehind$State;I)I"⟩
def dkwX1_left_3 : List UInt8 := [62, 21, 4, 21, 6, 184, 0, 93, 54, 4, 132, 5, 1, 167, 255, 180, 29, 172]
abbrev dktX1_left_3 : List UInt8 := dkwX1_left_3 ++ []
def dkwX1_left_2 : List UInt8 := [46, 182, 0, 89, 167, 0, 5, 18, 88, 54, 6, 21, 6, 21, 4, 162, 0, 8, 21, 5, 167, 0, 4, 29]
abbrev dktX1_left_2 : List UInt8 := dkwX1_left_2 ++ dktX1_left_3
def dkwX1_left_1 : List UInt8 := [46, 28, 160, 0, 29, 42, 180, 0, 19, 21, 5, 50, 42, 180, 0, 23, 21, 5, 46, 43, 180, 0, 69, 28]
abbrev dktX1_left_1 : List UInt8 := dkwX1_left_1 ++ dktX1_left_2
def dkwX1_left_0 : List UInt8 := [2, 62, 18, 88, 54, 4, 3, 54, 5, 21, 5, 42, 180, 0, 51, 162, 0, 73, 43, 180, 0, 75, 21, 5]
abbrev dktX1_left_0 : List UInt8 := dkwX1_left_0 ++ dktX1_left_1
theorem dksX1_left_0 : cX1_left.data.toList.drop 0 = dktX1_left_0 := by decide +kernel
theorem dksX1_left_1 : cX1_left.data.toList.drop 24 = dktX1_left_1 := dk_seg dksX1_left_0 24 rfl rfl
theorem dksX1_left_2 : cX1_left.data.toList.drop 48 = dktX1_left_2 := dk_seg dksX1_left_1 24 rfl rfl
theorem dksX1_left_3 : cX1_left.data.toList.drop 72 = dktX1_left_3 := dk_seg dksX1_left_2 24 rfl rfl
theorem dX1_left_0 : decode cX1_left 0 = .ok (.iconst (-1), 1) := dk_2 (dk_at dksX1_left_0 0 rfl rfl)
theorem dX1_left_1 : decode cX1_left 1 = .ok (.istore_n 3, 1) := dk_62 (dk_at dksX1_left_0 1 rfl rfl)
theorem dX1_left_2 : decode cX1_left 2 = .ok (.ldc 88, 2) := dk_18 88 (dk_at dksX1_left_0 2 rfl rfl)
theorem dX1_left_4 : decode cX1_left 4 = .ok (.istore 4, 2) := dk_54 4 (dk_at dksX1_left_0 4 rfl rfl)
theorem dX1_left_6 : decode cX1_left 6 = .ok (.iconst 0, 1) := dk_3 (dk_at dksX1_left_0 6 rfl rfl)
theorem dX1_left_7 : decode cX1_left 7 = .ok (.istore 5, 2) := dk_54 5 (dk_at dksX1_left_0 7 rfl rfl)
theorem dX1_left_9 : decode cX1_left 9 = .ok (.iload 5, 2) := dk_21 5 (dk_at dksX1_left_0 9 rfl rfl)
theorem dX1_left_11 : decode cX1_left 11 = .ok (.aload_n 0, 1) := dk_42 (dk_at dksX1_left_0 11 rfl rfl)
theorem dX1_left_12 : decode cX1_left 12 = .ok (.getfield 51, 3) := dk_180 0 51 (dk_at dksX1_left_0 12 rfl rfl)
theorem dX1_left_15 : decode cX1_left 15 = .ok (.if_icmp .ge 73, 3) := dk_162 0 73 (dk_at dksX1_left_0 15 rfl rfl)
theorem dX1_left_18 : decode cX1_left 18 = .ok (.aload_n 1, 1) := dk_43 (dk_at dksX1_left_0 18 rfl rfl)
theorem dX1_left_19 : decode cX1_left 19 = .ok (.getfield 75, 3) := dk_180 0 75 (dk_at dksX1_left_0 19 rfl rfl)
theorem dX1_left_22 : decode cX1_left 22 = .ok (.iload 5, 2) := dk_21 5 (dk_at dksX1_left_0 22 rfl rfl)
theorem dX1_left_24 : decode cX1_left 24 = .ok (.iaload, 1) := dk_46 (dk_at dksX1_left_1 0 rfl rfl)
theorem dX1_left_25 : decode cX1_left 25 = .ok (.iload_n 2, 1) := dk_28 (dk_at dksX1_left_1 1 rfl rfl)
theorem dX1_left_26 : decode cX1_left 26 = .ok (.if_icmp .ne 29, 3) := dk_160 0 29 (dk_at dksX1_left_1 2 rfl rfl)
theorem dX1_left_29 : decode cX1_left 29 = .ok (.aload_n 0, 1) := dk_42 (dk_at dksX1_left_1 5 rfl rfl)
theorem dX1_left_30 : decode cX1_left 30 = .ok (.getfield 19, 3) := dk_180 0 19 (dk_at dksX1_left_1 6 rfl rfl)
theorem dX1_left_33 : decode cX1_left 33 = .ok (.iload 5, 2) := dk_21 5 (dk_at dksX1_left_1 9 rfl rfl)
theorem dX1_left_35 : decode cX1_left 35 = .ok (.aaload, 1) := dk_50 (dk_at dksX1_left_1 11 rfl rfl)
theorem dX1_left_36 : decode cX1_left 36 = .ok (.aload_n 0, 1) := dk_42 (dk_at dksX1_left_1 12 rfl rfl)
theorem dX1_left_37 : decode cX1_left 37 = .ok (.getfield 23, 3) := dk_180 0 23 (dk_at dksX1_left_1 13 rfl rfl)
theorem dX1_left_40 : decode cX1_left 40 = .ok (.iload 5, 2) := dk_21 5 (dk_at dksX1_left_1 16 rfl rfl)
theorem dX1_left_42 : decode cX1_left 42 = .ok (.iaload, 1) := dk_46 (dk_at dksX1_left_1 18 rfl rfl)
theorem dX1_left_43 : decode cX1_left 43 = .ok (.aload_n 1, 1) := dk_43 (dk_at dksX1_left_1 19 rfl rfl)
theorem dX1_left_44 : decode cX1_left 44 = .ok (.getfield 69, 3) := dk_180 0 69 (dk_at dksX1_left_1 20 rfl rfl)
theorem dX1_left_47 : decode cX1_left 47 = .ok (.iload_n 2, 1) := dk_28 (dk_at dksX1_left_1 23 rfl rfl)
theorem dX1_left_48 : decode cX1_left 48 = .ok (.iaload, 1) := dk_46 (dk_at dksX1_left_2 0 rfl rfl)
theorem dX1_left_49 : decode cX1_left 49 = .ok (.invokevirtual 89, 3) := dk_182 0 89 (dk_at dksX1_left_2 1 rfl rfl)
theorem dX1_left_52 : decode cX1_left 52 = .ok (.goto 5, 3) := dk_167 0 5 (dk_at dksX1_left_2 4 rfl rfl)
theorem dX1_left_55 : decode cX1_left 55 = .ok (.ldc 88, 2) := dk_18 88 (dk_at dksX1_left_2 7 rfl rfl)
theorem dX1_left_57 : decode cX1_left 57 = .ok (.istore 6, 2) := dk_54 6 (dk_at dksX1_left_2 9 rfl rfl)
theorem dX1_left_59 : decode cX1_left 59 = .ok (.iload 6, 2) := dk_21 6 (dk_at dksX1_left_2 11 rfl rfl)
theorem dX1_left_61 : decode cX1_left 61 = .ok (.iload 4, 2) := dk_21 4 (dk_at dksX1_left_2 13 rfl rfl)
theorem dX1_left_63 : decode cX1_left 63 = .ok (.if_icmp .ge 8, 3) := dk_162 0 8 (dk_at dksX1_left_2 15 rfl rfl)
theorem dX1_left_66 : decode cX1_left 66 = .ok (.iload 5, 2) := dk_21 5 (dk_at dksX1_left_2 18 rfl rfl)
theorem dX1_left_68 : decode cX1_left 68 = .ok (.goto 4, 3) := dk_167 0 4 (dk_at dksX1_left_2 20 rfl rfl)
theorem dX1_left_71 : decode cX1_left 71 = .ok (.iload_n 3, 1) := dk_29 (dk_at dksX1_left_2 23 rfl rfl)
theorem dX1_left_72 : decode cX1_left 72 = .ok (.istore_n 3, 1) := dk_62 (dk_at dksX1_left_3 0 rfl rfl)
theorem dX1_left_73 : decode cX1_left 73 = .ok (.iload 4, 2) := dk_21 4 (dk_at dksX1_left_3 1 rfl rfl)
theorem dX1_left_75 : decode cX1_left 75 = .ok (.iload 6, 2) := dk_21 6 (dk_at dksX1_left_3 3 rfl rfl)
theorem dX1_left_77 : decode cX1_left 77 = .ok (.invokestatic 93, 3) := dk_184 0 93 (dk_at dksX1_left_3 5 rfl rfl)
theorem dX1_left_80 : decode cX1_left 80 = .ok (.istore 4, 2) := dk_54 4 (dk_at dksX1_left_3 8 rfl rfl)
theorem dX1_left_82 : decode cX1_left 82 = .ok (.iinc 5 1, 3) := dk_132 5 1 (dk_at dksX1_left_3 10 rfl rfl)
theorem dX1_left_85 : decode cX1_left 85 = .ok (.goto (-76), 3) := dk_167 255 180 (dk_at dksX1_left_3 13 rfl rfl)
theorem dX1_left_88 : decode cX1_left 88 = .ok (.iload_n 3, 1) := dk_29 (dk_at dksX1_left_3 16 rfl rfl)
theorem dX1_left_89 : decode cX1_left 89 = .ok (.ireturn, 1) := dk_172 (dk_at dksX1_left_3 17 rfl rfl)
abbrev cX1_takes : ByteArray := prog_11_method_6_code
def yX1_takes : MethodName := ⟨RX1, "takes", "(LLeftBehind$Island;)V"⟩
def dkwX1_takes_7 : List UInt8 := [180, 0, 43, 28, 50, 182, 0, 78, 132, 2, 1, 167, 255, 230, 42, 43, 180, 0, 63, 181, 0, 63, 177]
abbrev dktX1_takes_7 : List UInt8 := dkwX1_takes_7 ++ []
def dkwX1_takes_6 : List UInt8 := [43, 180, 0, 39, 182, 0, 78, 3, 61, 28, 43, 180, 0, 63, 162, 0, 24, 42, 180, 0, 43, 28, 50, 43]
abbrev dktX1_takes_6 : List UInt8 := dkwX1_takes_6 ++ dktX1_takes_7
def dkwX1_takes_5 : List UInt8 := [180, 0, 33, 3, 42, 180, 0, 33, 190, 184, 0, 82, 42, 43, 180, 0, 60, 181, 0, 60, 42, 180, 0, 39]
abbrev dktX1_takes_5 : List UInt8 := dkwX1_takes_5 ++ dktX1_takes_6
def dkwX1_takes_4 : List UInt8 := [3, 42, 180, 0, 30, 190, 184, 0, 82, 42, 43, 180, 0, 57, 181, 0, 57, 43, 180, 0, 33, 3, 42]
abbrev dktX1_takes_4 : List UInt8 := dkwX1_takes_4 ++ dktX1_takes_5
def dkwX1_takes_3 : List UInt8 := [180, 0, 27, 190, 184, 0, 82, 42, 43, 180, 0, 54, 181, 0, 54, 43, 180, 0, 30, 3, 42, 180, 0, 30]
abbrev dktX1_takes_3 : List UInt8 := dkwX1_takes_3 ++ dktX1_takes_4
def dkwX1_takes_2 : List UInt8 := [16, 8, 184, 0, 82, 42, 43, 180, 0, 51, 181, 0, 51, 43, 180, 0, 27, 3, 42, 180, 0, 27, 3, 42]
abbrev dktX1_takes_2 : List UInt8 := dkwX1_takes_2 ++ dktX1_takes_3
def dkwX1_takes_1 : List UInt8 := [180, 0, 19, 3, 42, 180, 0, 19, 3, 16, 8, 184, 0, 82, 43, 180, 0, 23, 3, 42, 180, 0, 23, 3]
abbrev dktX1_takes_1 : List UInt8 := dkwX1_takes_1 ++ dktX1_takes_2
def dkwX1_takes_0 : List UInt8 := [43, 180, 0, 11, 3, 42, 180, 0, 11, 3, 6, 184, 0, 82, 42, 43, 180, 0, 47, 181, 0, 47, 43]
abbrev dktX1_takes_0 : List UInt8 := dkwX1_takes_0 ++ dktX1_takes_1
theorem dksX1_takes_0 : cX1_takes.data.toList.drop 0 = dktX1_takes_0 := by decide +kernel
theorem dksX1_takes_1 : cX1_takes.data.toList.drop 23 = dktX1_takes_1 := dk_seg dksX1_takes_0 23 rfl rfl
theorem dksX1_takes_2 : cX1_takes.data.toList.drop 47 = dktX1_takes_2 := dk_seg dksX1_takes_1 24 rfl rfl
theorem dksX1_takes_3 : cX1_takes.data.toList.drop 71 = dktX1_takes_3 := dk_seg dksX1_takes_2 24 rfl rfl
theorem dksX1_takes_4 : cX1_takes.data.toList.drop 95 = dktX1_takes_4 := dk_seg dksX1_takes_3 24 rfl rfl
theorem dksX1_takes_5 : cX1_takes.data.toList.drop 118 = dktX1_takes_5 := dk_seg dksX1_takes_4 23 rfl rfl
theorem dksX1_takes_6 : cX1_takes.data.toList.drop 142 = dktX1_takes_6 := dk_seg dksX1_takes_5 24 rfl rfl
theorem dksX1_takes_7 : cX1_takes.data.toList.drop 166 = dktX1_takes_7 := dk_seg dksX1_takes_6 24 rfl rfl
theorem dX1_takes_0 : decode cX1_takes 0 = .ok (.aload_n 1, 1) := dk_43 (dk_at dksX1_takes_0 0 rfl rfl)
theorem dX1_takes_1 : decode cX1_takes 1 = .ok (.getfield 11, 3) := dk_180 0 11 (dk_at dksX1_takes_0 1 rfl rfl)
theorem dX1_takes_4 : decode cX1_takes 4 = .ok (.iconst 0, 1) := dk_3 (dk_at dksX1_takes_0 4 rfl rfl)
theorem dX1_takes_5 : decode cX1_takes 5 = .ok (.aload_n 0, 1) := dk_42 (dk_at dksX1_takes_0 5 rfl rfl)
theorem dX1_takes_6 : decode cX1_takes 6 = .ok (.getfield 11, 3) := dk_180 0 11 (dk_at dksX1_takes_0 6 rfl rfl)
theorem dX1_takes_9 : decode cX1_takes 9 = .ok (.iconst 0, 1) := dk_3 (dk_at dksX1_takes_0 9 rfl rfl)
theorem dX1_takes_10 : decode cX1_takes 10 = .ok (.iconst 3, 1) := dk_6 (dk_at dksX1_takes_0 10 rfl rfl)
theorem dX1_takes_11 : decode cX1_takes 11 = .ok (.invokestatic 82, 3) := dk_184 0 82 (dk_at dksX1_takes_0 11 rfl rfl)
theorem dX1_takes_14 : decode cX1_takes 14 = .ok (.aload_n 0, 1) := dk_42 (dk_at dksX1_takes_0 14 rfl rfl)
theorem dX1_takes_15 : decode cX1_takes 15 = .ok (.aload_n 1, 1) := dk_43 (dk_at dksX1_takes_0 15 rfl rfl)
theorem dX1_takes_16 : decode cX1_takes 16 = .ok (.getfield 47, 3) := dk_180 0 47 (dk_at dksX1_takes_0 16 rfl rfl)
theorem dX1_takes_19 : decode cX1_takes 19 = .ok (.putfield 47, 3) := dk_181 0 47 (dk_at dksX1_takes_0 19 rfl rfl)
theorem dX1_takes_22 : decode cX1_takes 22 = .ok (.aload_n 1, 1) := dk_43 (dk_at dksX1_takes_0 22 rfl rfl)
theorem dX1_takes_23 : decode cX1_takes 23 = .ok (.getfield 19, 3) := dk_180 0 19 (dk_at dksX1_takes_1 0 rfl rfl)
theorem dX1_takes_26 : decode cX1_takes 26 = .ok (.iconst 0, 1) := dk_3 (dk_at dksX1_takes_1 3 rfl rfl)
theorem dX1_takes_27 : decode cX1_takes 27 = .ok (.aload_n 0, 1) := dk_42 (dk_at dksX1_takes_1 4 rfl rfl)
theorem dX1_takes_28 : decode cX1_takes 28 = .ok (.getfield 19, 3) := dk_180 0 19 (dk_at dksX1_takes_1 5 rfl rfl)
theorem dX1_takes_31 : decode cX1_takes 31 = .ok (.iconst 0, 1) := dk_3 (dk_at dksX1_takes_1 8 rfl rfl)
theorem dX1_takes_32 : decode cX1_takes 32 = .ok (.bipush 8, 2) := dk_16 8 (dk_at dksX1_takes_1 9 rfl rfl)
theorem dX1_takes_34 : decode cX1_takes 34 = .ok (.invokestatic 82, 3) := dk_184 0 82 (dk_at dksX1_takes_1 11 rfl rfl)
theorem dX1_takes_37 : decode cX1_takes 37 = .ok (.aload_n 1, 1) := dk_43 (dk_at dksX1_takes_1 14 rfl rfl)
theorem dX1_takes_38 : decode cX1_takes 38 = .ok (.getfield 23, 3) := dk_180 0 23 (dk_at dksX1_takes_1 15 rfl rfl)
theorem dX1_takes_41 : decode cX1_takes 41 = .ok (.iconst 0, 1) := dk_3 (dk_at dksX1_takes_1 18 rfl rfl)
theorem dX1_takes_42 : decode cX1_takes 42 = .ok (.aload_n 0, 1) := dk_42 (dk_at dksX1_takes_1 19 rfl rfl)
theorem dX1_takes_43 : decode cX1_takes 43 = .ok (.getfield 23, 3) := dk_180 0 23 (dk_at dksX1_takes_1 20 rfl rfl)
theorem dX1_takes_46 : decode cX1_takes 46 = .ok (.iconst 0, 1) := dk_3 (dk_at dksX1_takes_1 23 rfl rfl)
theorem dX1_takes_47 : decode cX1_takes 47 = .ok (.bipush 8, 2) := dk_16 8 (dk_at dksX1_takes_2 0 rfl rfl)
theorem dX1_takes_49 : decode cX1_takes 49 = .ok (.invokestatic 82, 3) := dk_184 0 82 (dk_at dksX1_takes_2 2 rfl rfl)
theorem dX1_takes_52 : decode cX1_takes 52 = .ok (.aload_n 0, 1) := dk_42 (dk_at dksX1_takes_2 5 rfl rfl)
theorem dX1_takes_53 : decode cX1_takes 53 = .ok (.aload_n 1, 1) := dk_43 (dk_at dksX1_takes_2 6 rfl rfl)
theorem dX1_takes_54 : decode cX1_takes 54 = .ok (.getfield 51, 3) := dk_180 0 51 (dk_at dksX1_takes_2 7 rfl rfl)
theorem dX1_takes_57 : decode cX1_takes 57 = .ok (.putfield 51, 3) := dk_181 0 51 (dk_at dksX1_takes_2 10 rfl rfl)
theorem dX1_takes_60 : decode cX1_takes 60 = .ok (.aload_n 1, 1) := dk_43 (dk_at dksX1_takes_2 13 rfl rfl)
theorem dX1_takes_61 : decode cX1_takes 61 = .ok (.getfield 27, 3) := dk_180 0 27 (dk_at dksX1_takes_2 14 rfl rfl)
theorem dX1_takes_64 : decode cX1_takes 64 = .ok (.iconst 0, 1) := dk_3 (dk_at dksX1_takes_2 17 rfl rfl)
theorem dX1_takes_65 : decode cX1_takes 65 = .ok (.aload_n 0, 1) := dk_42 (dk_at dksX1_takes_2 18 rfl rfl)
theorem dX1_takes_66 : decode cX1_takes 66 = .ok (.getfield 27, 3) := dk_180 0 27 (dk_at dksX1_takes_2 19 rfl rfl)
theorem dX1_takes_69 : decode cX1_takes 69 = .ok (.iconst 0, 1) := dk_3 (dk_at dksX1_takes_2 22 rfl rfl)
theorem dX1_takes_70 : decode cX1_takes 70 = .ok (.aload_n 0, 1) := dk_42 (dk_at dksX1_takes_2 23 rfl rfl)
theorem dX1_takes_71 : decode cX1_takes 71 = .ok (.getfield 27, 3) := dk_180 0 27 (dk_at dksX1_takes_3 0 rfl rfl)
theorem dX1_takes_74 : decode cX1_takes 74 = .ok (.arraylength, 1) := dk_190 (dk_at dksX1_takes_3 3 rfl rfl)
theorem dX1_takes_75 : decode cX1_takes 75 = .ok (.invokestatic 82, 3) := dk_184 0 82 (dk_at dksX1_takes_3 4 rfl rfl)
theorem dX1_takes_78 : decode cX1_takes 78 = .ok (.aload_n 0, 1) := dk_42 (dk_at dksX1_takes_3 7 rfl rfl)
theorem dX1_takes_79 : decode cX1_takes 79 = .ok (.aload_n 1, 1) := dk_43 (dk_at dksX1_takes_3 8 rfl rfl)
theorem dX1_takes_80 : decode cX1_takes 80 = .ok (.getfield 54, 3) := dk_180 0 54 (dk_at dksX1_takes_3 9 rfl rfl)
theorem dX1_takes_83 : decode cX1_takes 83 = .ok (.putfield 54, 3) := dk_181 0 54 (dk_at dksX1_takes_3 12 rfl rfl)
theorem dX1_takes_86 : decode cX1_takes 86 = .ok (.aload_n 1, 1) := dk_43 (dk_at dksX1_takes_3 15 rfl rfl)
theorem dX1_takes_87 : decode cX1_takes 87 = .ok (.getfield 30, 3) := dk_180 0 30 (dk_at dksX1_takes_3 16 rfl rfl)
theorem dX1_takes_90 : decode cX1_takes 90 = .ok (.iconst 0, 1) := dk_3 (dk_at dksX1_takes_3 19 rfl rfl)
theorem dX1_takes_91 : decode cX1_takes 91 = .ok (.aload_n 0, 1) := dk_42 (dk_at dksX1_takes_3 20 rfl rfl)
theorem dX1_takes_92 : decode cX1_takes 92 = .ok (.getfield 30, 3) := dk_180 0 30 (dk_at dksX1_takes_3 21 rfl rfl)
theorem dX1_takes_95 : decode cX1_takes 95 = .ok (.iconst 0, 1) := dk_3 (dk_at dksX1_takes_4 0 rfl rfl)
theorem dX1_takes_96 : decode cX1_takes 96 = .ok (.aload_n 0, 1) := dk_42 (dk_at dksX1_takes_4 1 rfl rfl)
theorem dX1_takes_97 : decode cX1_takes 97 = .ok (.getfield 30, 3) := dk_180 0 30 (dk_at dksX1_takes_4 2 rfl rfl)
theorem dX1_takes_100 : decode cX1_takes 100 = .ok (.arraylength, 1) := dk_190 (dk_at dksX1_takes_4 5 rfl rfl)
theorem dX1_takes_101 : decode cX1_takes 101 = .ok (.invokestatic 82, 3) := dk_184 0 82 (dk_at dksX1_takes_4 6 rfl rfl)
theorem dX1_takes_104 : decode cX1_takes 104 = .ok (.aload_n 0, 1) := dk_42 (dk_at dksX1_takes_4 9 rfl rfl)
theorem dX1_takes_105 : decode cX1_takes 105 = .ok (.aload_n 1, 1) := dk_43 (dk_at dksX1_takes_4 10 rfl rfl)
theorem dX1_takes_106 : decode cX1_takes 106 = .ok (.getfield 57, 3) := dk_180 0 57 (dk_at dksX1_takes_4 11 rfl rfl)
theorem dX1_takes_109 : decode cX1_takes 109 = .ok (.putfield 57, 3) := dk_181 0 57 (dk_at dksX1_takes_4 14 rfl rfl)
theorem dX1_takes_112 : decode cX1_takes 112 = .ok (.aload_n 1, 1) := dk_43 (dk_at dksX1_takes_4 17 rfl rfl)
theorem dX1_takes_113 : decode cX1_takes 113 = .ok (.getfield 33, 3) := dk_180 0 33 (dk_at dksX1_takes_4 18 rfl rfl)
theorem dX1_takes_116 : decode cX1_takes 116 = .ok (.iconst 0, 1) := dk_3 (dk_at dksX1_takes_4 21 rfl rfl)
theorem dX1_takes_117 : decode cX1_takes 117 = .ok (.aload_n 0, 1) := dk_42 (dk_at dksX1_takes_4 22 rfl rfl)
theorem dX1_takes_118 : decode cX1_takes 118 = .ok (.getfield 33, 3) := dk_180 0 33 (dk_at dksX1_takes_5 0 rfl rfl)
theorem dX1_takes_121 : decode cX1_takes 121 = .ok (.iconst 0, 1) := dk_3 (dk_at dksX1_takes_5 3 rfl rfl)
theorem dX1_takes_122 : decode cX1_takes 122 = .ok (.aload_n 0, 1) := dk_42 (dk_at dksX1_takes_5 4 rfl rfl)
theorem dX1_takes_123 : decode cX1_takes 123 = .ok (.getfield 33, 3) := dk_180 0 33 (dk_at dksX1_takes_5 5 rfl rfl)
theorem dX1_takes_126 : decode cX1_takes 126 = .ok (.arraylength, 1) := dk_190 (dk_at dksX1_takes_5 8 rfl rfl)
theorem dX1_takes_127 : decode cX1_takes 127 = .ok (.invokestatic 82, 3) := dk_184 0 82 (dk_at dksX1_takes_5 9 rfl rfl)
theorem dX1_takes_130 : decode cX1_takes 130 = .ok (.aload_n 0, 1) := dk_42 (dk_at dksX1_takes_5 12 rfl rfl)
theorem dX1_takes_131 : decode cX1_takes 131 = .ok (.aload_n 1, 1) := dk_43 (dk_at dksX1_takes_5 13 rfl rfl)
theorem dX1_takes_132 : decode cX1_takes 132 = .ok (.getfield 60, 3) := dk_180 0 60 (dk_at dksX1_takes_5 14 rfl rfl)
theorem dX1_takes_135 : decode cX1_takes 135 = .ok (.putfield 60, 3) := dk_181 0 60 (dk_at dksX1_takes_5 17 rfl rfl)
theorem dX1_takes_138 : decode cX1_takes 138 = .ok (.aload_n 0, 1) := dk_42 (dk_at dksX1_takes_5 20 rfl rfl)
theorem dX1_takes_139 : decode cX1_takes 139 = .ok (.getfield 39, 3) := dk_180 0 39 (dk_at dksX1_takes_5 21 rfl rfl)
theorem dX1_takes_142 : decode cX1_takes 142 = .ok (.aload_n 1, 1) := dk_43 (dk_at dksX1_takes_6 0 rfl rfl)
theorem dX1_takes_143 : decode cX1_takes 143 = .ok (.getfield 39, 3) := dk_180 0 39 (dk_at dksX1_takes_6 1 rfl rfl)
theorem dX1_takes_146 : decode cX1_takes 146 = .ok (.invokevirtual 78, 3) := dk_182 0 78 (dk_at dksX1_takes_6 4 rfl rfl)
theorem dX1_takes_149 : decode cX1_takes 149 = .ok (.iconst 0, 1) := dk_3 (dk_at dksX1_takes_6 7 rfl rfl)
theorem dX1_takes_150 : decode cX1_takes 150 = .ok (.istore_n 2, 1) := dk_61 (dk_at dksX1_takes_6 8 rfl rfl)
theorem dX1_takes_151 : decode cX1_takes 151 = .ok (.iload_n 2, 1) := dk_28 (dk_at dksX1_takes_6 9 rfl rfl)
theorem dX1_takes_152 : decode cX1_takes 152 = .ok (.aload_n 1, 1) := dk_43 (dk_at dksX1_takes_6 10 rfl rfl)
theorem dX1_takes_153 : decode cX1_takes 153 = .ok (.getfield 63, 3) := dk_180 0 63 (dk_at dksX1_takes_6 11 rfl rfl)
theorem dX1_takes_156 : decode cX1_takes 156 = .ok (.if_icmp .ge 24, 3) := dk_162 0 24 (dk_at dksX1_takes_6 14 rfl rfl)
theorem dX1_takes_159 : decode cX1_takes 159 = .ok (.aload_n 0, 1) := dk_42 (dk_at dksX1_takes_6 17 rfl rfl)
theorem dX1_takes_160 : decode cX1_takes 160 = .ok (.getfield 43, 3) := dk_180 0 43 (dk_at dksX1_takes_6 18 rfl rfl)
theorem dX1_takes_163 : decode cX1_takes 163 = .ok (.iload_n 2, 1) := dk_28 (dk_at dksX1_takes_6 21 rfl rfl)
theorem dX1_takes_164 : decode cX1_takes 164 = .ok (.aaload, 1) := dk_50 (dk_at dksX1_takes_6 22 rfl rfl)
theorem dX1_takes_165 : decode cX1_takes 165 = .ok (.aload_n 1, 1) := dk_43 (dk_at dksX1_takes_6 23 rfl rfl)
theorem dX1_takes_166 : decode cX1_takes 166 = .ok (.getfield 43, 3) := dk_180 0 43 (dk_at dksX1_takes_7 0 rfl rfl)
theorem dX1_takes_169 : decode cX1_takes 169 = .ok (.iload_n 2, 1) := dk_28 (dk_at dksX1_takes_7 3 rfl rfl)
theorem dX1_takes_170 : decode cX1_takes 170 = .ok (.aaload, 1) := dk_50 (dk_at dksX1_takes_7 4 rfl rfl)
theorem dX1_takes_171 : decode cX1_takes 171 = .ok (.invokevirtual 78, 3) := dk_182 0 78 (dk_at dksX1_takes_7 5 rfl rfl)
theorem dX1_takes_174 : decode cX1_takes 174 = .ok (.iinc 2 1, 3) := dk_132 2 1 (dk_at dksX1_takes_7 8 rfl rfl)
theorem dX1_takes_177 : decode cX1_takes 177 = .ok (.goto (-26), 3) := dk_167 255 230 (dk_at dksX1_takes_7 11 rfl rfl)
theorem dX1_takes_180 : decode cX1_takes 180 = .ok (.aload_n 0, 1) := dk_42 (dk_at dksX1_takes_7 14 rfl rfl)
theorem dX1_takes_181 : decode cX1_takes 181 = .ok (.aload_n 1, 1) := dk_43 (dk_at dksX1_takes_7 15 rfl rfl)
theorem dX1_takes_182 : decode cX1_takes 182 = .ok (.getfield 63, 3) := dk_180 0 63 (dk_at dksX1_takes_7 16 rfl rfl)
theorem dX1_takes_185 : decode cX1_takes 185 = .ok (.putfield 63, 3) := dk_181 0 63 (dk_at dksX1_takes_7 19 rfl rfl)
theorem dX1_takes_188 : decode cX1_takes 188 = .ok (.return_, 1) := dk_177 (dk_at dksX1_takes_7 22 rfl rfl)
abbrev cX1_remembers : ByteArray := prog_11_method_5_code
def yX1_remembers : MethodName := ⟨RX1, "remembers", "()V"⟩
def dkwX1_remembers_3 : List UInt8 := [4, 96, 181, 0, 63, 177]
abbrev dktX1_remembers_3 : List UInt8 := dkwX1_remembers_3 ++ []
def dkwX1_remembers_2 : List UInt8 := [181, 0, 63, 42, 180, 0, 43, 42, 180, 0, 63, 50, 42, 180, 0, 39, 182, 0, 78, 42, 89, 180, 0, 63]
abbrev dktX1_remembers_2 : List UInt8 := dkwX1_remembers_2 ++ dktX1_remembers_3
def dkwX1_remembers_1 : List UInt8 := [50, 42, 180, 0, 43, 27, 50, 182, 0, 78, 132, 1, 1, 167, 255, 230, 42, 89, 180, 0, 63, 4, 100]
abbrev dktX1_remembers_1 : List UInt8 := dkwX1_remembers_1 ++ dktX1_remembers_2
def dkwX1_remembers_0 : List UInt8 := [42, 180, 0, 63, 16, 8, 160, 0, 44, 4, 60, 27, 16, 8, 162, 0, 26, 42, 180, 0, 43, 27, 4, 100]
abbrev dktX1_remembers_0 : List UInt8 := dkwX1_remembers_0 ++ dktX1_remembers_1
theorem dksX1_remembers_0 : cX1_remembers.data.toList.drop 0 = dktX1_remembers_0 := by decide +kernel
theorem dksX1_remembers_1 : cX1_remembers.data.toList.drop 24 = dktX1_remembers_1 := dk_seg dksX1_remembers_0 24 rfl rfl
theorem dksX1_remembers_2 : cX1_remembers.data.toList.drop 47 = dktX1_remembers_2 := dk_seg dksX1_remembers_1 23 rfl rfl
theorem dksX1_remembers_3 : cX1_remembers.data.toList.drop 71 = dktX1_remembers_3 := dk_seg dksX1_remembers_2 24 rfl rfl
theorem dX1_remembers_0 : decode cX1_remembers 0 = .ok (.aload_n 0, 1) := dk_42 (dk_at dksX1_remembers_0 0 rfl rfl)
theorem dX1_remembers_1 : decode cX1_remembers 1 = .ok (.getfield 63, 3) := dk_180 0 63 (dk_at dksX1_remembers_0 1 rfl rfl)
theorem dX1_remembers_4 : decode cX1_remembers 4 = .ok (.bipush 8, 2) := dk_16 8 (dk_at dksX1_remembers_0 4 rfl rfl)
theorem dX1_remembers_6 : decode cX1_remembers 6 = .ok (.if_icmp .ne 44, 3) := dk_160 0 44 (dk_at dksX1_remembers_0 6 rfl rfl)
theorem dX1_remembers_9 : decode cX1_remembers 9 = .ok (.iconst 1, 1) := dk_4 (dk_at dksX1_remembers_0 9 rfl rfl)
theorem dX1_remembers_10 : decode cX1_remembers 10 = .ok (.istore_n 1, 1) := dk_60 (dk_at dksX1_remembers_0 10 rfl rfl)
theorem dX1_remembers_11 : decode cX1_remembers 11 = .ok (.iload_n 1, 1) := dk_27 (dk_at dksX1_remembers_0 11 rfl rfl)
theorem dX1_remembers_12 : decode cX1_remembers 12 = .ok (.bipush 8, 2) := dk_16 8 (dk_at dksX1_remembers_0 12 rfl rfl)
theorem dX1_remembers_14 : decode cX1_remembers 14 = .ok (.if_icmp .ge 26, 3) := dk_162 0 26 (dk_at dksX1_remembers_0 14 rfl rfl)
theorem dX1_remembers_17 : decode cX1_remembers 17 = .ok (.aload_n 0, 1) := dk_42 (dk_at dksX1_remembers_0 17 rfl rfl)
theorem dX1_remembers_18 : decode cX1_remembers 18 = .ok (.getfield 43, 3) := dk_180 0 43 (dk_at dksX1_remembers_0 18 rfl rfl)
theorem dX1_remembers_21 : decode cX1_remembers 21 = .ok (.iload_n 1, 1) := dk_27 (dk_at dksX1_remembers_0 21 rfl rfl)
theorem dX1_remembers_22 : decode cX1_remembers 22 = .ok (.iconst 1, 1) := dk_4 (dk_at dksX1_remembers_0 22 rfl rfl)
theorem dX1_remembers_23 : decode cX1_remembers 23 = .ok (.isub, 1) := dk_100 (dk_at dksX1_remembers_0 23 rfl rfl)
theorem dX1_remembers_24 : decode cX1_remembers 24 = .ok (.aaload, 1) := dk_50 (dk_at dksX1_remembers_1 0 rfl rfl)
theorem dX1_remembers_25 : decode cX1_remembers 25 = .ok (.aload_n 0, 1) := dk_42 (dk_at dksX1_remembers_1 1 rfl rfl)
theorem dX1_remembers_26 : decode cX1_remembers 26 = .ok (.getfield 43, 3) := dk_180 0 43 (dk_at dksX1_remembers_1 2 rfl rfl)
theorem dX1_remembers_29 : decode cX1_remembers 29 = .ok (.iload_n 1, 1) := dk_27 (dk_at dksX1_remembers_1 5 rfl rfl)
theorem dX1_remembers_30 : decode cX1_remembers 30 = .ok (.aaload, 1) := dk_50 (dk_at dksX1_remembers_1 6 rfl rfl)
theorem dX1_remembers_31 : decode cX1_remembers 31 = .ok (.invokevirtual 78, 3) := dk_182 0 78 (dk_at dksX1_remembers_1 7 rfl rfl)
theorem dX1_remembers_34 : decode cX1_remembers 34 = .ok (.iinc 1 1, 3) := dk_132 1 1 (dk_at dksX1_remembers_1 10 rfl rfl)
theorem dX1_remembers_37 : decode cX1_remembers 37 = .ok (.goto (-26), 3) := dk_167 255 230 (dk_at dksX1_remembers_1 13 rfl rfl)
theorem dX1_remembers_40 : decode cX1_remembers 40 = .ok (.aload_n 0, 1) := dk_42 (dk_at dksX1_remembers_1 16 rfl rfl)
theorem dX1_remembers_41 : decode cX1_remembers 41 = .ok (.dup, 1) := dk_89 (dk_at dksX1_remembers_1 17 rfl rfl)
theorem dX1_remembers_42 : decode cX1_remembers 42 = .ok (.getfield 63, 3) := dk_180 0 63 (dk_at dksX1_remembers_1 18 rfl rfl)
theorem dX1_remembers_45 : decode cX1_remembers 45 = .ok (.iconst 1, 1) := dk_4 (dk_at dksX1_remembers_1 21 rfl rfl)
theorem dX1_remembers_46 : decode cX1_remembers 46 = .ok (.isub, 1) := dk_100 (dk_at dksX1_remembers_1 22 rfl rfl)
theorem dX1_remembers_47 : decode cX1_remembers 47 = .ok (.putfield 63, 3) := dk_181 0 63 (dk_at dksX1_remembers_2 0 rfl rfl)
theorem dX1_remembers_50 : decode cX1_remembers 50 = .ok (.aload_n 0, 1) := dk_42 (dk_at dksX1_remembers_2 3 rfl rfl)
theorem dX1_remembers_51 : decode cX1_remembers 51 = .ok (.getfield 43, 3) := dk_180 0 43 (dk_at dksX1_remembers_2 4 rfl rfl)
theorem dX1_remembers_54 : decode cX1_remembers 54 = .ok (.aload_n 0, 1) := dk_42 (dk_at dksX1_remembers_2 7 rfl rfl)
theorem dX1_remembers_55 : decode cX1_remembers 55 = .ok (.getfield 63, 3) := dk_180 0 63 (dk_at dksX1_remembers_2 8 rfl rfl)
theorem dX1_remembers_58 : decode cX1_remembers 58 = .ok (.aaload, 1) := dk_50 (dk_at dksX1_remembers_2 11 rfl rfl)
theorem dX1_remembers_59 : decode cX1_remembers 59 = .ok (.aload_n 0, 1) := dk_42 (dk_at dksX1_remembers_2 12 rfl rfl)
theorem dX1_remembers_60 : decode cX1_remembers 60 = .ok (.getfield 39, 3) := dk_180 0 39 (dk_at dksX1_remembers_2 13 rfl rfl)
theorem dX1_remembers_63 : decode cX1_remembers 63 = .ok (.invokevirtual 78, 3) := dk_182 0 78 (dk_at dksX1_remembers_2 16 rfl rfl)
theorem dX1_remembers_66 : decode cX1_remembers 66 = .ok (.aload_n 0, 1) := dk_42 (dk_at dksX1_remembers_2 19 rfl rfl)
theorem dX1_remembers_67 : decode cX1_remembers 67 = .ok (.dup, 1) := dk_89 (dk_at dksX1_remembers_2 20 rfl rfl)
theorem dX1_remembers_68 : decode cX1_remembers 68 = .ok (.getfield 63, 3) := dk_180 0 63 (dk_at dksX1_remembers_2 21 rfl rfl)
theorem dX1_remembers_71 : decode cX1_remembers 71 = .ok (.iconst 1, 1) := dk_4 (dk_at dksX1_remembers_3 0 rfl rfl)
theorem dX1_remembers_72 : decode cX1_remembers 72 = .ok (.iadd, 1) := dk_96 (dk_at dksX1_remembers_3 1 rfl rfl)
theorem dX1_remembers_73 : decode cX1_remembers 73 = .ok (.putfield 63, 3) := dk_181 0 63 (dk_at dksX1_remembers_3 2 rfl rfl)
theorem dX1_remembers_76 : decode cX1_remembers 76 = .ok (.return_, 1) := dk_177 (dk_at dksX1_remembers_3 5 rfl rfl)
abbrev cX1_skillOf : ByteArray := prog_11_method_8_code
def yX1_skillOf : MethodName := ⟨RX1, "skillOf", "(I)I"⟩
def dkwX1_skillOf_1 : List UInt8 := [180, 0, 23, 29, 46, 167, 0, 4, 3, 96, 61, 132, 3, 1, 167, 255, 223, 28, 172]
abbrev dktX1_skillOf_1 : List UInt8 := dkwX1_skillOf_1 ++ []
def dkwX1_skillOf_0 : List UInt8 := [3, 61, 3, 62, 29, 42, 180, 0, 51, 162, 0, 31, 28, 27, 29, 122, 4, 126, 4, 160, 0, 12, 42]
abbrev dktX1_skillOf_0 : List UInt8 := dkwX1_skillOf_0 ++ dktX1_skillOf_1
theorem dksX1_skillOf_0 : cX1_skillOf.data.toList.drop 0 = dktX1_skillOf_0 := by decide +kernel
theorem dksX1_skillOf_1 : cX1_skillOf.data.toList.drop 23 = dktX1_skillOf_1 := dk_seg dksX1_skillOf_0 23 rfl rfl
theorem dX1_skillOf_0 : decode cX1_skillOf 0 = .ok (.iconst 0, 1) := dk_3 (dk_at dksX1_skillOf_0 0 rfl rfl)
theorem dX1_skillOf_1 : decode cX1_skillOf 1 = .ok (.istore_n 2, 1) := dk_61 (dk_at dksX1_skillOf_0 1 rfl rfl)
theorem dX1_skillOf_2 : decode cX1_skillOf 2 = .ok (.iconst 0, 1) := dk_3 (dk_at dksX1_skillOf_0 2 rfl rfl)
theorem dX1_skillOf_3 : decode cX1_skillOf 3 = .ok (.istore_n 3, 1) := dk_62 (dk_at dksX1_skillOf_0 3 rfl rfl)
theorem dX1_skillOf_4 : decode cX1_skillOf 4 = .ok (.iload_n 3, 1) := dk_29 (dk_at dksX1_skillOf_0 4 rfl rfl)
theorem dX1_skillOf_5 : decode cX1_skillOf 5 = .ok (.aload_n 0, 1) := dk_42 (dk_at dksX1_skillOf_0 5 rfl rfl)
theorem dX1_skillOf_6 : decode cX1_skillOf 6 = .ok (.getfield 51, 3) := dk_180 0 51 (dk_at dksX1_skillOf_0 6 rfl rfl)
theorem dX1_skillOf_9 : decode cX1_skillOf 9 = .ok (.if_icmp .ge 31, 3) := dk_162 0 31 (dk_at dksX1_skillOf_0 9 rfl rfl)
theorem dX1_skillOf_12 : decode cX1_skillOf 12 = .ok (.iload_n 2, 1) := dk_28 (dk_at dksX1_skillOf_0 12 rfl rfl)
theorem dX1_skillOf_13 : decode cX1_skillOf 13 = .ok (.iload_n 1, 1) := dk_27 (dk_at dksX1_skillOf_0 13 rfl rfl)
theorem dX1_skillOf_14 : decode cX1_skillOf 14 = .ok (.iload_n 3, 1) := dk_29 (dk_at dksX1_skillOf_0 14 rfl rfl)
theorem dX1_skillOf_15 : decode cX1_skillOf 15 = .ok (.ishr, 1) := dk_122 (dk_at dksX1_skillOf_0 15 rfl rfl)
theorem dX1_skillOf_16 : decode cX1_skillOf 16 = .ok (.iconst 1, 1) := dk_4 (dk_at dksX1_skillOf_0 16 rfl rfl)
theorem dX1_skillOf_17 : decode cX1_skillOf 17 = .ok (.iand, 1) := dk_126 (dk_at dksX1_skillOf_0 17 rfl rfl)
theorem dX1_skillOf_18 : decode cX1_skillOf 18 = .ok (.iconst 1, 1) := dk_4 (dk_at dksX1_skillOf_0 18 rfl rfl)
theorem dX1_skillOf_19 : decode cX1_skillOf 19 = .ok (.if_icmp .ne 12, 3) := dk_160 0 12 (dk_at dksX1_skillOf_0 19 rfl rfl)
theorem dX1_skillOf_22 : decode cX1_skillOf 22 = .ok (.aload_n 0, 1) := dk_42 (dk_at dksX1_skillOf_0 22 rfl rfl)
theorem dX1_skillOf_23 : decode cX1_skillOf 23 = .ok (.getfield 23, 3) := dk_180 0 23 (dk_at dksX1_skillOf_1 0 rfl rfl)
theorem dX1_skillOf_26 : decode cX1_skillOf 26 = .ok (.iload_n 3, 1) := dk_29 (dk_at dksX1_skillOf_1 3 rfl rfl)
theorem dX1_skillOf_27 : decode cX1_skillOf 27 = .ok (.iaload, 1) := dk_46 (dk_at dksX1_skillOf_1 4 rfl rfl)
theorem dX1_skillOf_28 : decode cX1_skillOf 28 = .ok (.goto 4, 3) := dk_167 0 4 (dk_at dksX1_skillOf_1 5 rfl rfl)
theorem dX1_skillOf_31 : decode cX1_skillOf 31 = .ok (.iconst 0, 1) := dk_3 (dk_at dksX1_skillOf_1 8 rfl rfl)
theorem dX1_skillOf_32 : decode cX1_skillOf 32 = .ok (.iadd, 1) := dk_96 (dk_at dksX1_skillOf_1 9 rfl rfl)
theorem dX1_skillOf_33 : decode cX1_skillOf 33 = .ok (.istore_n 2, 1) := dk_61 (dk_at dksX1_skillOf_1 10 rfl rfl)
theorem dX1_skillOf_34 : decode cX1_skillOf 34 = .ok (.iinc 3 1, 3) := dk_132 3 1 (dk_at dksX1_skillOf_1 11 rfl rfl)
theorem dX1_skillOf_37 : decode cX1_skillOf 37 = .ok (.goto (-33), 3) := dk_167 255 223 (dk_at dksX1_skillOf_1 14 rfl rfl)
theorem dX1_skillOf_40 : decode cX1_skillOf 40 = .ok (.iload_n 2, 1) := dk_28 (dk_at dksX1_skillOf_1 17 rfl rfl)
theorem dX1_skillOf_41 : decode cX1_skillOf 41 = .ok (.ireturn, 1) := dk_172 (dk_at dksX1_skillOf_1 18 rfl rfl)
abbrev cX1_needs : ByteArray := prog_11_method_11_code
def yX1_needs : MethodName := ⟨RX1, "needs", "(LLeftBehind$State;II)I"⟩
def dkwX1_needs_0 : List UInt8 := [42, 180, 0, 11, 28, 50, 29, 42, 43, 28, 182, 0, 102, 184, 0, 105, 182, 0, 111, 172]
abbrev dktX1_needs_0 : List UInt8 := dkwX1_needs_0 ++ []
theorem dksX1_needs_0 : cX1_needs.data.toList.drop 0 = dktX1_needs_0 := by decide +kernel
theorem dX1_needs_0 : decode cX1_needs 0 = .ok (.aload_n 0, 1) := dk_42 (dk_at dksX1_needs_0 0 rfl rfl)
theorem dX1_needs_1 : decode cX1_needs 1 = .ok (.getfield 11, 3) := dk_180 0 11 (dk_at dksX1_needs_0 1 rfl rfl)
theorem dX1_needs_4 : decode cX1_needs 4 = .ok (.iload_n 2, 1) := dk_28 (dk_at dksX1_needs_0 4 rfl rfl)
theorem dX1_needs_5 : decode cX1_needs 5 = .ok (.aaload, 1) := dk_50 (dk_at dksX1_needs_0 5 rfl rfl)
theorem dX1_needs_6 : decode cX1_needs 6 = .ok (.iload_n 3, 1) := dk_29 (dk_at dksX1_needs_0 6 rfl rfl)
theorem dX1_needs_7 : decode cX1_needs 7 = .ok (.aload_n 0, 1) := dk_42 (dk_at dksX1_needs_0 7 rfl rfl)
theorem dX1_needs_8 : decode cX1_needs 8 = .ok (.aload_n 1, 1) := dk_43 (dk_at dksX1_needs_0 8 rfl rfl)
theorem dX1_needs_9 : decode cX1_needs 9 = .ok (.iload_n 2, 1) := dk_28 (dk_at dksX1_needs_0 9 rfl rfl)
theorem dX1_needs_10 : decode cX1_needs 10 = .ok (.invokevirtual 102, 3) := dk_182 0 102 (dk_at dksX1_needs_0 10 rfl rfl)
theorem dX1_needs_13 : decode cX1_needs 13 = .ok (.invokestatic 105, 3) := dk_184 0 105 (dk_at dksX1_needs_0 13 rfl rfl)
theorem dX1_needs_16 : decode cX1_needs 16 = .ok (.invokevirtual 111, 3) := dk_182 0 111 (dk_at dksX1_needs_0 16 rfl rfl)
theorem dX1_needs_19 : decode cX1_needs 19 = .ok (.ireturn, 1) := dk_172 (dk_at dksX1_needs_0 19 rfl rfl)
abbrev cX1_can : ByteArray := prog_11_method_12_code
def yX1_can : MethodName := ⟨RX1, "can", "(LLeftBehind$State;II)Z"⟩
def dkwX1_can_1 : List UInt8 := [182, 0, 117, 161, 0, 7, 4, 167, 0, 4, 3, 172]
abbrev dktX1_can_1 : List UInt8 := dkwX1_can_1 ++ []
def dkwX1_can_0 : List UInt8 := [42, 43, 28, 182, 0, 102, 54, 4, 21, 4, 153, 0, 23, 42, 21, 4, 182, 0, 114, 42, 43, 28, 29]
abbrev dktX1_can_0 : List UInt8 := dkwX1_can_0 ++ dktX1_can_1
theorem dksX1_can_0 : cX1_can.data.toList.drop 0 = dktX1_can_0 := by decide +kernel
theorem dksX1_can_1 : cX1_can.data.toList.drop 23 = dktX1_can_1 := dk_seg dksX1_can_0 23 rfl rfl
theorem dX1_can_0 : decode cX1_can 0 = .ok (.aload_n 0, 1) := dk_42 (dk_at dksX1_can_0 0 rfl rfl)
theorem dX1_can_1 : decode cX1_can 1 = .ok (.aload_n 1, 1) := dk_43 (dk_at dksX1_can_0 1 rfl rfl)
theorem dX1_can_2 : decode cX1_can 2 = .ok (.iload_n 2, 1) := dk_28 (dk_at dksX1_can_0 2 rfl rfl)
theorem dX1_can_3 : decode cX1_can 3 = .ok (.invokevirtual 102, 3) := dk_182 0 102 (dk_at dksX1_can_0 3 rfl rfl)
theorem dX1_can_6 : decode cX1_can 6 = .ok (.istore 4, 2) := dk_54 4 (dk_at dksX1_can_0 6 rfl rfl)
theorem dX1_can_8 : decode cX1_can 8 = .ok (.iload 4, 2) := dk_21 4 (dk_at dksX1_can_0 8 rfl rfl)
theorem dX1_can_10 : decode cX1_can 10 = .ok (.ifCond .eq 23, 3) := dk_153 0 23 (dk_at dksX1_can_0 10 rfl rfl)
theorem dX1_can_13 : decode cX1_can 13 = .ok (.aload_n 0, 1) := dk_42 (dk_at dksX1_can_0 13 rfl rfl)
theorem dX1_can_14 : decode cX1_can 14 = .ok (.iload 4, 2) := dk_21 4 (dk_at dksX1_can_0 14 rfl rfl)
theorem dX1_can_16 : decode cX1_can 16 = .ok (.invokevirtual 114, 3) := dk_182 0 114 (dk_at dksX1_can_0 16 rfl rfl)
theorem dX1_can_19 : decode cX1_can 19 = .ok (.aload_n 0, 1) := dk_42 (dk_at dksX1_can_0 19 rfl rfl)
theorem dX1_can_20 : decode cX1_can 20 = .ok (.aload_n 1, 1) := dk_43 (dk_at dksX1_can_0 20 rfl rfl)
theorem dX1_can_21 : decode cX1_can 21 = .ok (.iload_n 2, 1) := dk_28 (dk_at dksX1_can_0 21 rfl rfl)
theorem dX1_can_22 : decode cX1_can 22 = .ok (.iload_n 3, 1) := dk_29 (dk_at dksX1_can_0 22 rfl rfl)
theorem dX1_can_23 : decode cX1_can 23 = .ok (.invokevirtual 117, 3) := dk_182 0 117 (dk_at dksX1_can_1 0 rfl rfl)
theorem dX1_can_26 : decode cX1_can 26 = .ok (.if_icmp .lt 7, 3) := dk_161 0 7 (dk_at dksX1_can_1 3 rfl rfl)
theorem dX1_can_29 : decode cX1_can 29 = .ok (.iconst 1, 1) := dk_4 (dk_at dksX1_can_1 6 rfl rfl)
theorem dX1_can_30 : decode cX1_can 30 = .ok (.goto 4, 3) := dk_167 0 4 (dk_at dksX1_can_1 7 rfl rfl)
theorem dX1_can_33 : decode cX1_can 33 = .ok (.iconst 0, 1) := dk_3 (dk_at dksX1_can_1 10 rfl rfl)
theorem dX1_can_34 : decode cX1_can 34 = .ok (.ireturn, 1) := dk_172 (dk_at dksX1_can_1 11 rfl rfl)
theorem q62 : (Jvm.Cond.initialized "LeftBehind$Island") ∈ lw_all := lw_g (lw_at lw_m1 2 rfl) rfl
theorem q87 : (Jvm.Cond.instantiable "LeftBehind$Island" (14 : Nat)) ∈ lw_all := lw_g (lw_at lw_m1 27 rfl) rfl
theorem q89 : (Jvm.Cond.instanceMethod ({ cls := "LeftBehind$Island", name := "<init>", desc := "()V" } : Jvm.MethodName)) ∈ lw_all := lw_g (lw_at lw_m1 29 rfl) rfl
theorem q90 : (Jvm.Cond.code ({ cls := "LeftBehind$Island", name := "<init>", desc := "()V" } : Jvm.MethodName) prog_11_method_1_code (1 : Nat) (Option.none : Option Jvm.ClassFile.FieldType)) ∈ lw_all := lw_g (lw_at lw_m1 30 rfl) rfl
theorem q91 : (Jvm.Cond.methodLink "LeftBehind$Island" (3 : Nat) ({ cls := "java/lang/Object", name := "<init>", desc := "()V" } : Jvm.MethodName)) ∈ lw_all := lw_g (lw_at lw_m1 31 rfl) rfl
theorem q92 : (Jvm.Cond.classLink "LeftBehind$Island" (9 : Nat) "LeftBehind$Ship") ∈ lw_all := lw_g (lw_at lw_m1 32 rfl) rfl
theorem q94 : (Jvm.Cond.classLink "LeftBehind$Island" (17 : Nat) "LeftBehind$Man") ∈ lw_all := lw_g (lw_at lw_m1 34 rfl) rfl
theorem q96 : (Jvm.Cond.classLink "LeftBehind$Island" (36 : Nat) "LeftBehind$State") ∈ lw_all := lw_g (lw_at lw_m1 36 rfl) rfl
theorem q98 : (Jvm.Cond.methodLinkNest "LeftBehind$Island" (38 : Nat) ({ cls := "LeftBehind$State", name := "<init>", desc := "()V" } : Jvm.MethodName) "LeftBehind") ∈ lw_tbl := lw_at lw_m1 38 rfl
theorem q104 : (Jvm.Cond.fieldLinkNest "LeftBehind$Island" (75 : Nat) "LeftBehind$State" "places" "[I" "LeftBehind") ∈ lw_tbl := lw_at lw_m1 44 rfl
theorem q108 : (Jvm.Cond.fieldLinkNest "LeftBehind$Island" (69 : Nat) "LeftBehind$State" "calls" "[I" "LeftBehind") ∈ lw_tbl := lw_at lw_m1 48 rfl
theorem q117 : (Jvm.Cond.fieldLink "LeftBehind$Island" (11 : Nat) "LeftBehind$Island" "ships" "[LLeftBehind$Ship;") ∈ lw_all := lw_g (lw_at lw_m1 57 rfl) rfl
theorem q119 : (Jvm.Cond.fieldLink "LeftBehind$Island" (47 : Nat) "LeftBehind$Island" "fleet" "I") ∈ lw_all := lw_g (lw_at lw_m1 59 rfl) rfl
theorem q124 : (Jvm.Cond.fieldLink "LeftBehind$Island" (19 : Nat) "LeftBehind$Island" "men" "[LLeftBehind$Man;") ∈ lw_all := lw_g (lw_at lw_m1 64 rfl) rfl
theorem q126 : (Jvm.Cond.fieldLink "LeftBehind$Island" (23 : Nat) "LeftBehind$Island" "skills" "[I") ∈ lw_all := lw_g (lw_at lw_m1 66 rfl) rfl
theorem q129 : (Jvm.Cond.fieldLink "LeftBehind$Island" (51 : Nat) "LeftBehind$Island" "many" "I") ∈ lw_all := lw_g (lw_at lw_m1 69 rfl) rfl
theorem q133 : (Jvm.Cond.fieldLink "LeftBehind$Island" (27 : Nat) "LeftBehind$Island" "seen" "[I") ∈ lw_all := lw_g (lw_at lw_m1 73 rfl) rfl
theorem q135 : (Jvm.Cond.fieldLink "LeftBehind$Island" (54 : Nat) "LeftBehind$Island" "sights" "I") ∈ lw_all := lw_g (lw_at lw_m1 75 rfl) rfl
theorem q137 : (Jvm.Cond.fieldLink "LeftBehind$Island" (30 : Nat) "LeftBehind$Island" "notes" "[I") ∈ lw_all := lw_g (lw_at lw_m1 77 rfl) rfl
theorem q139 : (Jvm.Cond.fieldLink "LeftBehind$Island" (57 : Nat) "LeftBehind$Island" "noted" "I") ∈ lw_all := lw_g (lw_at lw_m1 79 rfl) rfl
theorem q141 : (Jvm.Cond.fieldLink "LeftBehind$Island" (33 : Nat) "LeftBehind$Island" "marks" "[I") ∈ lw_all := lw_g (lw_at lw_m1 81 rfl) rfl
theorem q143 : (Jvm.Cond.fieldLink "LeftBehind$Island" (60 : Nat) "LeftBehind$Island" "marked" "I") ∈ lw_all := lw_g (lw_at lw_m1 83 rfl) rfl
theorem q145 : (Jvm.Cond.fieldLink "LeftBehind$Island" (39 : Nat) "LeftBehind$Island" "now" "LLeftBehind$State;") ∈ lw_all := lw_g (lw_at lw_m1 85 rfl) rfl
theorem q150 : (Jvm.Cond.fieldLink "LeftBehind$Island" (43 : Nat) "LeftBehind$Island" "was" "[LLeftBehind$State;") ∈ lw_all := lw_g (lw_at lw_m1 90 rfl) rfl
theorem q152 : (Jvm.Cond.fieldLink "LeftBehind$Island" (63 : Nat) "LeftBehind$Island" "undos" "I") ∈ lw_all := lw_g (lw_at lw_m1 92 rfl) rfl
theorem q154 : (Jvm.Cond.laysFinal "LeftBehind$Island" "LeftBehind$Island" "ships" "[LLeftBehind$Ship;") ∈ lw_all := lw_g (lw_at lw_m1 94 rfl) rfl
theorem q155 : (Jvm.Cond.soleField "LeftBehind$Island" "ships") ∈ lw_all := lw_g (lw_at lw_m1 95 rfl) rfl
theorem q156 : (Jvm.Cond.lays "LeftBehind$Island" "LeftBehind$Island" "fleet" "I") ∈ lw_all := lw_g (lw_at lw_m1 96 rfl) rfl
theorem q157 : (Jvm.Cond.soleField "LeftBehind$Island" "fleet") ∈ lw_all := lw_g (lw_at lw_m1 97 rfl) rfl
theorem q158 : (Jvm.Cond.laysFinal "LeftBehind$Island" "LeftBehind$Island" "men" "[LLeftBehind$Man;") ∈ lw_all := lw_g (lw_at lw_m1 98 rfl) rfl
theorem q159 : (Jvm.Cond.soleField "LeftBehind$Island" "men") ∈ lw_all := lw_g (lw_at lw_m1 99 rfl) rfl
theorem q160 : (Jvm.Cond.laysFinal "LeftBehind$Island" "LeftBehind$Island" "skills" "[I") ∈ lw_all := lw_g (lw_at lw_m1 100 rfl) rfl
theorem q161 : (Jvm.Cond.soleField "LeftBehind$Island" "skills") ∈ lw_all := lw_g (lw_at lw_m1 101 rfl) rfl
theorem q162 : (Jvm.Cond.lays "LeftBehind$Island" "LeftBehind$Island" "many" "I") ∈ lw_all := lw_g (lw_at lw_m1 102 rfl) rfl
theorem q163 : (Jvm.Cond.soleField "LeftBehind$Island" "many") ∈ lw_all := lw_g (lw_at lw_m1 103 rfl) rfl
theorem q164 : (Jvm.Cond.laysFinal "LeftBehind$Island" "LeftBehind$Island" "seen" "[I") ∈ lw_all := lw_g (lw_at lw_m1 104 rfl) rfl
theorem q165 : (Jvm.Cond.soleField "LeftBehind$Island" "seen") ∈ lw_all := lw_g (lw_at lw_m1 105 rfl) rfl
theorem q166 : (Jvm.Cond.lays "LeftBehind$Island" "LeftBehind$Island" "sights" "I") ∈ lw_all := lw_g (lw_at lw_m1 106 rfl) rfl
theorem q167 : (Jvm.Cond.soleField "LeftBehind$Island" "sights") ∈ lw_all := lw_g (lw_at lw_m1 107 rfl) rfl
theorem q168 : (Jvm.Cond.laysFinal "LeftBehind$Island" "LeftBehind$Island" "notes" "[I") ∈ lw_all := lw_g (lw_at lw_m1 108 rfl) rfl
theorem q169 : (Jvm.Cond.soleField "LeftBehind$Island" "notes") ∈ lw_all := lw_g (lw_at lw_m1 109 rfl) rfl
theorem q170 : (Jvm.Cond.lays "LeftBehind$Island" "LeftBehind$Island" "noted" "I") ∈ lw_all := lw_g (lw_at lw_m1 110 rfl) rfl
theorem q171 : (Jvm.Cond.soleField "LeftBehind$Island" "noted") ∈ lw_all := lw_g (lw_at lw_m1 111 rfl) rfl
theorem q172 : (Jvm.Cond.laysFinal "LeftBehind$Island" "LeftBehind$Island" "marks" "[I") ∈ lw_all := lw_g (lw_at lw_m1 112 rfl) rfl
theorem q173 : (Jvm.Cond.soleField "LeftBehind$Island" "marks") ∈ lw_all := lw_g (lw_at lw_m1 113 rfl) rfl
theorem q174 : (Jvm.Cond.lays "LeftBehind$Island" "LeftBehind$Island" "marked" "I") ∈ lw_all := lw_g (lw_at lw_m1 114 rfl) rfl
theorem q175 : (Jvm.Cond.soleField "LeftBehind$Island" "marked") ∈ lw_all := lw_g (lw_at lw_m1 115 rfl) rfl
theorem q176 : (Jvm.Cond.laysFinal "LeftBehind$Island" "LeftBehind$Island" "now" "LLeftBehind$State;") ∈ lw_all := lw_g (lw_at lw_m1 116 rfl) rfl
theorem q177 : (Jvm.Cond.soleField "LeftBehind$Island" "now") ∈ lw_all := lw_g (lw_at lw_m1 117 rfl) rfl
theorem q178 : (Jvm.Cond.laysFinal "LeftBehind$Island" "LeftBehind$Island" "was" "[LLeftBehind$State;") ∈ lw_all := lw_g (lw_at lw_m1 118 rfl) rfl
theorem q179 : (Jvm.Cond.soleField "LeftBehind$Island" "was") ∈ lw_all := lw_g (lw_at lw_m1 119 rfl) rfl
theorem q180 : (Jvm.Cond.lays "LeftBehind$Island" "LeftBehind$Island" "undos" "I") ∈ lw_all := lw_g (lw_at lw_m1 120 rfl) rfl
theorem q181 : (Jvm.Cond.soleField "LeftBehind$Island" "undos") ∈ lw_all := lw_g (lw_at lw_m1 121 rfl) rfl
theorem q182 : (Jvm.Cond.superclass "LeftBehind$Island" "java/lang/Object") ∈ lw_all := lw_g (lw_at lw_m1 122 rfl) rfl
theorem q264 : (Jvm.Cond.instanceMethod ({ cls := "LeftBehind$Island", name := "begins", desc := "()V" } : Jvm.MethodName)) ∈ lw_all := lw_g (lw_at lw_m1 204 rfl) rfl
theorem q265 : (Jvm.Cond.selects "LeftBehind$Island" ({ cls := "LeftBehind$Island", name := "begins", desc := "()V" } : Jvm.MethodName) ({ cls := "LeftBehind$Island", name := "begins", desc := "()V" } : Jvm.MethodName)) ∈ lw_all := lw_g (lw_at lw_m1 205 rfl) rfl
theorem q266 : (Jvm.Cond.code ({ cls := "LeftBehind$Island", name := "begins", desc := "()V" } : Jvm.MethodName) prog_11_method_2_code (1 : Nat) (Option.none : Option Jvm.ClassFile.FieldType)) ∈ lw_all := lw_g (lw_at lw_m1 206 rfl) rfl
theorem q339 : (Jvm.Cond.instanceMethod ({ cls := "LeftBehind$Island", name := "launches", desc := "(I)V" } : Jvm.MethodName)) ∈ lw_all := lw_g (lw_at lw_m2 39 rfl) rfl
theorem q340 : (Jvm.Cond.selects "LeftBehind$Island" ({ cls := "LeftBehind$Island", name := "launches", desc := "(I)V" } : Jvm.MethodName) ({ cls := "LeftBehind$Island", name := "launches", desc := "(I)V" } : Jvm.MethodName)) ∈ lw_all := lw_g (lw_at lw_m2 40 rfl) rfl
theorem q341 : (Jvm.Cond.code ({ cls := "LeftBehind$Island", name := "launches", desc := "(I)V" } : Jvm.MethodName) prog_11_method_3_code (2 : Nat) (Option.none : Option Jvm.ClassFile.FieldType)) ∈ lw_all := lw_g (lw_at lw_m2 41 rfl) rfl
theorem q342 : (Jvm.Cond.fieldLinkNest "LeftBehind$Island" (66 : Nat) "LeftBehind" "SAILS" "[LLeftBehind$Ship;" "LeftBehind") ∈ lw_tbl := lw_at lw_m2 42 rfl
theorem q357 : (Jvm.Cond.instanceMethod ({ cls := "LeftBehind$Island", name := "adds", desc := "(III)V" } : Jvm.MethodName)) ∈ lw_all := lw_g (lw_at lw_m2 57 rfl) rfl
theorem q358 : (Jvm.Cond.selects "LeftBehind$Island" ({ cls := "LeftBehind$Island", name := "adds", desc := "(III)V" } : Jvm.MethodName) ({ cls := "LeftBehind$Island", name := "adds", desc := "(III)V" } : Jvm.MethodName)) ∈ lw_all := lw_g (lw_at lw_m2 58 rfl) rfl
theorem q359 : (Jvm.Cond.code ({ cls := "LeftBehind$Island", name := "adds", desc := "(III)V" } : Jvm.MethodName) prog_11_method_4_code (4 : Nat) (Option.none : Option Jvm.ClassFile.FieldType)) ∈ lw_all := lw_g (lw_at lw_m2 59 rfl) rfl
theorem q360 : (Jvm.Cond.fieldLinkNest "LeftBehind$Island" (72 : Nat) "LeftBehind" "BEACH" "[LLeftBehind$Man;" "LeftBehind") ∈ lw_tbl := lw_at lw_m2 60 rfl
theorem q528 : (Jvm.Cond.instanceMethod ({ cls := "LeftBehind$Island", name := "at", desc := "(LLeftBehind$State;I)I" } : Jvm.MethodName)) ∈ lw_all := lw_g (lw_at lw_m2 228 rfl) rfl
theorem q529 : (Jvm.Cond.selects "LeftBehind$Island" ({ cls := "LeftBehind$Island", name := "at", desc := "(LLeftBehind$State;I)I" } : Jvm.MethodName) ({ cls := "LeftBehind$Island", name := "at", desc := "(LLeftBehind$State;I)I" } : Jvm.MethodName)) ∈ lw_all := lw_g (lw_at lw_m2 229 rfl) rfl
theorem q530 : (Jvm.Cond.code ({ cls := "LeftBehind$Island", name := "at", desc := "(LLeftBehind$State;I)I" } : Jvm.MethodName) prog_11_method_7_code (5 : Nat) (Option.some Jvm.ClassFile.FieldType.int)) ∈ lw_all := lw_g (lw_at lw_m2 230 rfl) rfl
theorem q532 : (Jvm.Cond.instanceMethod ({ cls := "LeftBehind$Island", name := "calls", desc := "(LLeftBehind$State;I)I" } : Jvm.MethodName)) ∈ lw_all := lw_g (lw_at lw_m2 232 rfl) rfl
theorem q533 : (Jvm.Cond.selects "LeftBehind$Island" ({ cls := "LeftBehind$Island", name := "calls", desc := "(LLeftBehind$State;I)I" } : Jvm.MethodName) ({ cls := "LeftBehind$Island", name := "calls", desc := "(LLeftBehind$State;I)I" } : Jvm.MethodName)) ∈ lw_all := lw_g (lw_at lw_m2 233 rfl) rfl
theorem q534 : (Jvm.Cond.code ({ cls := "LeftBehind$Island", name := "calls", desc := "(LLeftBehind$State;I)I" } : Jvm.MethodName) prog_11_method_10_code (4 : Nat) (Option.some Jvm.ClassFile.FieldType.int)) ∈ lw_all := lw_g (lw_at lw_m2 234 rfl) rfl
theorem q535 : (Jvm.Cond.methodLink "LeftBehind$Island" (98 : Nat) ({ cls := "LeftBehind$Island", name := "left", desc := "(LLeftBehind$State;I)I" } : Jvm.MethodName)) ∈ lw_all := lw_g (lw_at lw_m2 235 rfl) rfl
theorem q536 : (Jvm.Cond.instanceMethod ({ cls := "LeftBehind$Island", name := "left", desc := "(LLeftBehind$State;I)I" } : Jvm.MethodName)) ∈ lw_all := lw_g (lw_at lw_m2 236 rfl) rfl
theorem q537 : (Jvm.Cond.selects "LeftBehind$Island" ({ cls := "LeftBehind$Island", name := "left", desc := "(LLeftBehind$State;I)I" } : Jvm.MethodName) ({ cls := "LeftBehind$Island", name := "left", desc := "(LLeftBehind$State;I)I" } : Jvm.MethodName)) ∈ lw_all := lw_g (lw_at lw_m2 237 rfl) rfl
theorem q538 : (Jvm.Cond.code ({ cls := "LeftBehind$Island", name := "left", desc := "(LLeftBehind$State;I)I" } : Jvm.MethodName) prog_11_method_9_code (7 : Nat) (Option.some Jvm.ClassFile.FieldType.int)) ∈ lw_all := lw_g (lw_at lw_m2 238 rfl) rfl
theorem q539 : (Jvm.Cond.constant "LeftBehind$Island" (88 : Nat) (1000000 : Int32)) ∈ lw_all := lw_g (lw_at lw_m2 239 rfl) rfl
theorem q540 : (Jvm.Cond.methodLink "LeftBehind$Island" (89 : Nat) ({ cls := "LeftBehind$Man", name := "liked", desc := "(II)I" } : Jvm.MethodName)) ∈ lw_all := lw_g (lw_at lw_m3 0 rfl) rfl
theorem q573 : (Jvm.Cond.methodLink "LeftBehind$Island" (93 : Nat) ({ cls := "java/lang/Math", name := "min", desc := "(II)I" } : Jvm.MethodName)) ∈ lw_all := lw_g (lw_at lw_m3 33 rfl) rfl
theorem q578 : (Jvm.Cond.instanceMethod ({ cls := "LeftBehind$Island", name := "takes", desc := "(LLeftBehind$Island;)V" } : Jvm.MethodName)) ∈ lw_all := lw_g (lw_at lw_m3 38 rfl) rfl
theorem q579 : (Jvm.Cond.selects "LeftBehind$Island" ({ cls := "LeftBehind$Island", name := "takes", desc := "(LLeftBehind$Island;)V" } : Jvm.MethodName) ({ cls := "LeftBehind$Island", name := "takes", desc := "(LLeftBehind$Island;)V" } : Jvm.MethodName)) ∈ lw_all := lw_g (lw_at lw_m3 39 rfl) rfl
theorem q580 : (Jvm.Cond.code ({ cls := "LeftBehind$Island", name := "takes", desc := "(LLeftBehind$Island;)V" } : Jvm.MethodName) prog_11_method_6_code (3 : Nat) (Option.none : Option Jvm.ClassFile.FieldType)) ∈ lw_all := lw_g (lw_at lw_m3 40 rfl) rfl
theorem q581 : (Jvm.Cond.methodLink "LeftBehind$Island" (82 : Nat) ({ cls := "java/lang/System", name := "arraycopy", desc := "(Ljava/lang/Object;ILjava/lang/Object;II)V" } : Jvm.MethodName)) ∈ lw_all := lw_g (lw_at lw_m3 41 rfl) rfl
theorem q584 : (Jvm.Cond.methodLink "LeftBehind$Island" (78 : Nat) ({ cls := "LeftBehind$State", name := "takes", desc := "(LLeftBehind$State;)V" } : Jvm.MethodName)) ∈ lw_all := lw_g (lw_at lw_m3 44 rfl) rfl
theorem q603 : (Jvm.Cond.instanceMethod ({ cls := "LeftBehind$Island", name := "remembers", desc := "()V" } : Jvm.MethodName)) ∈ lw_all := lw_g (lw_at lw_m3 63 rfl) rfl
theorem q604 : (Jvm.Cond.selects "LeftBehind$Island" ({ cls := "LeftBehind$Island", name := "remembers", desc := "()V" } : Jvm.MethodName) ({ cls := "LeftBehind$Island", name := "remembers", desc := "()V" } : Jvm.MethodName)) ∈ lw_all := lw_g (lw_at lw_m3 64 rfl) rfl
theorem q605 : (Jvm.Cond.code ({ cls := "LeftBehind$Island", name := "remembers", desc := "()V" } : Jvm.MethodName) prog_11_method_5_code (2 : Nat) (Option.none : Option Jvm.ClassFile.FieldType)) ∈ lw_all := lw_g (lw_at lw_m3 65 rfl) rfl
theorem q684 : (Jvm.Cond.instanceMethod ({ cls := "LeftBehind$Island", name := "skillOf", desc := "(I)I" } : Jvm.MethodName)) ∈ lw_all := lw_g (lw_at lw_m3 144 rfl) rfl
theorem q685 : (Jvm.Cond.selects "LeftBehind$Island" ({ cls := "LeftBehind$Island", name := "skillOf", desc := "(I)I" } : Jvm.MethodName) ({ cls := "LeftBehind$Island", name := "skillOf", desc := "(I)I" } : Jvm.MethodName)) ∈ lw_all := lw_g (lw_at lw_m3 145 rfl) rfl
theorem q686 : (Jvm.Cond.code ({ cls := "LeftBehind$Island", name := "skillOf", desc := "(I)I" } : Jvm.MethodName) prog_11_method_8_code (4 : Nat) (Option.some Jvm.ClassFile.FieldType.int)) ∈ lw_all := lw_g (lw_at lw_m3 146 rfl) rfl
theorem q701 : (Jvm.Cond.instanceMethod ({ cls := "LeftBehind$Island", name := "needs", desc := "(LLeftBehind$State;II)I" } : Jvm.MethodName)) ∈ lw_all := lw_g (lw_at lw_m3 161 rfl) rfl
theorem q702 : (Jvm.Cond.selects "LeftBehind$Island" ({ cls := "LeftBehind$Island", name := "needs", desc := "(LLeftBehind$State;II)I" } : Jvm.MethodName) ({ cls := "LeftBehind$Island", name := "needs", desc := "(LLeftBehind$State;II)I" } : Jvm.MethodName)) ∈ lw_all := lw_g (lw_at lw_m3 162 rfl) rfl
theorem q703 : (Jvm.Cond.code ({ cls := "LeftBehind$Island", name := "needs", desc := "(LLeftBehind$State;II)I" } : Jvm.MethodName) prog_11_method_11_code (4 : Nat) (Option.some Jvm.ClassFile.FieldType.int)) ∈ lw_all := lw_g (lw_at lw_m3 163 rfl) rfl
theorem q704 : (Jvm.Cond.methodLink "LeftBehind$Island" (102 : Nat) ({ cls := "LeftBehind$Island", name := "at", desc := "(LLeftBehind$State;I)I" } : Jvm.MethodName)) ∈ lw_all := lw_g (lw_at lw_m3 164 rfl) rfl
theorem q705 : (Jvm.Cond.methodLink "LeftBehind$Island" (105 : Nat) ({ cls := "java/lang/Integer", name := "bitCount", desc := "(I)I" } : Jvm.MethodName)) ∈ lw_all := lw_g (lw_at lw_m3 165 rfl) rfl
theorem q706 : (Jvm.Cond.methodLink "LeftBehind$Island" (111 : Nat) ({ cls := "LeftBehind$Ship", name := "needs", desc := "(II)I" } : Jvm.MethodName)) ∈ lw_all := lw_g (lw_at lw_m3 166 rfl) rfl
theorem q743 : (Jvm.Cond.instanceMethod ({ cls := "LeftBehind$Island", name := "can", desc := "(LLeftBehind$State;II)Z" } : Jvm.MethodName)) ∈ lw_all := lw_g (lw_at lw_m3 203 rfl) rfl
theorem q744 : (Jvm.Cond.selects "LeftBehind$Island" ({ cls := "LeftBehind$Island", name := "can", desc := "(LLeftBehind$State;II)Z" } : Jvm.MethodName) ({ cls := "LeftBehind$Island", name := "can", desc := "(LLeftBehind$State;II)Z" } : Jvm.MethodName)) ∈ lw_all := lw_g (lw_at lw_m3 204 rfl) rfl
theorem q745 : (Jvm.Cond.code ({ cls := "LeftBehind$Island", name := "can", desc := "(LLeftBehind$State;II)Z" } : Jvm.MethodName) prog_11_method_12_code (5 : Nat) (Option.some Jvm.ClassFile.FieldType.boolean)) ∈ lw_all := lw_g (lw_at lw_m3 205 rfl) rfl
theorem q746 : (Jvm.Cond.methodLink "LeftBehind$Island" (114 : Nat) ({ cls := "LeftBehind$Island", name := "skillOf", desc := "(I)I" } : Jvm.MethodName)) ∈ lw_all := lw_g (lw_at lw_m3 206 rfl) rfl
theorem q747 : (Jvm.Cond.methodLink "LeftBehind$Island" (117 : Nat) ({ cls := "LeftBehind$Island", name := "needs", desc := "(LLeftBehind$State;II)I" } : Jvm.MethodName)) ∈ lw_all := lw_g (lw_at lw_m3 207 rfl) rfl
theorem in_X1 : ∀ w ∈ wsX10, w ∈ lw_all := lw_in wsX10 [154, 156, 158, 160, 162, 164, 166, 168, 170, 172, 174, 176, 178, 180] (by decide +kernel) (by decide +kernel)

/-! LeftBehind$Cook -/
set_option maxRecDepth 100000
def RX10 : String := "LeftBehind$Cook"
abbrev cX10_liked : ByteArray := prog_7_method_3_code
def yX10_liked : MethodName := ⟨RX10, "liked", "(II)I"⟩
def dkwX10_liked_0 : List UInt8 := [42, 27, 28, 183, 0, 7, 8, 96, 172]
abbrev dktX10_liked_0 : List UInt8 := dkwX10_liked_0 ++ []
theorem dksX10_liked_0 : cX10_liked.data.toList.drop 0 = dktX10_liked_0 := by decide +kernel
theorem dX10_liked_0 : decode cX10_liked 0 = .ok (.aload_n 0, 1) := dk_42 (dk_at dksX10_liked_0 0 rfl rfl)
theorem dX10_liked_1 : decode cX10_liked 1 = .ok (.iload_n 1, 1) := dk_27 (dk_at dksX10_liked_0 1 rfl rfl)
theorem dX10_liked_2 : decode cX10_liked 2 = .ok (.iload_n 2, 1) := dk_28 (dk_at dksX10_liked_0 2 rfl rfl)
theorem dX10_liked_3 : decode cX10_liked 3 = .ok (.invokespecial 7, 3) := dk_183 0 7 (dk_at dksX10_liked_0 3 rfl rfl)
theorem dX10_liked_6 : decode cX10_liked 6 = .ok (.iconst 5, 1) := dk_8 (dk_at dksX10_liked_0 6 rfl rfl)
theorem dX10_liked_7 : decode cX10_liked 7 = .ok (.iadd, 1) := dk_96 (dk_at dksX10_liked_0 7 rfl rfl)
theorem dX10_liked_8 : decode cX10_liked 8 = .ok (.ireturn, 1) := dk_172 (dk_at dksX10_liked_0 8 rfl rfl)
abbrev cX10_kind : ByteArray := prog_7_method_2_code
def yX10_kind : MethodName := ⟨RX10, "kind", "()I"⟩
theorem dX10_kind_0 : decode cX10_kind 0 = .ok (.iconst 1, 1) := by decide +kernel
theorem dX10_kind_1 : decode cX10_kind 1 = .ok (.ireturn, 1) := by decide +kernel
theorem q549 : (Jvm.Cond.instanceMethod ({ cls := "LeftBehind$Cook", name := "liked", desc := "(II)I" } : Jvm.MethodName)) ∈ lw_all := lw_g (lw_at lw_m3 9 rfl) rfl
theorem q550 : (Jvm.Cond.code ({ cls := "LeftBehind$Cook", name := "liked", desc := "(II)I" } : Jvm.MethodName) prog_7_method_3_code (3 : Nat) (Option.some Jvm.ClassFile.FieldType.int)) ∈ lw_all := lw_g (lw_at lw_m3 10 rfl) rfl
theorem q551 : (Jvm.Cond.methodLink "LeftBehind$Cook" (7 : Nat) ({ cls := "LeftBehind$Man", name := "liked", desc := "(II)I" } : Jvm.MethodName)) ∈ lw_all := lw_g (lw_at lw_m3 11 rfl) rfl
theorem q552 : (Jvm.Cond.superclass "LeftBehind$Cook" "LeftBehind$Man") ∈ lw_all := lw_g (lw_at lw_m3 12 rfl) rfl
theorem q570 : (Jvm.Cond.selects "LeftBehind$Cook" ({ cls := "LeftBehind$Man", name := "liked", desc := "(II)I" } : Jvm.MethodName) ({ cls := "LeftBehind$Cook", name := "liked", desc := "(II)I" } : Jvm.MethodName)) ∈ lw_all := lw_g (lw_at lw_m3 30 rfl) rfl
theorem q647 : (Jvm.Cond.selects "LeftBehind$Cook" ({ cls := "LeftBehind$Man", name := "kind", desc := "()I" } : Jvm.MethodName) ({ cls := "LeftBehind$Cook", name := "kind", desc := "()I" } : Jvm.MethodName)) ∈ lw_all := lw_g (lw_at lw_m3 107 rfl) rfl
theorem q648 : (Jvm.Cond.instanceMethod ({ cls := "LeftBehind$Cook", name := "kind", desc := "()I" } : Jvm.MethodName)) ∈ lw_all := lw_g (lw_at lw_m3 108 rfl) rfl
theorem q649 : (Jvm.Cond.code ({ cls := "LeftBehind$Cook", name := "kind", desc := "()I" } : Jvm.MethodName) prog_7_method_2_code (1 : Nat) (Option.some Jvm.ClassFile.FieldType.int)) ∈ lw_all := lw_g (lw_at lw_m3 109 rfl) rfl
theorem q1360 : (Jvm.Cond.sameMethod "LeftBehind$Cook" "LeftBehind$Cook" "liked" "(II)I") ∈ lw_all := lw_g (lw_at lw_m6 100 rfl) rfl
theorem q1369 : (Jvm.Cond.castable "LeftBehind$Cook" "LeftBehind$Man") ∈ lw_tbl := lw_at lw_m6 109 rfl

/-! LeftBehind$Cadiz -/
set_option maxRecDepth 100000
def RX11 : String := "LeftBehind$Cadiz"
abbrev cX11_liked : ByteArray := prog_5_method_3_code
def yX11_liked : MethodName := ⟨RX11, "liked", "(II)I"⟩
def dkwX11_liked_0 : List UInt8 := [28, 6, 162, 0, 7, 3, 167, 0, 9, 42, 27, 28, 183, 0, 7, 172]
abbrev dktX11_liked_0 : List UInt8 := dkwX11_liked_0 ++ []
theorem dksX11_liked_0 : cX11_liked.data.toList.drop 0 = dktX11_liked_0 := by decide +kernel
theorem dX11_liked_0 : decode cX11_liked 0 = .ok (.iload_n 2, 1) := dk_28 (dk_at dksX11_liked_0 0 rfl rfl)
theorem dX11_liked_1 : decode cX11_liked 1 = .ok (.iconst 3, 1) := dk_6 (dk_at dksX11_liked_0 1 rfl rfl)
theorem dX11_liked_2 : decode cX11_liked 2 = .ok (.if_icmp .ge 7, 3) := dk_162 0 7 (dk_at dksX11_liked_0 2 rfl rfl)
theorem dX11_liked_5 : decode cX11_liked 5 = .ok (.iconst 0, 1) := dk_3 (dk_at dksX11_liked_0 5 rfl rfl)
theorem dX11_liked_6 : decode cX11_liked 6 = .ok (.goto 9, 3) := dk_167 0 9 (dk_at dksX11_liked_0 6 rfl rfl)
theorem dX11_liked_9 : decode cX11_liked 9 = .ok (.aload_n 0, 1) := dk_42 (dk_at dksX11_liked_0 9 rfl rfl)
theorem dX11_liked_10 : decode cX11_liked 10 = .ok (.iload_n 1, 1) := dk_27 (dk_at dksX11_liked_0 10 rfl rfl)
theorem dX11_liked_11 : decode cX11_liked 11 = .ok (.iload_n 2, 1) := dk_28 (dk_at dksX11_liked_0 11 rfl rfl)
theorem dX11_liked_12 : decode cX11_liked 12 = .ok (.invokespecial 7, 3) := dk_183 0 7 (dk_at dksX11_liked_0 12 rfl rfl)
theorem dX11_liked_15 : decode cX11_liked 15 = .ok (.ireturn, 1) := dk_172 (dk_at dksX11_liked_0 15 rfl rfl)
abbrev cX11_kind : ByteArray := prog_5_method_2_code
def yX11_kind : MethodName := ⟨RX11, "kind", "()I"⟩
theorem dX11_kind_0 : decode cX11_kind 0 = .ok (.iconst 4, 1) := by decide +kernel
theorem dX11_kind_1 : decode cX11_kind 1 = .ok (.ireturn, 1) := by decide +kernel
theorem q553 : (Jvm.Cond.selects "LeftBehind$Cadiz" ({ cls := "LeftBehind$Man", name := "liked", desc := "(II)I" } : Jvm.MethodName) ({ cls := "LeftBehind$Cadiz", name := "liked", desc := "(II)I" } : Jvm.MethodName)) ∈ lw_all := lw_g (lw_at lw_m3 13 rfl) rfl
theorem q554 : (Jvm.Cond.instanceMethod ({ cls := "LeftBehind$Cadiz", name := "liked", desc := "(II)I" } : Jvm.MethodName)) ∈ lw_all := lw_g (lw_at lw_m3 14 rfl) rfl
theorem q555 : (Jvm.Cond.code ({ cls := "LeftBehind$Cadiz", name := "liked", desc := "(II)I" } : Jvm.MethodName) prog_5_method_3_code (3 : Nat) (Option.some Jvm.ClassFile.FieldType.int)) ∈ lw_all := lw_g (lw_at lw_m3 15 rfl) rfl
theorem q556 : (Jvm.Cond.methodLink "LeftBehind$Cadiz" (7 : Nat) ({ cls := "LeftBehind$Man", name := "liked", desc := "(II)I" } : Jvm.MethodName)) ∈ lw_all := lw_g (lw_at lw_m3 16 rfl) rfl
theorem q557 : (Jvm.Cond.superclass "LeftBehind$Cadiz" "LeftBehind$Man") ∈ lw_all := lw_g (lw_at lw_m3 17 rfl) rfl
theorem q641 : (Jvm.Cond.selects "LeftBehind$Cadiz" ({ cls := "LeftBehind$Man", name := "kind", desc := "()I" } : Jvm.MethodName) ({ cls := "LeftBehind$Cadiz", name := "kind", desc := "()I" } : Jvm.MethodName)) ∈ lw_all := lw_g (lw_at lw_m3 101 rfl) rfl
theorem q642 : (Jvm.Cond.instanceMethod ({ cls := "LeftBehind$Cadiz", name := "kind", desc := "()I" } : Jvm.MethodName)) ∈ lw_all := lw_g (lw_at lw_m3 102 rfl) rfl
theorem q643 : (Jvm.Cond.code ({ cls := "LeftBehind$Cadiz", name := "kind", desc := "()I" } : Jvm.MethodName) prog_5_method_2_code (1 : Nat) (Option.some Jvm.ClassFile.FieldType.int)) ∈ lw_all := lw_g (lw_at lw_m3 103 rfl) rfl
theorem q1372 : (Jvm.Cond.castable "LeftBehind$Cadiz" "LeftBehind$Man") ∈ lw_tbl := lw_at lw_m6 112 rfl

/-! LeftBehind$Captain -/
set_option maxRecDepth 100000
def RX12 : String := "LeftBehind$Captain"
abbrev cX12_liked : ByteArray := prog_6_method_3_code
def yX12_liked : MethodName := ⟨RX12, "liked", "(II)I"⟩
def dkwX12_liked_0 : List UInt8 := [28, 8, 112, 7, 160, 0, 7, 3, 167, 0, 12, 42, 27, 28, 183, 0, 7, 16, 9, 96, 172]
abbrev dktX12_liked_0 : List UInt8 := dkwX12_liked_0 ++ []
theorem dksX12_liked_0 : cX12_liked.data.toList.drop 0 = dktX12_liked_0 := by decide +kernel
theorem dX12_liked_0 : decode cX12_liked 0 = .ok (.iload_n 2, 1) := dk_28 (dk_at dksX12_liked_0 0 rfl rfl)
theorem dX12_liked_1 : decode cX12_liked 1 = .ok (.iconst 5, 1) := dk_8 (dk_at dksX12_liked_0 1 rfl rfl)
theorem dX12_liked_2 : decode cX12_liked 2 = .ok (.irem, 1) := dk_112 (dk_at dksX12_liked_0 2 rfl rfl)
theorem dX12_liked_3 : decode cX12_liked 3 = .ok (.iconst 4, 1) := dk_7 (dk_at dksX12_liked_0 3 rfl rfl)
theorem dX12_liked_4 : decode cX12_liked 4 = .ok (.if_icmp .ne 7, 3) := dk_160 0 7 (dk_at dksX12_liked_0 4 rfl rfl)
theorem dX12_liked_7 : decode cX12_liked 7 = .ok (.iconst 0, 1) := dk_3 (dk_at dksX12_liked_0 7 rfl rfl)
theorem dX12_liked_8 : decode cX12_liked 8 = .ok (.goto 12, 3) := dk_167 0 12 (dk_at dksX12_liked_0 8 rfl rfl)
theorem dX12_liked_11 : decode cX12_liked 11 = .ok (.aload_n 0, 1) := dk_42 (dk_at dksX12_liked_0 11 rfl rfl)
theorem dX12_liked_12 : decode cX12_liked 12 = .ok (.iload_n 1, 1) := dk_27 (dk_at dksX12_liked_0 12 rfl rfl)
theorem dX12_liked_13 : decode cX12_liked 13 = .ok (.iload_n 2, 1) := dk_28 (dk_at dksX12_liked_0 13 rfl rfl)
theorem dX12_liked_14 : decode cX12_liked 14 = .ok (.invokespecial 7, 3) := dk_183 0 7 (dk_at dksX12_liked_0 14 rfl rfl)
theorem dX12_liked_17 : decode cX12_liked 17 = .ok (.bipush 9, 2) := dk_16 9 (dk_at dksX12_liked_0 17 rfl rfl)
theorem dX12_liked_19 : decode cX12_liked 19 = .ok (.iadd, 1) := dk_96 (dk_at dksX12_liked_0 19 rfl rfl)
theorem dX12_liked_20 : decode cX12_liked 20 = .ok (.ireturn, 1) := dk_172 (dk_at dksX12_liked_0 20 rfl rfl)
abbrev cX12_kind : ByteArray := prog_6_method_2_code
def yX12_kind : MethodName := ⟨RX12, "kind", "()I"⟩
theorem dX12_kind_0 : decode cX12_kind 0 = .ok (.iconst 5, 1) := by decide +kernel
theorem dX12_kind_1 : decode cX12_kind 1 = .ok (.ireturn, 1) := by decide +kernel
theorem q558 : (Jvm.Cond.selects "LeftBehind$Captain" ({ cls := "LeftBehind$Man", name := "liked", desc := "(II)I" } : Jvm.MethodName) ({ cls := "LeftBehind$Captain", name := "liked", desc := "(II)I" } : Jvm.MethodName)) ∈ lw_all := lw_g (lw_at lw_m3 18 rfl) rfl
theorem q559 : (Jvm.Cond.instanceMethod ({ cls := "LeftBehind$Captain", name := "liked", desc := "(II)I" } : Jvm.MethodName)) ∈ lw_all := lw_g (lw_at lw_m3 19 rfl) rfl
theorem q560 : (Jvm.Cond.code ({ cls := "LeftBehind$Captain", name := "liked", desc := "(II)I" } : Jvm.MethodName) prog_6_method_3_code (3 : Nat) (Option.some Jvm.ClassFile.FieldType.int)) ∈ lw_all := lw_g (lw_at lw_m3 20 rfl) rfl
theorem q561 : (Jvm.Cond.methodLink "LeftBehind$Captain" (7 : Nat) ({ cls := "LeftBehind$Mate", name := "liked", desc := "(II)I" } : Jvm.MethodName)) ∈ lw_all := lw_g (lw_at lw_m3 21 rfl) rfl
theorem q562 : (Jvm.Cond.superclass "LeftBehind$Captain" "LeftBehind$Mate") ∈ lw_all := lw_g (lw_at lw_m3 22 rfl) rfl
theorem q644 : (Jvm.Cond.selects "LeftBehind$Captain" ({ cls := "LeftBehind$Man", name := "kind", desc := "()I" } : Jvm.MethodName) ({ cls := "LeftBehind$Captain", name := "kind", desc := "()I" } : Jvm.MethodName)) ∈ lw_all := lw_g (lw_at lw_m3 104 rfl) rfl
theorem q645 : (Jvm.Cond.instanceMethod ({ cls := "LeftBehind$Captain", name := "kind", desc := "()I" } : Jvm.MethodName)) ∈ lw_all := lw_g (lw_at lw_m3 105 rfl) rfl
theorem q646 : (Jvm.Cond.code ({ cls := "LeftBehind$Captain", name := "kind", desc := "()I" } : Jvm.MethodName) prog_6_method_2_code (1 : Nat) (Option.some Jvm.ClassFile.FieldType.int)) ∈ lw_all := lw_g (lw_at lw_m3 106 rfl) rfl
theorem q1373 : (Jvm.Cond.castable "LeftBehind$Captain" "LeftBehind$Man") ∈ lw_tbl := lw_at lw_m6 113 rfl

/-! LeftBehind$Mate -/
set_option maxRecDepth 100000
def RX13 : String := "LeftBehind$Mate"
abbrev cX13_liked : ByteArray := prog_13_method_3_code
def yX13_liked : MethodName := ⟨RX13, "liked", "(II)I"⟩
def dkwX13_liked_0 : List UInt8 := [3, 42, 27, 28, 183, 0, 7, 28, 100, 184, 0, 11, 172]
abbrev dktX13_liked_0 : List UInt8 := dkwX13_liked_0 ++ []
theorem dksX13_liked_0 : cX13_liked.data.toList.drop 0 = dktX13_liked_0 := by decide +kernel
theorem dX13_liked_0 : decode cX13_liked 0 = .ok (.iconst 0, 1) := dk_3 (dk_at dksX13_liked_0 0 rfl rfl)
theorem dX13_liked_1 : decode cX13_liked 1 = .ok (.aload_n 0, 1) := dk_42 (dk_at dksX13_liked_0 1 rfl rfl)
theorem dX13_liked_2 : decode cX13_liked 2 = .ok (.iload_n 1, 1) := dk_27 (dk_at dksX13_liked_0 2 rfl rfl)
theorem dX13_liked_3 : decode cX13_liked 3 = .ok (.iload_n 2, 1) := dk_28 (dk_at dksX13_liked_0 3 rfl rfl)
theorem dX13_liked_4 : decode cX13_liked 4 = .ok (.invokespecial 7, 3) := dk_183 0 7 (dk_at dksX13_liked_0 4 rfl rfl)
theorem dX13_liked_7 : decode cX13_liked 7 = .ok (.iload_n 2, 1) := dk_28 (dk_at dksX13_liked_0 7 rfl rfl)
theorem dX13_liked_8 : decode cX13_liked 8 = .ok (.isub, 1) := dk_100 (dk_at dksX13_liked_0 8 rfl rfl)
theorem dX13_liked_9 : decode cX13_liked 9 = .ok (.invokestatic 11, 3) := dk_184 0 11 (dk_at dksX13_liked_0 9 rfl rfl)
theorem dX13_liked_12 : decode cX13_liked 12 = .ok (.ireturn, 1) := dk_172 (dk_at dksX13_liked_0 12 rfl rfl)
abbrev cX13_kind : ByteArray := prog_13_method_2_code
def yX13_kind : MethodName := ⟨RX13, "kind", "()I"⟩
theorem dX13_kind_0 : decode cX13_kind 0 = .ok (.iconst 2, 1) := by decide +kernel
theorem dX13_kind_1 : decode cX13_kind 1 = .ok (.ireturn, 1) := by decide +kernel
theorem q563 : (Jvm.Cond.instanceMethod ({ cls := "LeftBehind$Mate", name := "liked", desc := "(II)I" } : Jvm.MethodName)) ∈ lw_all := lw_g (lw_at lw_m3 23 rfl) rfl
theorem q564 : (Jvm.Cond.code ({ cls := "LeftBehind$Mate", name := "liked", desc := "(II)I" } : Jvm.MethodName) prog_13_method_3_code (3 : Nat) (Option.some Jvm.ClassFile.FieldType.int)) ∈ lw_all := lw_g (lw_at lw_m3 24 rfl) rfl
theorem q565 : (Jvm.Cond.methodLink "LeftBehind$Mate" (7 : Nat) ({ cls := "LeftBehind$Man", name := "liked", desc := "(II)I" } : Jvm.MethodName)) ∈ lw_all := lw_g (lw_at lw_m3 25 rfl) rfl
theorem q566 : (Jvm.Cond.superclass "LeftBehind$Mate" "LeftBehind$Man") ∈ lw_all := lw_g (lw_at lw_m3 26 rfl) rfl
theorem q567 : (Jvm.Cond.methodLink "LeftBehind$Mate" (11 : Nat) ({ cls := "java/lang/Math", name := "max", desc := "(II)I" } : Jvm.MethodName)) ∈ lw_all := lw_g (lw_at lw_m3 27 rfl) rfl
theorem q571 : (Jvm.Cond.selects "LeftBehind$Mate" ({ cls := "LeftBehind$Man", name := "liked", desc := "(II)I" } : Jvm.MethodName) ({ cls := "LeftBehind$Mate", name := "liked", desc := "(II)I" } : Jvm.MethodName)) ∈ lw_all := lw_g (lw_at lw_m3 31 rfl) rfl
theorem q650 : (Jvm.Cond.selects "LeftBehind$Mate" ({ cls := "LeftBehind$Man", name := "kind", desc := "()I" } : Jvm.MethodName) ({ cls := "LeftBehind$Mate", name := "kind", desc := "()I" } : Jvm.MethodName)) ∈ lw_all := lw_g (lw_at lw_m3 110 rfl) rfl
theorem q651 : (Jvm.Cond.instanceMethod ({ cls := "LeftBehind$Mate", name := "kind", desc := "()I" } : Jvm.MethodName)) ∈ lw_all := lw_g (lw_at lw_m3 111 rfl) rfl
theorem q652 : (Jvm.Cond.code ({ cls := "LeftBehind$Mate", name := "kind", desc := "()I" } : Jvm.MethodName) prog_13_method_2_code (1 : Nat) (Option.some Jvm.ClassFile.FieldType.int)) ∈ lw_all := lw_g (lw_at lw_m3 112 rfl) rfl
theorem q1361 : (Jvm.Cond.sameMethod "LeftBehind$Mate" "LeftBehind$Mate" "liked" "(II)I") ∈ lw_all := lw_g (lw_at lw_m6 101 rfl) rfl
theorem q1370 : (Jvm.Cond.castable "LeftBehind$Mate" "LeftBehind$Man") ∈ lw_tbl := lw_at lw_m6 110 rfl

/-! LeftBehind$Ship -/
set_option maxRecDepth 100000
def RX14 : String := "LeftBehind$Ship"
abbrev cX14_kind : ByteArray := prog_16_method_2_code
def yX14_kind : MethodName := ⟨RX14, "kind", "()I"⟩
theorem dX14_kind_0 : decode cX14_kind 0 = .ok (.iconst 0, 1) := by decide +kernel
theorem dX14_kind_1 : decode cX14_kind 1 = .ok (.ireturn, 1) := by decide +kernel
abbrev cX14_needs : ByteArray := prog_16_method_3_code
def yX14_needs : MethodName := ⟨RX14, "needs", "(II)I"⟩
def dkwX14_needs_0 : List UInt8 := [5, 27, 104, 172]
abbrev dktX14_needs_0 : List UInt8 := dkwX14_needs_0 ++ []
theorem dksX14_needs_0 : cX14_needs.data.toList.drop 0 = dktX14_needs_0 := by decide +kernel
theorem dX14_needs_0 : decode cX14_needs 0 = .ok (.iconst 2, 1) := dk_5 (dk_at dksX14_needs_0 0 rfl rfl)
theorem dX14_needs_1 : decode cX14_needs 1 = .ok (.iload_n 1, 1) := dk_27 (dk_at dksX14_needs_0 1 rfl rfl)
theorem dX14_needs_2 : decode cX14_needs 2 = .ok (.imul, 1) := dk_104 (dk_at dksX14_needs_0 2 rfl rfl)
theorem dX14_needs_3 : decode cX14_needs 3 = .ok (.ireturn, 1) := dk_172 (dk_at dksX14_needs_0 3 rfl rfl)
theorem q664 : (Jvm.Cond.instanceMethod ({ cls := "LeftBehind$Ship", name := "kind", desc := "()I" } : Jvm.MethodName)) ∈ lw_all := lw_g (lw_at lw_m3 124 rfl) rfl
theorem q665 : (Jvm.Cond.selects "LeftBehind$Ship" ({ cls := "LeftBehind$Ship", name := "kind", desc := "()I" } : Jvm.MethodName) ({ cls := "LeftBehind$Ship", name := "kind", desc := "()I" } : Jvm.MethodName)) ∈ lw_all := lw_g (lw_at lw_m3 125 rfl) rfl
theorem q666 : (Jvm.Cond.sameMethod "LeftBehind$Ship" "LeftBehind$Ship" "kind" "()I") ∈ lw_all := lw_g (lw_at lw_m3 126 rfl) rfl
theorem q682 : (Jvm.Cond.code ({ cls := "LeftBehind$Ship", name := "kind", desc := "()I" } : Jvm.MethodName) prog_16_method_2_code (1 : Nat) (Option.some Jvm.ClassFile.FieldType.int)) ∈ lw_all := lw_g (lw_at lw_m3 142 rfl) rfl
theorem q707 : (Jvm.Cond.instanceMethod ({ cls := "LeftBehind$Ship", name := "needs", desc := "(II)I" } : Jvm.MethodName)) ∈ lw_all := lw_g (lw_at lw_m3 167 rfl) rfl
theorem q708 : (Jvm.Cond.selects "LeftBehind$Ship" ({ cls := "LeftBehind$Ship", name := "needs", desc := "(II)I" } : Jvm.MethodName) ({ cls := "LeftBehind$Ship", name := "needs", desc := "(II)I" } : Jvm.MethodName)) ∈ lw_all := lw_g (lw_at lw_m3 168 rfl) rfl
theorem q709 : (Jvm.Cond.sameMethod "LeftBehind$Ship" "LeftBehind$Ship" "needs" "(II)I") ∈ lw_all := lw_g (lw_at lw_m3 169 rfl) rfl
theorem q737 : (Jvm.Cond.code ({ cls := "LeftBehind$Ship", name := "needs", desc := "(II)I" } : Jvm.MethodName) prog_16_method_3_code (3 : Nat) (Option.some Jvm.ClassFile.FieldType.int)) ∈ lw_all := lw_g (lw_at lw_m3 197 rfl) rfl

/-! LeftBehind$Boat -/
set_option maxRecDepth 100000
def RX15 : String := "LeftBehind$Boat"
abbrev cX15_kind : ByteArray := prog_2_method_2_code
def yX15_kind : MethodName := ⟨RX15, "kind", "()I"⟩
theorem dX15_kind_0 : decode cX15_kind 0 = .ok (.iconst 5, 1) := by decide +kernel
theorem dX15_kind_1 : decode cX15_kind 1 = .ok (.ireturn, 1) := by decide +kernel
abbrev cX15_needs : ByteArray := prog_2_method_3_code
def yX15_needs : MethodName := ⟨RX15, "needs", "(II)I"⟩
def dkwX15_needs_0 : List UInt8 := [42, 27, 28, 183, 0, 7, 62, 28, 5, 163, 0, 12, 16, 9, 29, 184, 0, 11, 167, 0, 4, 29, 172]
abbrev dktX15_needs_0 : List UInt8 := dkwX15_needs_0 ++ []
theorem dksX15_needs_0 : cX15_needs.data.toList.drop 0 = dktX15_needs_0 := by decide +kernel
theorem dX15_needs_0 : decode cX15_needs 0 = .ok (.aload_n 0, 1) := dk_42 (dk_at dksX15_needs_0 0 rfl rfl)
theorem dX15_needs_1 : decode cX15_needs 1 = .ok (.iload_n 1, 1) := dk_27 (dk_at dksX15_needs_0 1 rfl rfl)
theorem dX15_needs_2 : decode cX15_needs 2 = .ok (.iload_n 2, 1) := dk_28 (dk_at dksX15_needs_0 2 rfl rfl)
theorem dX15_needs_3 : decode cX15_needs 3 = .ok (.invokespecial 7, 3) := dk_183 0 7 (dk_at dksX15_needs_0 3 rfl rfl)
theorem dX15_needs_6 : decode cX15_needs 6 = .ok (.istore_n 3, 1) := dk_62 (dk_at dksX15_needs_0 6 rfl rfl)
theorem dX15_needs_7 : decode cX15_needs 7 = .ok (.iload_n 2, 1) := dk_28 (dk_at dksX15_needs_0 7 rfl rfl)
theorem dX15_needs_8 : decode cX15_needs 8 = .ok (.iconst 2, 1) := dk_5 (dk_at dksX15_needs_0 8 rfl rfl)
theorem dX15_needs_9 : decode cX15_needs 9 = .ok (.if_icmp .gt 12, 3) := dk_163 0 12 (dk_at dksX15_needs_0 9 rfl rfl)
theorem dX15_needs_12 : decode cX15_needs 12 = .ok (.bipush 9, 2) := dk_16 9 (dk_at dksX15_needs_0 12 rfl rfl)
theorem dX15_needs_14 : decode cX15_needs 14 = .ok (.iload_n 3, 1) := dk_29 (dk_at dksX15_needs_0 14 rfl rfl)
theorem dX15_needs_15 : decode cX15_needs 15 = .ok (.invokestatic 11, 3) := dk_184 0 11 (dk_at dksX15_needs_0 15 rfl rfl)
theorem dX15_needs_18 : decode cX15_needs 18 = .ok (.goto 4, 3) := dk_167 0 4 (dk_at dksX15_needs_0 18 rfl rfl)
theorem dX15_needs_21 : decode cX15_needs 21 = .ok (.iload_n 3, 1) := dk_29 (dk_at dksX15_needs_0 21 rfl rfl)
theorem dX15_needs_22 : decode cX15_needs 22 = .ok (.ireturn, 1) := dk_172 (dk_at dksX15_needs_0 22 rfl rfl)
theorem q667 : (Jvm.Cond.selects "LeftBehind$Boat" ({ cls := "LeftBehind$Ship", name := "kind", desc := "()I" } : Jvm.MethodName) ({ cls := "LeftBehind$Boat", name := "kind", desc := "()I" } : Jvm.MethodName)) ∈ lw_all := lw_g (lw_at lw_m3 127 rfl) rfl
theorem q668 : (Jvm.Cond.instanceMethod ({ cls := "LeftBehind$Boat", name := "kind", desc := "()I" } : Jvm.MethodName)) ∈ lw_all := lw_g (lw_at lw_m3 128 rfl) rfl
theorem q669 : (Jvm.Cond.code ({ cls := "LeftBehind$Boat", name := "kind", desc := "()I" } : Jvm.MethodName) prog_2_method_2_code (1 : Nat) (Option.some Jvm.ClassFile.FieldType.int)) ∈ lw_all := lw_g (lw_at lw_m3 129 rfl) rfl
theorem q710 : (Jvm.Cond.selects "LeftBehind$Boat" ({ cls := "LeftBehind$Ship", name := "needs", desc := "(II)I" } : Jvm.MethodName) ({ cls := "LeftBehind$Boat", name := "needs", desc := "(II)I" } : Jvm.MethodName)) ∈ lw_all := lw_g (lw_at lw_m3 170 rfl) rfl
theorem q711 : (Jvm.Cond.instanceMethod ({ cls := "LeftBehind$Boat", name := "needs", desc := "(II)I" } : Jvm.MethodName)) ∈ lw_all := lw_g (lw_at lw_m3 171 rfl) rfl
theorem q712 : (Jvm.Cond.code ({ cls := "LeftBehind$Boat", name := "needs", desc := "(II)I" } : Jvm.MethodName) prog_2_method_3_code (4 : Nat) (Option.some Jvm.ClassFile.FieldType.int)) ∈ lw_all := lw_g (lw_at lw_m3 172 rfl) rfl
theorem q713 : (Jvm.Cond.methodLink "LeftBehind$Boat" (7 : Nat) ({ cls := "LeftBehind$Sloop", name := "needs", desc := "(II)I" } : Jvm.MethodName)) ∈ lw_all := lw_g (lw_at lw_m3 173 rfl) rfl
theorem q714 : (Jvm.Cond.superclass "LeftBehind$Boat" "LeftBehind$Sloop") ∈ lw_all := lw_g (lw_at lw_m3 174 rfl) rfl
theorem q719 : (Jvm.Cond.methodLink "LeftBehind$Boat" (11 : Nat) ({ cls := "java/lang/Math", name := "min", desc := "(II)I" } : Jvm.MethodName)) ∈ lw_all := lw_g (lw_at lw_m3 179 rfl) rfl
theorem q1368 : (Jvm.Cond.castable "LeftBehind$Boat" "LeftBehind$Ship") ∈ lw_tbl := lw_at lw_m6 108 rfl

/-! LeftBehind$Brig -/
set_option maxRecDepth 100000
def RX16 : String := "LeftBehind$Brig"
abbrev cX16_kind : ByteArray := prog_4_method_2_code
def yX16_kind : MethodName := ⟨RX16, "kind", "()I"⟩
theorem dX16_kind_0 : decode cX16_kind 0 = .ok (.iconst 1, 1) := by decide +kernel
theorem dX16_kind_1 : decode cX16_kind 1 = .ok (.ireturn, 1) := by decide +kernel
abbrev cX16_needs : ByteArray := prog_4_method_3_code
def yX16_needs : MethodName := ⟨RX16, "needs", "(II)I"⟩
def dkwX16_needs_0 : List UInt8 := [42, 27, 28, 183, 0, 7, 7, 96, 172]
abbrev dktX16_needs_0 : List UInt8 := dkwX16_needs_0 ++ []
theorem dksX16_needs_0 : cX16_needs.data.toList.drop 0 = dktX16_needs_0 := by decide +kernel
theorem dX16_needs_0 : decode cX16_needs 0 = .ok (.aload_n 0, 1) := dk_42 (dk_at dksX16_needs_0 0 rfl rfl)
theorem dX16_needs_1 : decode cX16_needs 1 = .ok (.iload_n 1, 1) := dk_27 (dk_at dksX16_needs_0 1 rfl rfl)
theorem dX16_needs_2 : decode cX16_needs 2 = .ok (.iload_n 2, 1) := dk_28 (dk_at dksX16_needs_0 2 rfl rfl)
theorem dX16_needs_3 : decode cX16_needs 3 = .ok (.invokespecial 7, 3) := dk_183 0 7 (dk_at dksX16_needs_0 3 rfl rfl)
theorem dX16_needs_6 : decode cX16_needs 6 = .ok (.iconst 4, 1) := dk_7 (dk_at dksX16_needs_0 6 rfl rfl)
theorem dX16_needs_7 : decode cX16_needs 7 = .ok (.iadd, 1) := dk_96 (dk_at dksX16_needs_0 7 rfl rfl)
theorem dX16_needs_8 : decode cX16_needs 8 = .ok (.ireturn, 1) := dk_172 (dk_at dksX16_needs_0 8 rfl rfl)
theorem q670 : (Jvm.Cond.selects "LeftBehind$Brig" ({ cls := "LeftBehind$Ship", name := "kind", desc := "()I" } : Jvm.MethodName) ({ cls := "LeftBehind$Brig", name := "kind", desc := "()I" } : Jvm.MethodName)) ∈ lw_all := lw_g (lw_at lw_m3 130 rfl) rfl
theorem q671 : (Jvm.Cond.instanceMethod ({ cls := "LeftBehind$Brig", name := "kind", desc := "()I" } : Jvm.MethodName)) ∈ lw_all := lw_g (lw_at lw_m3 131 rfl) rfl
theorem q672 : (Jvm.Cond.code ({ cls := "LeftBehind$Brig", name := "kind", desc := "()I" } : Jvm.MethodName) prog_4_method_2_code (1 : Nat) (Option.some Jvm.ClassFile.FieldType.int)) ∈ lw_all := lw_g (lw_at lw_m3 132 rfl) rfl
theorem q720 : (Jvm.Cond.selects "LeftBehind$Brig" ({ cls := "LeftBehind$Ship", name := "needs", desc := "(II)I" } : Jvm.MethodName) ({ cls := "LeftBehind$Brig", name := "needs", desc := "(II)I" } : Jvm.MethodName)) ∈ lw_all := lw_g (lw_at lw_m3 180 rfl) rfl
theorem q721 : (Jvm.Cond.instanceMethod ({ cls := "LeftBehind$Brig", name := "needs", desc := "(II)I" } : Jvm.MethodName)) ∈ lw_all := lw_g (lw_at lw_m3 181 rfl) rfl
theorem q722 : (Jvm.Cond.code ({ cls := "LeftBehind$Brig", name := "needs", desc := "(II)I" } : Jvm.MethodName) prog_4_method_3_code (3 : Nat) (Option.some Jvm.ClassFile.FieldType.int)) ∈ lw_all := lw_g (lw_at lw_m3 182 rfl) rfl
theorem q723 : (Jvm.Cond.methodLink "LeftBehind$Brig" (7 : Nat) ({ cls := "LeftBehind$Ship", name := "needs", desc := "(II)I" } : Jvm.MethodName)) ∈ lw_all := lw_g (lw_at lw_m3 183 rfl) rfl
theorem q724 : (Jvm.Cond.superclass "LeftBehind$Brig" "LeftBehind$Ship") ∈ lw_all := lw_g (lw_at lw_m3 184 rfl) rfl
theorem q1363 : (Jvm.Cond.sameMethod "LeftBehind$Brig" "LeftBehind$Brig" "needs" "(II)I") ∈ lw_all := lw_g (lw_at lw_m6 103 rfl) rfl
theorem q1364 : (Jvm.Cond.castable "LeftBehind$Brig" "LeftBehind$Ship") ∈ lw_tbl := lw_at lw_m6 104 rfl

/-! LeftBehind$Packet -/
set_option maxRecDepth 100000
def RX17 : String := "LeftBehind$Packet"
abbrev cX17_kind : ByteArray := prog_14_method_2_code
def yX17_kind : MethodName := ⟨RX17, "kind", "()I"⟩
theorem dX17_kind_0 : decode cX17_kind 0 = .ok (.iconst 4, 1) := by decide +kernel
theorem dX17_kind_1 : decode cX17_kind 1 = .ok (.ireturn, 1) := by decide +kernel
abbrev cX17_needs : ByteArray := prog_14_method_3_code
def yX17_needs : MethodName := ⟨RX17, "needs", "(II)I"⟩
def dkwX17_needs_0 : List UInt8 := [42, 27, 28, 183, 0, 7, 62, 28, 7, 161, 0, 9, 29, 8, 96, 167, 0, 4, 29, 172]
abbrev dktX17_needs_0 : List UInt8 := dkwX17_needs_0 ++ []
theorem dksX17_needs_0 : cX17_needs.data.toList.drop 0 = dktX17_needs_0 := by decide +kernel
theorem dX17_needs_0 : decode cX17_needs 0 = .ok (.aload_n 0, 1) := dk_42 (dk_at dksX17_needs_0 0 rfl rfl)
theorem dX17_needs_1 : decode cX17_needs 1 = .ok (.iload_n 1, 1) := dk_27 (dk_at dksX17_needs_0 1 rfl rfl)
theorem dX17_needs_2 : decode cX17_needs 2 = .ok (.iload_n 2, 1) := dk_28 (dk_at dksX17_needs_0 2 rfl rfl)
theorem dX17_needs_3 : decode cX17_needs 3 = .ok (.invokespecial 7, 3) := dk_183 0 7 (dk_at dksX17_needs_0 3 rfl rfl)
theorem dX17_needs_6 : decode cX17_needs 6 = .ok (.istore_n 3, 1) := dk_62 (dk_at dksX17_needs_0 6 rfl rfl)
theorem dX17_needs_7 : decode cX17_needs 7 = .ok (.iload_n 2, 1) := dk_28 (dk_at dksX17_needs_0 7 rfl rfl)
theorem dX17_needs_8 : decode cX17_needs 8 = .ok (.iconst 4, 1) := dk_7 (dk_at dksX17_needs_0 8 rfl rfl)
theorem dX17_needs_9 : decode cX17_needs 9 = .ok (.if_icmp .lt 9, 3) := dk_161 0 9 (dk_at dksX17_needs_0 9 rfl rfl)
theorem dX17_needs_12 : decode cX17_needs 12 = .ok (.iload_n 3, 1) := dk_29 (dk_at dksX17_needs_0 12 rfl rfl)
theorem dX17_needs_13 : decode cX17_needs 13 = .ok (.iconst 5, 1) := dk_8 (dk_at dksX17_needs_0 13 rfl rfl)
theorem dX17_needs_14 : decode cX17_needs 14 = .ok (.iadd, 1) := dk_96 (dk_at dksX17_needs_0 14 rfl rfl)
theorem dX17_needs_15 : decode cX17_needs 15 = .ok (.goto 4, 3) := dk_167 0 4 (dk_at dksX17_needs_0 15 rfl rfl)
theorem dX17_needs_18 : decode cX17_needs 18 = .ok (.iload_n 3, 1) := dk_29 (dk_at dksX17_needs_0 18 rfl rfl)
theorem dX17_needs_19 : decode cX17_needs 19 = .ok (.ireturn, 1) := dk_172 (dk_at dksX17_needs_0 19 rfl rfl)
theorem q673 : (Jvm.Cond.selects "LeftBehind$Packet" ({ cls := "LeftBehind$Ship", name := "kind", desc := "()I" } : Jvm.MethodName) ({ cls := "LeftBehind$Packet", name := "kind", desc := "()I" } : Jvm.MethodName)) ∈ lw_all := lw_g (lw_at lw_m3 133 rfl) rfl
theorem q674 : (Jvm.Cond.instanceMethod ({ cls := "LeftBehind$Packet", name := "kind", desc := "()I" } : Jvm.MethodName)) ∈ lw_all := lw_g (lw_at lw_m3 134 rfl) rfl
theorem q675 : (Jvm.Cond.code ({ cls := "LeftBehind$Packet", name := "kind", desc := "()I" } : Jvm.MethodName) prog_14_method_2_code (1 : Nat) (Option.some Jvm.ClassFile.FieldType.int)) ∈ lw_all := lw_g (lw_at lw_m3 135 rfl) rfl
theorem q725 : (Jvm.Cond.selects "LeftBehind$Packet" ({ cls := "LeftBehind$Ship", name := "needs", desc := "(II)I" } : Jvm.MethodName) ({ cls := "LeftBehind$Packet", name := "needs", desc := "(II)I" } : Jvm.MethodName)) ∈ lw_all := lw_g (lw_at lw_m3 185 rfl) rfl
theorem q726 : (Jvm.Cond.instanceMethod ({ cls := "LeftBehind$Packet", name := "needs", desc := "(II)I" } : Jvm.MethodName)) ∈ lw_all := lw_g (lw_at lw_m3 186 rfl) rfl
theorem q727 : (Jvm.Cond.code ({ cls := "LeftBehind$Packet", name := "needs", desc := "(II)I" } : Jvm.MethodName) prog_14_method_3_code (4 : Nat) (Option.some Jvm.ClassFile.FieldType.int)) ∈ lw_all := lw_g (lw_at lw_m3 187 rfl) rfl
theorem q728 : (Jvm.Cond.methodLink "LeftBehind$Packet" (7 : Nat) ({ cls := "LeftBehind$Ship", name := "needs", desc := "(II)I" } : Jvm.MethodName)) ∈ lw_all := lw_g (lw_at lw_m3 188 rfl) rfl
theorem q729 : (Jvm.Cond.superclass "LeftBehind$Packet" "LeftBehind$Ship") ∈ lw_all := lw_g (lw_at lw_m3 189 rfl) rfl
theorem q1367 : (Jvm.Cond.castable "LeftBehind$Packet" "LeftBehind$Ship") ∈ lw_tbl := lw_at lw_m6 107 rfl

/-! LeftBehind$Sloop -/
set_option maxRecDepth 100000
def RX18 : String := "LeftBehind$Sloop"
abbrev cX18_kind : ByteArray := prog_17_method_2_code
def yX18_kind : MethodName := ⟨RX18, "kind", "()I"⟩
theorem dX18_kind_0 : decode cX18_kind 0 = .ok (.iconst 2, 1) := by decide +kernel
theorem dX18_kind_1 : decode cX18_kind 1 = .ok (.ireturn, 1) := by decide +kernel
abbrev cX18_needs : ByteArray := prog_17_method_3_code
def yX18_needs : MethodName := ⟨RX18, "needs", "(II)I"⟩
def dkwX18_needs_0 : List UInt8 := [42, 27, 28, 183, 0, 7, 4, 96, 5, 108, 172]
abbrev dktX18_needs_0 : List UInt8 := dkwX18_needs_0 ++ []
theorem dksX18_needs_0 : cX18_needs.data.toList.drop 0 = dktX18_needs_0 := by decide +kernel
theorem dX18_needs_0 : decode cX18_needs 0 = .ok (.aload_n 0, 1) := dk_42 (dk_at dksX18_needs_0 0 rfl rfl)
theorem dX18_needs_1 : decode cX18_needs 1 = .ok (.iload_n 1, 1) := dk_27 (dk_at dksX18_needs_0 1 rfl rfl)
theorem dX18_needs_2 : decode cX18_needs 2 = .ok (.iload_n 2, 1) := dk_28 (dk_at dksX18_needs_0 2 rfl rfl)
theorem dX18_needs_3 : decode cX18_needs 3 = .ok (.invokespecial 7, 3) := dk_183 0 7 (dk_at dksX18_needs_0 3 rfl rfl)
theorem dX18_needs_6 : decode cX18_needs 6 = .ok (.iconst 1, 1) := dk_4 (dk_at dksX18_needs_0 6 rfl rfl)
theorem dX18_needs_7 : decode cX18_needs 7 = .ok (.iadd, 1) := dk_96 (dk_at dksX18_needs_0 7 rfl rfl)
theorem dX18_needs_8 : decode cX18_needs 8 = .ok (.iconst 2, 1) := dk_5 (dk_at dksX18_needs_0 8 rfl rfl)
theorem dX18_needs_9 : decode cX18_needs 9 = .ok (.idiv, 1) := dk_108 (dk_at dksX18_needs_0 9 rfl rfl)
theorem dX18_needs_10 : decode cX18_needs 10 = .ok (.ireturn, 1) := dk_172 (dk_at dksX18_needs_0 10 rfl rfl)
theorem q676 : (Jvm.Cond.selects "LeftBehind$Sloop" ({ cls := "LeftBehind$Ship", name := "kind", desc := "()I" } : Jvm.MethodName) ({ cls := "LeftBehind$Sloop", name := "kind", desc := "()I" } : Jvm.MethodName)) ∈ lw_all := lw_g (lw_at lw_m3 136 rfl) rfl
theorem q677 : (Jvm.Cond.instanceMethod ({ cls := "LeftBehind$Sloop", name := "kind", desc := "()I" } : Jvm.MethodName)) ∈ lw_all := lw_g (lw_at lw_m3 137 rfl) rfl
theorem q678 : (Jvm.Cond.code ({ cls := "LeftBehind$Sloop", name := "kind", desc := "()I" } : Jvm.MethodName) prog_17_method_2_code (1 : Nat) (Option.some Jvm.ClassFile.FieldType.int)) ∈ lw_all := lw_g (lw_at lw_m3 138 rfl) rfl
theorem q715 : (Jvm.Cond.instanceMethod ({ cls := "LeftBehind$Sloop", name := "needs", desc := "(II)I" } : Jvm.MethodName)) ∈ lw_all := lw_g (lw_at lw_m3 175 rfl) rfl
theorem q716 : (Jvm.Cond.code ({ cls := "LeftBehind$Sloop", name := "needs", desc := "(II)I" } : Jvm.MethodName) prog_17_method_3_code (3 : Nat) (Option.some Jvm.ClassFile.FieldType.int)) ∈ lw_all := lw_g (lw_at lw_m3 176 rfl) rfl
theorem q717 : (Jvm.Cond.methodLink "LeftBehind$Sloop" (7 : Nat) ({ cls := "LeftBehind$Ship", name := "needs", desc := "(II)I" } : Jvm.MethodName)) ∈ lw_all := lw_g (lw_at lw_m3 177 rfl) rfl
theorem q718 : (Jvm.Cond.superclass "LeftBehind$Sloop" "LeftBehind$Ship") ∈ lw_all := lw_g (lw_at lw_m3 178 rfl) rfl
theorem q730 : (Jvm.Cond.selects "LeftBehind$Sloop" ({ cls := "LeftBehind$Ship", name := "needs", desc := "(II)I" } : Jvm.MethodName) ({ cls := "LeftBehind$Sloop", name := "needs", desc := "(II)I" } : Jvm.MethodName)) ∈ lw_all := lw_g (lw_at lw_m3 190 rfl) rfl
theorem q1362 : (Jvm.Cond.sameMethod "LeftBehind$Sloop" "LeftBehind$Sloop" "needs" "(II)I") ∈ lw_all := lw_g (lw_at lw_m6 102 rfl) rfl
theorem q1365 : (Jvm.Cond.castable "LeftBehind$Sloop" "LeftBehind$Ship") ∈ lw_tbl := lw_at lw_m6 105 rfl

/-! LeftBehind$Whaler -/
set_option maxRecDepth 100000
def RX19 : String := "LeftBehind$Whaler"
abbrev cX19_kind : ByteArray := prog_19_method_2_code
def yX19_kind : MethodName := ⟨RX19, "kind", "()I"⟩
theorem dX19_kind_0 : decode cX19_kind 0 = .ok (.iconst 3, 1) := by decide +kernel
theorem dX19_kind_1 : decode cX19_kind 1 = .ok (.ireturn, 1) := by decide +kernel
abbrev cX19_needs : ByteArray := prog_19_method_3_code
def yX19_needs : MethodName := ⟨RX19, "needs", "(II)I"⟩
def dkwX19_needs_0 : List UInt8 := [4, 42, 27, 28, 183, 0, 7, 5, 28, 104, 100, 184, 0, 11, 172]
abbrev dktX19_needs_0 : List UInt8 := dkwX19_needs_0 ++ []
theorem dksX19_needs_0 : cX19_needs.data.toList.drop 0 = dktX19_needs_0 := by decide +kernel
theorem dX19_needs_0 : decode cX19_needs 0 = .ok (.iconst 1, 1) := dk_4 (dk_at dksX19_needs_0 0 rfl rfl)
theorem dX19_needs_1 : decode cX19_needs 1 = .ok (.aload_n 0, 1) := dk_42 (dk_at dksX19_needs_0 1 rfl rfl)
theorem dX19_needs_2 : decode cX19_needs 2 = .ok (.iload_n 1, 1) := dk_27 (dk_at dksX19_needs_0 2 rfl rfl)
theorem dX19_needs_3 : decode cX19_needs 3 = .ok (.iload_n 2, 1) := dk_28 (dk_at dksX19_needs_0 3 rfl rfl)
theorem dX19_needs_4 : decode cX19_needs 4 = .ok (.invokespecial 7, 3) := dk_183 0 7 (dk_at dksX19_needs_0 4 rfl rfl)
theorem dX19_needs_7 : decode cX19_needs 7 = .ok (.iconst 2, 1) := dk_5 (dk_at dksX19_needs_0 7 rfl rfl)
theorem dX19_needs_8 : decode cX19_needs 8 = .ok (.iload_n 2, 1) := dk_28 (dk_at dksX19_needs_0 8 rfl rfl)
theorem dX19_needs_9 : decode cX19_needs 9 = .ok (.imul, 1) := dk_104 (dk_at dksX19_needs_0 9 rfl rfl)
theorem dX19_needs_10 : decode cX19_needs 10 = .ok (.isub, 1) := dk_100 (dk_at dksX19_needs_0 10 rfl rfl)
theorem dX19_needs_11 : decode cX19_needs 11 = .ok (.invokestatic 11, 3) := dk_184 0 11 (dk_at dksX19_needs_0 11 rfl rfl)
theorem dX19_needs_14 : decode cX19_needs 14 = .ok (.ireturn, 1) := dk_172 (dk_at dksX19_needs_0 14 rfl rfl)
theorem q679 : (Jvm.Cond.selects "LeftBehind$Whaler" ({ cls := "LeftBehind$Ship", name := "kind", desc := "()I" } : Jvm.MethodName) ({ cls := "LeftBehind$Whaler", name := "kind", desc := "()I" } : Jvm.MethodName)) ∈ lw_all := lw_g (lw_at lw_m3 139 rfl) rfl
theorem q680 : (Jvm.Cond.instanceMethod ({ cls := "LeftBehind$Whaler", name := "kind", desc := "()I" } : Jvm.MethodName)) ∈ lw_all := lw_g (lw_at lw_m3 140 rfl) rfl
theorem q681 : (Jvm.Cond.code ({ cls := "LeftBehind$Whaler", name := "kind", desc := "()I" } : Jvm.MethodName) prog_19_method_2_code (1 : Nat) (Option.some Jvm.ClassFile.FieldType.int)) ∈ lw_all := lw_g (lw_at lw_m3 141 rfl) rfl
theorem q731 : (Jvm.Cond.selects "LeftBehind$Whaler" ({ cls := "LeftBehind$Ship", name := "needs", desc := "(II)I" } : Jvm.MethodName) ({ cls := "LeftBehind$Whaler", name := "needs", desc := "(II)I" } : Jvm.MethodName)) ∈ lw_all := lw_g (lw_at lw_m3 191 rfl) rfl
theorem q732 : (Jvm.Cond.instanceMethod ({ cls := "LeftBehind$Whaler", name := "needs", desc := "(II)I" } : Jvm.MethodName)) ∈ lw_all := lw_g (lw_at lw_m3 192 rfl) rfl
theorem q733 : (Jvm.Cond.code ({ cls := "LeftBehind$Whaler", name := "needs", desc := "(II)I" } : Jvm.MethodName) prog_19_method_3_code (3 : Nat) (Option.some Jvm.ClassFile.FieldType.int)) ∈ lw_all := lw_g (lw_at lw_m3 193 rfl) rfl
theorem q734 : (Jvm.Cond.methodLink "LeftBehind$Whaler" (7 : Nat) ({ cls := "LeftBehind$Brig", name := "needs", desc := "(II)I" } : Jvm.MethodName)) ∈ lw_all := lw_g (lw_at lw_m3 194 rfl) rfl
theorem q735 : (Jvm.Cond.superclass "LeftBehind$Whaler" "LeftBehind$Brig") ∈ lw_all := lw_g (lw_at lw_m3 195 rfl) rfl
theorem q736 : (Jvm.Cond.methodLink "LeftBehind$Whaler" (11 : Nat) ({ cls := "java/lang/Math", name := "max", desc := "(II)I" } : Jvm.MethodName)) ∈ lw_all := lw_g (lw_at lw_m3 196 rfl) rfl
theorem q1366 : (Jvm.Cond.castable "LeftBehind$Whaler" "LeftBehind$Ship") ∈ lw_tbl := lw_at lw_m6 106 rfl

/-! LeftBehind$State -/
set_option maxRecDepth 100000
def RX2 : String := "LeftBehind$State"
def TX2 : u_T := fun k => match k with
  | 0 => ("LeftBehind$State", "places", "[I", true)
  | _ => ("LeftBehind$State", "calls", "[I", true)
def tyX2 : Nat → FieldType := fun k => match k with
  | 0 => .array .int
  | _ => .array .int
abbrev wsX20 : List Cond := u_ws RX2 TX2 2
theorem nmX2 : ∀ a, a < 2 → ∀ b, b < 2 → a ≠ b → (TX2 a).2.1 ≠ (TX2 b).2.1 := by decide +kernel
theorem tyX2_ok : ∀ k, k < 2 → parseFieldDescriptor (TX2 k).2.2.1 = some (tyX2 k) := by decide +kernel
abbrev cX2_init : ByteArray := prog_18_method_1_code
def yX2_init : MethodName := ⟨RX2, "<init>", "()V"⟩
def dkwX2_init_0 : List UInt8 := [42, 183, 0, 3, 42, 16, 8, 188, 10, 181, 0, 9, 42, 6, 188, 10, 181, 0, 15, 177]
abbrev dktX2_init_0 : List UInt8 := dkwX2_init_0 ++ []
theorem dksX2_init_0 : cX2_init.data.toList.drop 0 = dktX2_init_0 := by decide +kernel
theorem dX2_init_0 : decode cX2_init 0 = .ok (.aload_n 0, 1) := dk_42 (dk_at dksX2_init_0 0 rfl rfl)
theorem dX2_init_1 : decode cX2_init 1 = .ok (.invokespecial 3, 3) := dk_183 0 3 (dk_at dksX2_init_0 1 rfl rfl)
theorem dX2_init_4 : decode cX2_init 4 = .ok (.aload_n 0, 1) := dk_42 (dk_at dksX2_init_0 4 rfl rfl)
theorem dX2_init_5 : decode cX2_init 5 = .ok (.bipush 8, 2) := dk_16 8 (dk_at dksX2_init_0 5 rfl rfl)
theorem dX2_init_7 : decode cX2_init 7 = .ok (.newarray .int, 2) := dk_188_10 (dk_at dksX2_init_0 7 rfl rfl)
theorem dX2_init_9 : decode cX2_init 9 = .ok (.putfield 9, 3) := dk_181 0 9 (dk_at dksX2_init_0 9 rfl rfl)
theorem dX2_init_12 : decode cX2_init 12 = .ok (.aload_n 0, 1) := dk_42 (dk_at dksX2_init_0 12 rfl rfl)
theorem dX2_init_13 : decode cX2_init 13 = .ok (.iconst 3, 1) := dk_6 (dk_at dksX2_init_0 13 rfl rfl)
theorem dX2_init_14 : decode cX2_init 14 = .ok (.newarray .int, 2) := dk_188_10 (dk_at dksX2_init_0 14 rfl rfl)
theorem dX2_init_16 : decode cX2_init 16 = .ok (.putfield 15, 3) := dk_181 0 15 (dk_at dksX2_init_0 16 rfl rfl)
theorem dX2_init_19 : decode cX2_init 19 = .ok (.return_, 1) := dk_177 (dk_at dksX2_init_0 19 rfl rfl)
abbrev cX2_takes : ByteArray := prog_18_method_2_code
def yX2_takes : MethodName := ⟨RX2, "takes", "(LLeftBehind$State;)V"⟩
def dkwX2_takes_1 : List UInt8 := [3, 6, 184, 0, 18, 177]
abbrev dktX2_takes_1 : List UInt8 := dkwX2_takes_1 ++ []
def dkwX2_takes_0 : List UInt8 := [43, 180, 0, 9, 3, 42, 180, 0, 9, 3, 16, 8, 184, 0, 18, 43, 180, 0, 15, 3, 42, 180, 0, 15]
abbrev dktX2_takes_0 : List UInt8 := dkwX2_takes_0 ++ dktX2_takes_1
theorem dksX2_takes_0 : cX2_takes.data.toList.drop 0 = dktX2_takes_0 := by decide +kernel
theorem dksX2_takes_1 : cX2_takes.data.toList.drop 24 = dktX2_takes_1 := dk_seg dksX2_takes_0 24 rfl rfl
theorem dX2_takes_0 : decode cX2_takes 0 = .ok (.aload_n 1, 1) := dk_43 (dk_at dksX2_takes_0 0 rfl rfl)
theorem dX2_takes_1 : decode cX2_takes 1 = .ok (.getfield 9, 3) := dk_180 0 9 (dk_at dksX2_takes_0 1 rfl rfl)
theorem dX2_takes_4 : decode cX2_takes 4 = .ok (.iconst 0, 1) := dk_3 (dk_at dksX2_takes_0 4 rfl rfl)
theorem dX2_takes_5 : decode cX2_takes 5 = .ok (.aload_n 0, 1) := dk_42 (dk_at dksX2_takes_0 5 rfl rfl)
theorem dX2_takes_6 : decode cX2_takes 6 = .ok (.getfield 9, 3) := dk_180 0 9 (dk_at dksX2_takes_0 6 rfl rfl)
theorem dX2_takes_9 : decode cX2_takes 9 = .ok (.iconst 0, 1) := dk_3 (dk_at dksX2_takes_0 9 rfl rfl)
theorem dX2_takes_10 : decode cX2_takes 10 = .ok (.bipush 8, 2) := dk_16 8 (dk_at dksX2_takes_0 10 rfl rfl)
theorem dX2_takes_12 : decode cX2_takes 12 = .ok (.invokestatic 18, 3) := dk_184 0 18 (dk_at dksX2_takes_0 12 rfl rfl)
theorem dX2_takes_15 : decode cX2_takes 15 = .ok (.aload_n 1, 1) := dk_43 (dk_at dksX2_takes_0 15 rfl rfl)
theorem dX2_takes_16 : decode cX2_takes 16 = .ok (.getfield 15, 3) := dk_180 0 15 (dk_at dksX2_takes_0 16 rfl rfl)
theorem dX2_takes_19 : decode cX2_takes 19 = .ok (.iconst 0, 1) := dk_3 (dk_at dksX2_takes_0 19 rfl rfl)
theorem dX2_takes_20 : decode cX2_takes 20 = .ok (.aload_n 0, 1) := dk_42 (dk_at dksX2_takes_0 20 rfl rfl)
theorem dX2_takes_21 : decode cX2_takes 21 = .ok (.getfield 15, 3) := dk_180 0 15 (dk_at dksX2_takes_0 21 rfl rfl)
theorem dX2_takes_24 : decode cX2_takes 24 = .ok (.iconst 0, 1) := dk_3 (dk_at dksX2_takes_1 0 rfl rfl)
theorem dX2_takes_25 : decode cX2_takes 25 = .ok (.iconst 3, 1) := dk_6 (dk_at dksX2_takes_1 1 rfl rfl)
theorem dX2_takes_26 : decode cX2_takes 26 = .ok (.invokestatic 18, 3) := dk_184 0 18 (dk_at dksX2_takes_1 2 rfl rfl)
theorem dX2_takes_29 : decode cX2_takes 29 = .ok (.return_, 1) := dk_177 (dk_at dksX2_takes_1 5 rfl rfl)
theorem q63 : (Jvm.Cond.initialized "LeftBehind$State") ∈ lw_all := lw_g (lw_at lw_m1 3 rfl) rfl
theorem q97 : (Jvm.Cond.instantiable "LeftBehind$State" (2 : Nat)) ∈ lw_all := lw_g (lw_at lw_m1 37 rfl) rfl
theorem q99 : (Jvm.Cond.instanceMethod ({ cls := "LeftBehind$State", name := "<init>", desc := "()V" } : Jvm.MethodName)) ∈ lw_all := lw_g (lw_at lw_m1 39 rfl) rfl
theorem q100 : (Jvm.Cond.code ({ cls := "LeftBehind$State", name := "<init>", desc := "()V" } : Jvm.MethodName) prog_18_method_1_code (1 : Nat) (Option.none : Option Jvm.ClassFile.FieldType)) ∈ lw_all := lw_g (lw_at lw_m1 40 rfl) rfl
theorem q101 : (Jvm.Cond.methodLink "LeftBehind$State" (3 : Nat) ({ cls := "java/lang/Object", name := "<init>", desc := "()V" } : Jvm.MethodName)) ∈ lw_all := lw_g (lw_at lw_m1 41 rfl) rfl
theorem q102 : (Jvm.Cond.fieldLink "LeftBehind$State" (9 : Nat) "LeftBehind$State" "places" "[I") ∈ lw_all := lw_g (lw_at lw_m1 42 rfl) rfl
theorem q107 : (Jvm.Cond.fieldLink "LeftBehind$State" (15 : Nat) "LeftBehind$State" "calls" "[I") ∈ lw_all := lw_g (lw_at lw_m1 47 rfl) rfl
theorem q110 : (Jvm.Cond.laysFinal "LeftBehind$State" "LeftBehind$State" "places" "[I") ∈ lw_all := lw_g (lw_at lw_m1 50 rfl) rfl
theorem q111 : (Jvm.Cond.soleField "LeftBehind$State" "places") ∈ lw_all := lw_g (lw_at lw_m1 51 rfl) rfl
theorem q112 : (Jvm.Cond.laysFinal "LeftBehind$State" "LeftBehind$State" "calls" "[I") ∈ lw_all := lw_g (lw_at lw_m1 52 rfl) rfl
theorem q113 : (Jvm.Cond.soleField "LeftBehind$State" "calls") ∈ lw_all := lw_g (lw_at lw_m1 53 rfl) rfl
theorem q114 : (Jvm.Cond.superclass "LeftBehind$State" "java/lang/Object") ∈ lw_all := lw_g (lw_at lw_m1 54 rfl) rfl
theorem q585 : (Jvm.Cond.instanceMethod ({ cls := "LeftBehind$State", name := "takes", desc := "(LLeftBehind$State;)V" } : Jvm.MethodName)) ∈ lw_all := lw_g (lw_at lw_m3 45 rfl) rfl
theorem q586 : (Jvm.Cond.selects "LeftBehind$State" ({ cls := "LeftBehind$State", name := "takes", desc := "(LLeftBehind$State;)V" } : Jvm.MethodName) ({ cls := "LeftBehind$State", name := "takes", desc := "(LLeftBehind$State;)V" } : Jvm.MethodName)) ∈ lw_all := lw_g (lw_at lw_m3 46 rfl) rfl
theorem q587 : (Jvm.Cond.code ({ cls := "LeftBehind$State", name := "takes", desc := "(LLeftBehind$State;)V" } : Jvm.MethodName) prog_18_method_2_code (2 : Nat) (Option.none : Option Jvm.ClassFile.FieldType)) ∈ lw_all := lw_g (lw_at lw_m3 47 rfl) rfl
theorem q588 : (Jvm.Cond.methodLink "LeftBehind$State" (18 : Nat) ({ cls := "java/lang/System", name := "arraycopy", desc := "(Ljava/lang/Object;ILjava/lang/Object;II)V" } : Jvm.MethodName)) ∈ lw_all := lw_g (lw_at lw_m3 48 rfl) rfl
theorem in_X2 : ∀ w ∈ wsX20, w ∈ lw_all := lw_in wsX20 [110, 112] (by decide +kernel) (by decide +kernel)

/-! LeftBehind$Reader -/
set_option maxRecDepth 100000
def RX3 : String := "LeftBehind$Reader"
def TX3 : u_T := fun k => match k with
  | 0 => ("LeftBehind$Reader", "at", "I", false)
  | 1 => ("LeftBehind$Reader", "start", "I", false)
  | 2 => ("LeftBehind$Reader", "token", "I", false)
  | 3 => ("LeftBehind$Reader", "value", "I", false)
  | 4 => ("LeftBehind$Reader", "begun", "Z", false)
  | _ => ("LeftBehind$Reader", "this$0", "LLeftBehind;", true)
def tyX3 : Nat → FieldType := fun k => match k with
  | 0 => .int
  | 1 => .int
  | 2 => .int
  | 3 => .int
  | 4 => .boolean
  | _ => .object "LeftBehind"
abbrev wsX30 : List Cond := u_ws RX3 TX3 6
theorem nmX3 : ∀ a, a < 6 → ∀ b, b < 6 → a ≠ b → (TX3 a).2.1 ≠ (TX3 b).2.1 := by decide +kernel
theorem tyX3_ok : ∀ k, k < 6 → parseFieldDescriptor (TX3 k).2.2.1 = some (tyX3 k) := by decide +kernel
abbrev cX3_init : ByteArray := prog_15_method_1_code
def yX3_init : MethodName := ⟨RX3, "<init>", "(LLeftBehind;)V"⟩
def dkwX3_init_0 : List UInt8 := [42, 43, 181, 0, 3, 42, 183, 0, 9, 177]
abbrev dktX3_init_0 : List UInt8 := dkwX3_init_0 ++ []
theorem dksX3_init_0 : cX3_init.data.toList.drop 0 = dktX3_init_0 := by decide +kernel
theorem dX3_init_0 : decode cX3_init 0 = .ok (.aload_n 0, 1) := dk_42 (dk_at dksX3_init_0 0 rfl rfl)
theorem dX3_init_1 : decode cX3_init 1 = .ok (.aload_n 1, 1) := dk_43 (dk_at dksX3_init_0 1 rfl rfl)
theorem dX3_init_2 : decode cX3_init 2 = .ok (.putfield 3, 3) := dk_181 0 3 (dk_at dksX3_init_0 2 rfl rfl)
theorem dX3_init_5 : decode cX3_init 5 = .ok (.aload_n 0, 1) := dk_42 (dk_at dksX3_init_0 5 rfl rfl)
theorem dX3_init_6 : decode cX3_init 6 = .ok (.invokespecial 9, 3) := dk_183 0 9 (dk_at dksX3_init_0 6 rfl rfl)
theorem dX3_init_9 : decode cX3_init 9 = .ok (.return_, 1) := dk_177 (dk_at dksX3_init_0 9 rfl rfl)
abbrev cX3_reads : ByteArray := prog_15_method_8_code
def yX3_reads : MethodName := ⟨RX3, "reads", "()I"⟩
def dkwX3_reads_3 : List UInt8 := [42, 182, 0, 65, 132, 1, 1, 167, 255, 221, 27, 172]
abbrev dktX3_reads_3 : List UInt8 := dkwX3_reads_3 ++ []
def dkwX3_reads_2 : List UInt8 := [153, 0, 34, 42, 182, 0, 81, 42, 42, 180, 0, 33, 6, 160, 0, 7, 4, 167, 0, 4, 3, 182, 0, 61]
abbrev dktX3_reads_2 : List UInt8 := dkwX3_reads_2 ++ dktX3_reads_3
def dkwX3_reads_1 : List UInt8 := [182, 0, 65, 42, 42, 180, 0, 33, 153, 0, 7, 4, 167, 0, 4, 3, 182, 0, 61, 42, 180, 0, 33]
abbrev dktX3_reads_1 : List UInt8 := dkwX3_reads_1 ++ dktX3_reads_2
def dkwX3_reads_0 : List UInt8 := [42, 180, 0, 3, 180, 0, 68, 182, 0, 72, 42, 3, 181, 0, 15, 42, 3, 181, 0, 77, 3, 60, 42]
abbrev dktX3_reads_0 : List UInt8 := dkwX3_reads_0 ++ dktX3_reads_1
theorem dksX3_reads_0 : cX3_reads.data.toList.drop 0 = dktX3_reads_0 := by decide +kernel
theorem dksX3_reads_1 : cX3_reads.data.toList.drop 23 = dktX3_reads_1 := dk_seg dksX3_reads_0 23 rfl rfl
theorem dksX3_reads_2 : cX3_reads.data.toList.drop 46 = dktX3_reads_2 := dk_seg dksX3_reads_1 23 rfl rfl
theorem dksX3_reads_3 : cX3_reads.data.toList.drop 70 = dktX3_reads_3 := dk_seg dksX3_reads_2 24 rfl rfl
theorem dX3_reads_0 : decode cX3_reads 0 = .ok (.aload_n 0, 1) := dk_42 (dk_at dksX3_reads_0 0 rfl rfl)
theorem dX3_reads_1 : decode cX3_reads 1 = .ok (.getfield 3, 3) := dk_180 0 3 (dk_at dksX3_reads_0 1 rfl rfl)
theorem dX3_reads_4 : decode cX3_reads 4 = .ok (.getfield 68, 3) := dk_180 0 68 (dk_at dksX3_reads_0 4 rfl rfl)
theorem dX3_reads_7 : decode cX3_reads 7 = .ok (.invokevirtual 72, 3) := dk_182 0 72 (dk_at dksX3_reads_0 7 rfl rfl)
theorem dX3_reads_10 : decode cX3_reads 10 = .ok (.aload_n 0, 1) := dk_42 (dk_at dksX3_reads_0 10 rfl rfl)
theorem dX3_reads_11 : decode cX3_reads 11 = .ok (.iconst 0, 1) := dk_3 (dk_at dksX3_reads_0 11 rfl rfl)
theorem dX3_reads_12 : decode cX3_reads 12 = .ok (.putfield 15, 3) := dk_181 0 15 (dk_at dksX3_reads_0 12 rfl rfl)
theorem dX3_reads_15 : decode cX3_reads 15 = .ok (.aload_n 0, 1) := dk_42 (dk_at dksX3_reads_0 15 rfl rfl)
theorem dX3_reads_16 : decode cX3_reads 16 = .ok (.iconst 0, 1) := dk_3 (dk_at dksX3_reads_0 16 rfl rfl)
theorem dX3_reads_17 : decode cX3_reads 17 = .ok (.putfield 77, 3) := dk_181 0 77 (dk_at dksX3_reads_0 17 rfl rfl)
theorem dX3_reads_20 : decode cX3_reads 20 = .ok (.iconst 0, 1) := dk_3 (dk_at dksX3_reads_0 20 rfl rfl)
theorem dX3_reads_21 : decode cX3_reads 21 = .ok (.istore_n 1, 1) := dk_60 (dk_at dksX3_reads_0 21 rfl rfl)
theorem dX3_reads_22 : decode cX3_reads 22 = .ok (.aload_n 0, 1) := dk_42 (dk_at dksX3_reads_0 22 rfl rfl)
theorem dX3_reads_23 : decode cX3_reads 23 = .ok (.invokevirtual 65, 3) := dk_182 0 65 (dk_at dksX3_reads_1 0 rfl rfl)
theorem dX3_reads_26 : decode cX3_reads 26 = .ok (.aload_n 0, 1) := dk_42 (dk_at dksX3_reads_1 3 rfl rfl)
theorem dX3_reads_27 : decode cX3_reads 27 = .ok (.aload_n 0, 1) := dk_42 (dk_at dksX3_reads_1 4 rfl rfl)
theorem dX3_reads_28 : decode cX3_reads 28 = .ok (.getfield 33, 3) := dk_180 0 33 (dk_at dksX3_reads_1 5 rfl rfl)
theorem dX3_reads_31 : decode cX3_reads 31 = .ok (.ifCond .eq 7, 3) := dk_153 0 7 (dk_at dksX3_reads_1 8 rfl rfl)
theorem dX3_reads_34 : decode cX3_reads 34 = .ok (.iconst 1, 1) := dk_4 (dk_at dksX3_reads_1 11 rfl rfl)
theorem dX3_reads_35 : decode cX3_reads 35 = .ok (.goto 4, 3) := dk_167 0 4 (dk_at dksX3_reads_1 12 rfl rfl)
theorem dX3_reads_38 : decode cX3_reads 38 = .ok (.iconst 0, 1) := dk_3 (dk_at dksX3_reads_1 15 rfl rfl)
theorem dX3_reads_39 : decode cX3_reads 39 = .ok (.invokevirtual 61, 3) := dk_182 0 61 (dk_at dksX3_reads_1 16 rfl rfl)
theorem dX3_reads_42 : decode cX3_reads 42 = .ok (.aload_n 0, 1) := dk_42 (dk_at dksX3_reads_1 19 rfl rfl)
theorem dX3_reads_43 : decode cX3_reads 43 = .ok (.getfield 33, 3) := dk_180 0 33 (dk_at dksX3_reads_1 20 rfl rfl)
theorem dX3_reads_46 : decode cX3_reads 46 = .ok (.ifCond .eq 34, 3) := dk_153 0 34 (dk_at dksX3_reads_2 0 rfl rfl)
theorem dX3_reads_49 : decode cX3_reads 49 = .ok (.aload_n 0, 1) := dk_42 (dk_at dksX3_reads_2 3 rfl rfl)
theorem dX3_reads_50 : decode cX3_reads 50 = .ok (.invokevirtual 81, 3) := dk_182 0 81 (dk_at dksX3_reads_2 4 rfl rfl)
theorem dX3_reads_53 : decode cX3_reads 53 = .ok (.aload_n 0, 1) := dk_42 (dk_at dksX3_reads_2 7 rfl rfl)
theorem dX3_reads_54 : decode cX3_reads 54 = .ok (.aload_n 0, 1) := dk_42 (dk_at dksX3_reads_2 8 rfl rfl)
theorem dX3_reads_55 : decode cX3_reads 55 = .ok (.getfield 33, 3) := dk_180 0 33 (dk_at dksX3_reads_2 9 rfl rfl)
theorem dX3_reads_58 : decode cX3_reads 58 = .ok (.iconst 3, 1) := dk_6 (dk_at dksX3_reads_2 12 rfl rfl)
theorem dX3_reads_59 : decode cX3_reads 59 = .ok (.if_icmp .ne 7, 3) := dk_160 0 7 (dk_at dksX3_reads_2 13 rfl rfl)
theorem dX3_reads_62 : decode cX3_reads 62 = .ok (.iconst 1, 1) := dk_4 (dk_at dksX3_reads_2 16 rfl rfl)
theorem dX3_reads_63 : decode cX3_reads 63 = .ok (.goto 4, 3) := dk_167 0 4 (dk_at dksX3_reads_2 17 rfl rfl)
theorem dX3_reads_66 : decode cX3_reads 66 = .ok (.iconst 0, 1) := dk_3 (dk_at dksX3_reads_2 20 rfl rfl)
theorem dX3_reads_67 : decode cX3_reads 67 = .ok (.invokevirtual 61, 3) := dk_182 0 61 (dk_at dksX3_reads_2 21 rfl rfl)
theorem dX3_reads_70 : decode cX3_reads 70 = .ok (.aload_n 0, 1) := dk_42 (dk_at dksX3_reads_3 0 rfl rfl)
theorem dX3_reads_71 : decode cX3_reads 71 = .ok (.invokevirtual 65, 3) := dk_182 0 65 (dk_at dksX3_reads_3 1 rfl rfl)
theorem dX3_reads_74 : decode cX3_reads 74 = .ok (.iinc 1 1, 3) := dk_132 1 1 (dk_at dksX3_reads_3 4 rfl rfl)
theorem dX3_reads_77 : decode cX3_reads 77 = .ok (.goto (-35), 3) := dk_167 255 221 (dk_at dksX3_reads_3 7 rfl rfl)
theorem dX3_reads_80 : decode cX3_reads 80 = .ok (.iload_n 1, 1) := dk_27 (dk_at dksX3_reads_3 10 rfl rfl)
theorem dX3_reads_81 : decode cX3_reads 81 = .ok (.ireturn, 1) := dk_172 (dk_at dksX3_reads_3 11 rfl rfl)
abbrev cX3_scans : ByteArray := prog_15_method_3_code
def yX3_scans : MethodName := ⟨RX3, "scans", "()V"⟩
def dkwX3_scans_6 : List UInt8 := [96, 181, 0, 15, 177]
abbrev dktX3_scans_6 : List UInt8 := dkwX3_scans_6 ++ []
def dkwX3_scans_5 : List UInt8 := [16, 59, 16, 59, 182, 0, 26, 153, 0, 7, 6, 167, 0, 4, 4, 181, 0, 33, 42, 89, 180, 0, 15, 4]
abbrev dktX3_scans_5 : List UInt8 := dkwX3_scans_5 ++ dktX3_scans_6
def dkwX3_scans_4 : List UInt8 := [16, 48, 16, 57, 182, 0, 26, 153, 0, 14, 42, 42, 182, 0, 36, 181, 0, 33, 167, 0, 33, 42, 42]
abbrev dktX3_scans_4 : List UInt8 := dkwX3_scans_4 ++ dktX3_scans_5
def dkwX3_scans_3 : List UInt8 := [16, 97, 16, 122, 182, 0, 26, 153, 0, 68, 42, 89, 180, 0, 15, 4, 96, 181, 0, 15, 167, 255, 235, 42]
abbrev dktX3_scans_3 : List UInt8 := dkwX3_scans_3 ++ dktX3_scans_4
def dkwX3_scans_2 : List UInt8 := [181, 0, 33, 167, 0, 95, 42, 16, 97, 16, 122, 182, 0, 26, 153, 0, 32, 42, 7, 181, 0, 33, 42]
abbrev dktX3_scans_2 : List UInt8 := dkwX3_scans_2 ++ dktX3_scans_3
def dkwX3_scans_1 : List UInt8 := [42, 42, 180, 0, 15, 181, 0, 30, 42, 180, 0, 15, 42, 180, 0, 3, 180, 0, 19, 160, 0, 11, 42, 3]
abbrev dktX3_scans_1 : List UInt8 := dkwX3_scans_1 ++ dktX3_scans_2
def dkwX3_scans_0 : List UInt8 := [42, 16, 32, 16, 32, 182, 0, 26, 153, 0, 16, 42, 89, 180, 0, 15, 4, 96, 181, 0, 15, 167, 255, 235]
abbrev dktX3_scans_0 : List UInt8 := dkwX3_scans_0 ++ dktX3_scans_1
theorem dksX3_scans_0 : cX3_scans.data.toList.drop 0 = dktX3_scans_0 := by decide +kernel
theorem dksX3_scans_1 : cX3_scans.data.toList.drop 24 = dktX3_scans_1 := dk_seg dksX3_scans_0 24 rfl rfl
theorem dksX3_scans_2 : cX3_scans.data.toList.drop 48 = dktX3_scans_2 := dk_seg dksX3_scans_1 24 rfl rfl
theorem dksX3_scans_3 : cX3_scans.data.toList.drop 71 = dktX3_scans_3 := dk_seg dksX3_scans_2 23 rfl rfl
theorem dksX3_scans_4 : cX3_scans.data.toList.drop 95 = dktX3_scans_4 := dk_seg dksX3_scans_3 24 rfl rfl
theorem dksX3_scans_5 : cX3_scans.data.toList.drop 118 = dktX3_scans_5 := dk_seg dksX3_scans_4 23 rfl rfl
theorem dksX3_scans_6 : cX3_scans.data.toList.drop 142 = dktX3_scans_6 := dk_seg dksX3_scans_5 24 rfl rfl
theorem dX3_scans_0 : decode cX3_scans 0 = .ok (.aload_n 0, 1) := dk_42 (dk_at dksX3_scans_0 0 rfl rfl)
theorem dX3_scans_1 : decode cX3_scans 1 = .ok (.bipush 32, 2) := dk_16 32 (dk_at dksX3_scans_0 1 rfl rfl)
theorem dX3_scans_3 : decode cX3_scans 3 = .ok (.bipush 32, 2) := dk_16 32 (dk_at dksX3_scans_0 3 rfl rfl)
theorem dX3_scans_5 : decode cX3_scans 5 = .ok (.invokevirtual 26, 3) := dk_182 0 26 (dk_at dksX3_scans_0 5 rfl rfl)
theorem dX3_scans_8 : decode cX3_scans 8 = .ok (.ifCond .eq 16, 3) := dk_153 0 16 (dk_at dksX3_scans_0 8 rfl rfl)
theorem dX3_scans_11 : decode cX3_scans 11 = .ok (.aload_n 0, 1) := dk_42 (dk_at dksX3_scans_0 11 rfl rfl)
theorem dX3_scans_12 : decode cX3_scans 12 = .ok (.dup, 1) := dk_89 (dk_at dksX3_scans_0 12 rfl rfl)
theorem dX3_scans_13 : decode cX3_scans 13 = .ok (.getfield 15, 3) := dk_180 0 15 (dk_at dksX3_scans_0 13 rfl rfl)
theorem dX3_scans_16 : decode cX3_scans 16 = .ok (.iconst 1, 1) := dk_4 (dk_at dksX3_scans_0 16 rfl rfl)
theorem dX3_scans_17 : decode cX3_scans 17 = .ok (.iadd, 1) := dk_96 (dk_at dksX3_scans_0 17 rfl rfl)
theorem dX3_scans_18 : decode cX3_scans 18 = .ok (.putfield 15, 3) := dk_181 0 15 (dk_at dksX3_scans_0 18 rfl rfl)
theorem dX3_scans_21 : decode cX3_scans 21 = .ok (.goto (-21), 3) := dk_167 255 235 (dk_at dksX3_scans_0 21 rfl rfl)
theorem dX3_scans_24 : decode cX3_scans 24 = .ok (.aload_n 0, 1) := dk_42 (dk_at dksX3_scans_1 0 rfl rfl)
theorem dX3_scans_25 : decode cX3_scans 25 = .ok (.aload_n 0, 1) := dk_42 (dk_at dksX3_scans_1 1 rfl rfl)
theorem dX3_scans_26 : decode cX3_scans 26 = .ok (.getfield 15, 3) := dk_180 0 15 (dk_at dksX3_scans_1 2 rfl rfl)
theorem dX3_scans_29 : decode cX3_scans 29 = .ok (.putfield 30, 3) := dk_181 0 30 (dk_at dksX3_scans_1 5 rfl rfl)
theorem dX3_scans_32 : decode cX3_scans 32 = .ok (.aload_n 0, 1) := dk_42 (dk_at dksX3_scans_1 8 rfl rfl)
theorem dX3_scans_33 : decode cX3_scans 33 = .ok (.getfield 15, 3) := dk_180 0 15 (dk_at dksX3_scans_1 9 rfl rfl)
theorem dX3_scans_36 : decode cX3_scans 36 = .ok (.aload_n 0, 1) := dk_42 (dk_at dksX3_scans_1 12 rfl rfl)
theorem dX3_scans_37 : decode cX3_scans 37 = .ok (.getfield 3, 3) := dk_180 0 3 (dk_at dksX3_scans_1 13 rfl rfl)
theorem dX3_scans_40 : decode cX3_scans 40 = .ok (.getfield 19, 3) := dk_180 0 19 (dk_at dksX3_scans_1 16 rfl rfl)
theorem dX3_scans_43 : decode cX3_scans 43 = .ok (.if_icmp .ne 11, 3) := dk_160 0 11 (dk_at dksX3_scans_1 19 rfl rfl)
theorem dX3_scans_46 : decode cX3_scans 46 = .ok (.aload_n 0, 1) := dk_42 (dk_at dksX3_scans_1 22 rfl rfl)
theorem dX3_scans_47 : decode cX3_scans 47 = .ok (.iconst 0, 1) := dk_3 (dk_at dksX3_scans_1 23 rfl rfl)
theorem dX3_scans_48 : decode cX3_scans 48 = .ok (.putfield 33, 3) := dk_181 0 33 (dk_at dksX3_scans_2 0 rfl rfl)
theorem dX3_scans_51 : decode cX3_scans 51 = .ok (.goto 95, 3) := dk_167 0 95 (dk_at dksX3_scans_2 3 rfl rfl)
theorem dX3_scans_54 : decode cX3_scans 54 = .ok (.aload_n 0, 1) := dk_42 (dk_at dksX3_scans_2 6 rfl rfl)
theorem dX3_scans_55 : decode cX3_scans 55 = .ok (.bipush 97, 2) := dk_16 97 (dk_at dksX3_scans_2 7 rfl rfl)
theorem dX3_scans_57 : decode cX3_scans 57 = .ok (.bipush 122, 2) := dk_16 122 (dk_at dksX3_scans_2 9 rfl rfl)
theorem dX3_scans_59 : decode cX3_scans 59 = .ok (.invokevirtual 26, 3) := dk_182 0 26 (dk_at dksX3_scans_2 11 rfl rfl)
theorem dX3_scans_62 : decode cX3_scans 62 = .ok (.ifCond .eq 32, 3) := dk_153 0 32 (dk_at dksX3_scans_2 14 rfl rfl)
theorem dX3_scans_65 : decode cX3_scans 65 = .ok (.aload_n 0, 1) := dk_42 (dk_at dksX3_scans_2 17 rfl rfl)
theorem dX3_scans_66 : decode cX3_scans 66 = .ok (.iconst 4, 1) := dk_7 (dk_at dksX3_scans_2 18 rfl rfl)
theorem dX3_scans_67 : decode cX3_scans 67 = .ok (.putfield 33, 3) := dk_181 0 33 (dk_at dksX3_scans_2 19 rfl rfl)
theorem dX3_scans_70 : decode cX3_scans 70 = .ok (.aload_n 0, 1) := dk_42 (dk_at dksX3_scans_2 22 rfl rfl)
theorem dX3_scans_71 : decode cX3_scans 71 = .ok (.bipush 97, 2) := dk_16 97 (dk_at dksX3_scans_3 0 rfl rfl)
theorem dX3_scans_73 : decode cX3_scans 73 = .ok (.bipush 122, 2) := dk_16 122 (dk_at dksX3_scans_3 2 rfl rfl)
theorem dX3_scans_75 : decode cX3_scans 75 = .ok (.invokevirtual 26, 3) := dk_182 0 26 (dk_at dksX3_scans_3 4 rfl rfl)
theorem dX3_scans_78 : decode cX3_scans 78 = .ok (.ifCond .eq 68, 3) := dk_153 0 68 (dk_at dksX3_scans_3 7 rfl rfl)
theorem dX3_scans_81 : decode cX3_scans 81 = .ok (.aload_n 0, 1) := dk_42 (dk_at dksX3_scans_3 10 rfl rfl)
theorem dX3_scans_82 : decode cX3_scans 82 = .ok (.dup, 1) := dk_89 (dk_at dksX3_scans_3 11 rfl rfl)
theorem dX3_scans_83 : decode cX3_scans 83 = .ok (.getfield 15, 3) := dk_180 0 15 (dk_at dksX3_scans_3 12 rfl rfl)
theorem dX3_scans_86 : decode cX3_scans 86 = .ok (.iconst 1, 1) := dk_4 (dk_at dksX3_scans_3 15 rfl rfl)
theorem dX3_scans_87 : decode cX3_scans 87 = .ok (.iadd, 1) := dk_96 (dk_at dksX3_scans_3 16 rfl rfl)
theorem dX3_scans_88 : decode cX3_scans 88 = .ok (.putfield 15, 3) := dk_181 0 15 (dk_at dksX3_scans_3 17 rfl rfl)
theorem dX3_scans_91 : decode cX3_scans 91 = .ok (.goto (-21), 3) := dk_167 255 235 (dk_at dksX3_scans_3 20 rfl rfl)
theorem dX3_scans_94 : decode cX3_scans 94 = .ok (.aload_n 0, 1) := dk_42 (dk_at dksX3_scans_3 23 rfl rfl)
theorem dX3_scans_95 : decode cX3_scans 95 = .ok (.bipush 48, 2) := dk_16 48 (dk_at dksX3_scans_4 0 rfl rfl)
theorem dX3_scans_97 : decode cX3_scans 97 = .ok (.bipush 57, 2) := dk_16 57 (dk_at dksX3_scans_4 2 rfl rfl)
theorem dX3_scans_99 : decode cX3_scans 99 = .ok (.invokevirtual 26, 3) := dk_182 0 26 (dk_at dksX3_scans_4 4 rfl rfl)
theorem dX3_scans_102 : decode cX3_scans 102 = .ok (.ifCond .eq 14, 3) := dk_153 0 14 (dk_at dksX3_scans_4 7 rfl rfl)
theorem dX3_scans_105 : decode cX3_scans 105 = .ok (.aload_n 0, 1) := dk_42 (dk_at dksX3_scans_4 10 rfl rfl)
theorem dX3_scans_106 : decode cX3_scans 106 = .ok (.aload_n 0, 1) := dk_42 (dk_at dksX3_scans_4 11 rfl rfl)
theorem dX3_scans_107 : decode cX3_scans 107 = .ok (.invokevirtual 36, 3) := dk_182 0 36 (dk_at dksX3_scans_4 12 rfl rfl)
theorem dX3_scans_110 : decode cX3_scans 110 = .ok (.putfield 33, 3) := dk_181 0 33 (dk_at dksX3_scans_4 15 rfl rfl)
theorem dX3_scans_113 : decode cX3_scans 113 = .ok (.goto 33, 3) := dk_167 0 33 (dk_at dksX3_scans_4 18 rfl rfl)
theorem dX3_scans_116 : decode cX3_scans 116 = .ok (.aload_n 0, 1) := dk_42 (dk_at dksX3_scans_4 21 rfl rfl)
theorem dX3_scans_117 : decode cX3_scans 117 = .ok (.aload_n 0, 1) := dk_42 (dk_at dksX3_scans_4 22 rfl rfl)
theorem dX3_scans_118 : decode cX3_scans 118 = .ok (.bipush 59, 2) := dk_16 59 (dk_at dksX3_scans_5 0 rfl rfl)
theorem dX3_scans_120 : decode cX3_scans 120 = .ok (.bipush 59, 2) := dk_16 59 (dk_at dksX3_scans_5 2 rfl rfl)
theorem dX3_scans_122 : decode cX3_scans 122 = .ok (.invokevirtual 26, 3) := dk_182 0 26 (dk_at dksX3_scans_5 4 rfl rfl)
theorem dX3_scans_125 : decode cX3_scans 125 = .ok (.ifCond .eq 7, 3) := dk_153 0 7 (dk_at dksX3_scans_5 7 rfl rfl)
theorem dX3_scans_128 : decode cX3_scans 128 = .ok (.iconst 3, 1) := dk_6 (dk_at dksX3_scans_5 10 rfl rfl)
theorem dX3_scans_129 : decode cX3_scans 129 = .ok (.goto 4, 3) := dk_167 0 4 (dk_at dksX3_scans_5 11 rfl rfl)
theorem dX3_scans_132 : decode cX3_scans 132 = .ok (.iconst 1, 1) := dk_4 (dk_at dksX3_scans_5 14 rfl rfl)
theorem dX3_scans_133 : decode cX3_scans 133 = .ok (.putfield 33, 3) := dk_181 0 33 (dk_at dksX3_scans_5 15 rfl rfl)
theorem dX3_scans_136 : decode cX3_scans 136 = .ok (.aload_n 0, 1) := dk_42 (dk_at dksX3_scans_5 18 rfl rfl)
theorem dX3_scans_137 : decode cX3_scans 137 = .ok (.dup, 1) := dk_89 (dk_at dksX3_scans_5 19 rfl rfl)
theorem dX3_scans_138 : decode cX3_scans 138 = .ok (.getfield 15, 3) := dk_180 0 15 (dk_at dksX3_scans_5 20 rfl rfl)
theorem dX3_scans_141 : decode cX3_scans 141 = .ok (.iconst 1, 1) := dk_4 (dk_at dksX3_scans_5 23 rfl rfl)
theorem dX3_scans_142 : decode cX3_scans 142 = .ok (.iadd, 1) := dk_96 (dk_at dksX3_scans_6 0 rfl rfl)
theorem dX3_scans_143 : decode cX3_scans 143 = .ok (.putfield 15, 3) := dk_181 0 15 (dk_at dksX3_scans_6 1 rfl rfl)
theorem dX3_scans_146 : decode cX3_scans 146 = .ok (.return_, 1) := dk_177 (dk_at dksX3_scans_6 4 rfl rfl)
abbrev cX3_isAt : ByteArray := prog_15_method_2_code
def yX3_isAt : MethodName := ⟨RX3, "isAt", "(II)Z"⟩
def dkwX3_isAt_2 : List UInt8 := [4, 167, 0, 4, 3, 172]
abbrev dktX3_isAt_2 : List UInt8 := dkwX3_isAt_2 ++ []
def dkwX3_isAt_1 : List UInt8 := [180, 0, 15, 51, 27, 161, 0, 23, 42, 180, 0, 3, 180, 0, 22, 42, 180, 0, 15, 51, 28, 163, 0, 7]
abbrev dktX3_isAt_1 : List UInt8 := dkwX3_isAt_1 ++ dktX3_isAt_2
def dkwX3_isAt_0 : List UInt8 := [42, 180, 0, 15, 42, 180, 0, 3, 180, 0, 19, 162, 0, 39, 42, 180, 0, 3, 180, 0, 22, 42]
abbrev dktX3_isAt_0 : List UInt8 := dkwX3_isAt_0 ++ dktX3_isAt_1
theorem dksX3_isAt_0 : cX3_isAt.data.toList.drop 0 = dktX3_isAt_0 := by decide +kernel
theorem dksX3_isAt_1 : cX3_isAt.data.toList.drop 22 = dktX3_isAt_1 := dk_seg dksX3_isAt_0 22 rfl rfl
theorem dksX3_isAt_2 : cX3_isAt.data.toList.drop 46 = dktX3_isAt_2 := dk_seg dksX3_isAt_1 24 rfl rfl
theorem dX3_isAt_0 : decode cX3_isAt 0 = .ok (.aload_n 0, 1) := dk_42 (dk_at dksX3_isAt_0 0 rfl rfl)
theorem dX3_isAt_1 : decode cX3_isAt 1 = .ok (.getfield 15, 3) := dk_180 0 15 (dk_at dksX3_isAt_0 1 rfl rfl)
theorem dX3_isAt_4 : decode cX3_isAt 4 = .ok (.aload_n 0, 1) := dk_42 (dk_at dksX3_isAt_0 4 rfl rfl)
theorem dX3_isAt_5 : decode cX3_isAt 5 = .ok (.getfield 3, 3) := dk_180 0 3 (dk_at dksX3_isAt_0 5 rfl rfl)
theorem dX3_isAt_8 : decode cX3_isAt 8 = .ok (.getfield 19, 3) := dk_180 0 19 (dk_at dksX3_isAt_0 8 rfl rfl)
theorem dX3_isAt_11 : decode cX3_isAt 11 = .ok (.if_icmp .ge 39, 3) := dk_162 0 39 (dk_at dksX3_isAt_0 11 rfl rfl)
theorem dX3_isAt_14 : decode cX3_isAt 14 = .ok (.aload_n 0, 1) := dk_42 (dk_at dksX3_isAt_0 14 rfl rfl)
theorem dX3_isAt_15 : decode cX3_isAt 15 = .ok (.getfield 3, 3) := dk_180 0 3 (dk_at dksX3_isAt_0 15 rfl rfl)
theorem dX3_isAt_18 : decode cX3_isAt 18 = .ok (.getfield 22, 3) := dk_180 0 22 (dk_at dksX3_isAt_0 18 rfl rfl)
theorem dX3_isAt_21 : decode cX3_isAt 21 = .ok (.aload_n 0, 1) := dk_42 (dk_at dksX3_isAt_0 21 rfl rfl)
theorem dX3_isAt_22 : decode cX3_isAt 22 = .ok (.getfield 15, 3) := dk_180 0 15 (dk_at dksX3_isAt_1 0 rfl rfl)
theorem dX3_isAt_25 : decode cX3_isAt 25 = .ok (.baload, 1) := dk_51 (dk_at dksX3_isAt_1 3 rfl rfl)
theorem dX3_isAt_26 : decode cX3_isAt 26 = .ok (.iload_n 1, 1) := dk_27 (dk_at dksX3_isAt_1 4 rfl rfl)
theorem dX3_isAt_27 : decode cX3_isAt 27 = .ok (.if_icmp .lt 23, 3) := dk_161 0 23 (dk_at dksX3_isAt_1 5 rfl rfl)
theorem dX3_isAt_30 : decode cX3_isAt 30 = .ok (.aload_n 0, 1) := dk_42 (dk_at dksX3_isAt_1 8 rfl rfl)
theorem dX3_isAt_31 : decode cX3_isAt 31 = .ok (.getfield 3, 3) := dk_180 0 3 (dk_at dksX3_isAt_1 9 rfl rfl)
theorem dX3_isAt_34 : decode cX3_isAt 34 = .ok (.getfield 22, 3) := dk_180 0 22 (dk_at dksX3_isAt_1 12 rfl rfl)
theorem dX3_isAt_37 : decode cX3_isAt 37 = .ok (.aload_n 0, 1) := dk_42 (dk_at dksX3_isAt_1 15 rfl rfl)
theorem dX3_isAt_38 : decode cX3_isAt 38 = .ok (.getfield 15, 3) := dk_180 0 15 (dk_at dksX3_isAt_1 16 rfl rfl)
theorem dX3_isAt_41 : decode cX3_isAt 41 = .ok (.baload, 1) := dk_51 (dk_at dksX3_isAt_1 19 rfl rfl)
theorem dX3_isAt_42 : decode cX3_isAt 42 = .ok (.iload_n 2, 1) := dk_28 (dk_at dksX3_isAt_1 20 rfl rfl)
theorem dX3_isAt_43 : decode cX3_isAt 43 = .ok (.if_icmp .gt 7, 3) := dk_163 0 7 (dk_at dksX3_isAt_1 21 rfl rfl)
theorem dX3_isAt_46 : decode cX3_isAt 46 = .ok (.iconst 1, 1) := dk_4 (dk_at dksX3_isAt_2 0 rfl rfl)
theorem dX3_isAt_47 : decode cX3_isAt 47 = .ok (.goto 4, 3) := dk_167 0 4 (dk_at dksX3_isAt_2 1 rfl rfl)
theorem dX3_isAt_50 : decode cX3_isAt 50 = .ok (.iconst 0, 1) := dk_3 (dk_at dksX3_isAt_2 4 rfl rfl)
theorem dX3_isAt_51 : decode cX3_isAt 51 = .ok (.ireturn, 1) := dk_172 (dk_at dksX3_isAt_2 5 rfl rfl)
abbrev cX3_number : ByteArray := prog_15_method_4_code
def yX3_number : MethodName := ⟨RX3, "number", "()I"⟩
def dkwX3_number_3 : List UInt8 := [167, 255, 193, 27, 5, 164, 0, 7, 4, 167, 0, 4, 5, 172]
abbrev dktX3_number_3 : List UInt8 := dkwX3_number_3 ++ []
def dkwX3_number_2 : List UInt8 := [167, 0, 7, 42, 180, 0, 40, 181, 0, 40, 42, 89, 180, 0, 15, 4, 96, 181, 0, 15, 132, 1, 1]
abbrev dktX3_number_2 : List UInt8 := dkwX3_number_2 ++ dktX3_number_3
def dkwX3_number_1 : List UInt8 := [16, 10, 42, 180, 0, 40, 104, 42, 180, 0, 3, 180, 0, 22, 42, 180, 0, 15, 51, 96, 16, 48, 100]
abbrev dktX3_number_1 : List UInt8 := dkwX3_number_1 ++ dktX3_number_2
def dkwX3_number_0 : List UInt8 := [3, 60, 42, 3, 181, 0, 40, 42, 16, 48, 16, 57, 182, 0, 26, 153, 0, 58, 42, 27, 5, 162, 0, 29]
abbrev dktX3_number_0 : List UInt8 := dkwX3_number_0 ++ dktX3_number_1
theorem dksX3_number_0 : cX3_number.data.toList.drop 0 = dktX3_number_0 := by decide +kernel
theorem dksX3_number_1 : cX3_number.data.toList.drop 24 = dktX3_number_1 := dk_seg dksX3_number_0 24 rfl rfl
theorem dksX3_number_2 : cX3_number.data.toList.drop 47 = dktX3_number_2 := dk_seg dksX3_number_1 23 rfl rfl
theorem dksX3_number_3 : cX3_number.data.toList.drop 70 = dktX3_number_3 := dk_seg dksX3_number_2 23 rfl rfl
theorem dX3_number_0 : decode cX3_number 0 = .ok (.iconst 0, 1) := dk_3 (dk_at dksX3_number_0 0 rfl rfl)
theorem dX3_number_1 : decode cX3_number 1 = .ok (.istore_n 1, 1) := dk_60 (dk_at dksX3_number_0 1 rfl rfl)
theorem dX3_number_2 : decode cX3_number 2 = .ok (.aload_n 0, 1) := dk_42 (dk_at dksX3_number_0 2 rfl rfl)
theorem dX3_number_3 : decode cX3_number 3 = .ok (.iconst 0, 1) := dk_3 (dk_at dksX3_number_0 3 rfl rfl)
theorem dX3_number_4 : decode cX3_number 4 = .ok (.putfield 40, 3) := dk_181 0 40 (dk_at dksX3_number_0 4 rfl rfl)
theorem dX3_number_7 : decode cX3_number 7 = .ok (.aload_n 0, 1) := dk_42 (dk_at dksX3_number_0 7 rfl rfl)
theorem dX3_number_8 : decode cX3_number 8 = .ok (.bipush 48, 2) := dk_16 48 (dk_at dksX3_number_0 8 rfl rfl)
theorem dX3_number_10 : decode cX3_number 10 = .ok (.bipush 57, 2) := dk_16 57 (dk_at dksX3_number_0 10 rfl rfl)
theorem dX3_number_12 : decode cX3_number 12 = .ok (.invokevirtual 26, 3) := dk_182 0 26 (dk_at dksX3_number_0 12 rfl rfl)
theorem dX3_number_15 : decode cX3_number 15 = .ok (.ifCond .eq 58, 3) := dk_153 0 58 (dk_at dksX3_number_0 15 rfl rfl)
theorem dX3_number_18 : decode cX3_number 18 = .ok (.aload_n 0, 1) := dk_42 (dk_at dksX3_number_0 18 rfl rfl)
theorem dX3_number_19 : decode cX3_number 19 = .ok (.iload_n 1, 1) := dk_27 (dk_at dksX3_number_0 19 rfl rfl)
theorem dX3_number_20 : decode cX3_number 20 = .ok (.iconst 2, 1) := dk_5 (dk_at dksX3_number_0 20 rfl rfl)
theorem dX3_number_21 : decode cX3_number 21 = .ok (.if_icmp .ge 29, 3) := dk_162 0 29 (dk_at dksX3_number_0 21 rfl rfl)
theorem dX3_number_24 : decode cX3_number 24 = .ok (.bipush 10, 2) := dk_16 10 (dk_at dksX3_number_1 0 rfl rfl)
theorem dX3_number_26 : decode cX3_number 26 = .ok (.aload_n 0, 1) := dk_42 (dk_at dksX3_number_1 2 rfl rfl)
theorem dX3_number_27 : decode cX3_number 27 = .ok (.getfield 40, 3) := dk_180 0 40 (dk_at dksX3_number_1 3 rfl rfl)
theorem dX3_number_30 : decode cX3_number 30 = .ok (.imul, 1) := dk_104 (dk_at dksX3_number_1 6 rfl rfl)
theorem dX3_number_31 : decode cX3_number 31 = .ok (.aload_n 0, 1) := dk_42 (dk_at dksX3_number_1 7 rfl rfl)
theorem dX3_number_32 : decode cX3_number 32 = .ok (.getfield 3, 3) := dk_180 0 3 (dk_at dksX3_number_1 8 rfl rfl)
theorem dX3_number_35 : decode cX3_number 35 = .ok (.getfield 22, 3) := dk_180 0 22 (dk_at dksX3_number_1 11 rfl rfl)
theorem dX3_number_38 : decode cX3_number 38 = .ok (.aload_n 0, 1) := dk_42 (dk_at dksX3_number_1 14 rfl rfl)
theorem dX3_number_39 : decode cX3_number 39 = .ok (.getfield 15, 3) := dk_180 0 15 (dk_at dksX3_number_1 15 rfl rfl)
theorem dX3_number_42 : decode cX3_number 42 = .ok (.baload, 1) := dk_51 (dk_at dksX3_number_1 18 rfl rfl)
theorem dX3_number_43 : decode cX3_number 43 = .ok (.iadd, 1) := dk_96 (dk_at dksX3_number_1 19 rfl rfl)
theorem dX3_number_44 : decode cX3_number 44 = .ok (.bipush 48, 2) := dk_16 48 (dk_at dksX3_number_1 20 rfl rfl)
theorem dX3_number_46 : decode cX3_number 46 = .ok (.isub, 1) := dk_100 (dk_at dksX3_number_1 22 rfl rfl)
theorem dX3_number_47 : decode cX3_number 47 = .ok (.goto 7, 3) := dk_167 0 7 (dk_at dksX3_number_2 0 rfl rfl)
theorem dX3_number_50 : decode cX3_number 50 = .ok (.aload_n 0, 1) := dk_42 (dk_at dksX3_number_2 3 rfl rfl)
theorem dX3_number_51 : decode cX3_number 51 = .ok (.getfield 40, 3) := dk_180 0 40 (dk_at dksX3_number_2 4 rfl rfl)
theorem dX3_number_54 : decode cX3_number 54 = .ok (.putfield 40, 3) := dk_181 0 40 (dk_at dksX3_number_2 7 rfl rfl)
theorem dX3_number_57 : decode cX3_number 57 = .ok (.aload_n 0, 1) := dk_42 (dk_at dksX3_number_2 10 rfl rfl)
theorem dX3_number_58 : decode cX3_number 58 = .ok (.dup, 1) := dk_89 (dk_at dksX3_number_2 11 rfl rfl)
theorem dX3_number_59 : decode cX3_number 59 = .ok (.getfield 15, 3) := dk_180 0 15 (dk_at dksX3_number_2 12 rfl rfl)
theorem dX3_number_62 : decode cX3_number 62 = .ok (.iconst 1, 1) := dk_4 (dk_at dksX3_number_2 15 rfl rfl)
theorem dX3_number_63 : decode cX3_number 63 = .ok (.iadd, 1) := dk_96 (dk_at dksX3_number_2 16 rfl rfl)
theorem dX3_number_64 : decode cX3_number 64 = .ok (.putfield 15, 3) := dk_181 0 15 (dk_at dksX3_number_2 17 rfl rfl)
theorem dX3_number_67 : decode cX3_number 67 = .ok (.iinc 1 1, 3) := dk_132 1 1 (dk_at dksX3_number_2 20 rfl rfl)
theorem dX3_number_70 : decode cX3_number 70 = .ok (.goto (-63), 3) := dk_167 255 193 (dk_at dksX3_number_3 0 rfl rfl)
theorem dX3_number_73 : decode cX3_number 73 = .ok (.iload_n 1, 1) := dk_27 (dk_at dksX3_number_3 3 rfl rfl)
theorem dX3_number_74 : decode cX3_number 74 = .ok (.iconst 2, 1) := dk_5 (dk_at dksX3_number_3 4 rfl rfl)
theorem dX3_number_75 : decode cX3_number 75 = .ok (.if_icmp .le 7, 3) := dk_164 0 7 (dk_at dksX3_number_3 5 rfl rfl)
theorem dX3_number_78 : decode cX3_number 78 = .ok (.iconst 1, 1) := dk_4 (dk_at dksX3_number_3 8 rfl rfl)
theorem dX3_number_79 : decode cX3_number 79 = .ok (.goto 4, 3) := dk_167 0 4 (dk_at dksX3_number_3 9 rfl rfl)
theorem dX3_number_82 : decode cX3_number 82 = .ok (.iconst 2, 1) := dk_5 (dk_at dksX3_number_3 12 rfl rfl)
theorem dX3_number_83 : decode cX3_number 83 = .ok (.ireturn, 1) := dk_172 (dk_at dksX3_number_3 13 rfl rfl)
abbrev cX3_wants : ByteArray := prog_15_method_6_code
def yX3_wants : MethodName := ⟨RX3, "wants", "(Z)V"⟩
def dkwX3_wants_0 : List UInt8 := [27, 154, 0, 15, 187, 0, 52, 89, 42, 180, 0, 30, 183, 0, 54, 191, 177]
abbrev dktX3_wants_0 : List UInt8 := dkwX3_wants_0 ++ []
theorem dksX3_wants_0 : cX3_wants.data.toList.drop 0 = dktX3_wants_0 := by decide +kernel
theorem dX3_wants_0 : decode cX3_wants 0 = .ok (.iload_n 1, 1) := dk_27 (dk_at dksX3_wants_0 0 rfl rfl)
theorem dX3_wants_1 : decode cX3_wants 1 = .ok (.ifCond .ne 15, 3) := dk_154 0 15 (dk_at dksX3_wants_0 1 rfl rfl)
theorem dX3_wants_4 : decode cX3_wants 4 = .ok (.new 52, 3) := dk_187 0 52 (dk_at dksX3_wants_0 4 rfl rfl)
theorem dX3_wants_7 : decode cX3_wants 7 = .ok (.dup, 1) := dk_89 (dk_at dksX3_wants_0 7 rfl rfl)
theorem dX3_wants_8 : decode cX3_wants 8 = .ok (.aload_n 0, 1) := dk_42 (dk_at dksX3_wants_0 8 rfl rfl)
theorem dX3_wants_9 : decode cX3_wants 9 = .ok (.getfield 30, 3) := dk_180 0 30 (dk_at dksX3_wants_0 9 rfl rfl)
theorem dX3_wants_12 : decode cX3_wants 12 = .ok (.invokespecial 54, 3) := dk_183 0 54 (dk_at dksX3_wants_0 12 rfl rfl)
theorem dX3_wants_15 : decode cX3_wants 15 = .ok (.athrow, 1) := dk_191 (dk_at dksX3_wants_0 15 rfl rfl)
theorem dX3_wants_16 : decode cX3_wants 16 = .ok (.return_, 1) := dk_177 (dk_at dksX3_wants_0 16 rfl rfl)
abbrev cX3_item : ByteArray := prog_15_method_9_code
def yX3_item : MethodName := ⟨RX3, "item", "()V"⟩
def dkwX3_item_20 : List UInt8 := [180, 0, 125, 42, 3, 42, 180, 0, 3, 180, 0, 68, 180, 0, 104, 4, 100, 182, 0, 95, 27, 79, 177]
abbrev dktX3_item_20 : List UInt8 := dkwX3_item_20 ++ []
def dkwX3_item_19 : List UInt8 := [2, 160, 0, 7, 4, 167, 0, 4, 3, 182, 0, 61, 42, 180, 0, 3, 180, 0, 68, 180, 0, 113]
abbrev dktX3_item_19 : List UInt8 := dkwX3_item_19 ++ dktX3_item_20
def dkwX3_item_18 : List UInt8 := [184, 0, 57, 153, 0, 29, 42, 180, 0, 3, 180, 0, 68, 180, 0, 113, 180, 0, 125, 42, 180, 0, 40, 46]
abbrev dktX3_item_18 : List UInt8 := dkwX3_item_18 ++ dktX3_item_19
def dkwX3_item_17 : List UInt8 := [160, 0, 54, 42, 180, 0, 40, 133, 9, 42, 180, 0, 3, 180, 0, 68, 180, 0, 104, 4, 100, 133]
abbrev dktX3_item_17 : List UInt8 := dkwX3_item_17 ++ dktX3_item_18
def dkwX3_item_16 : List UInt8 := [42, 3, 42, 180, 0, 3, 180, 0, 68, 180, 0, 92, 4, 100, 182, 0, 95, 60, 42, 42, 180, 0, 33, 5]
abbrev dktX3_item_16 : List UInt8 := dkwX3_item_16 ++ dktX3_item_17
def dkwX3_item_15 : List UInt8 := [182, 0, 95, 182, 0, 120, 87, 167, 0, 131, 42, 42, 18, 123, 182, 0, 86, 182, 0, 61, 42, 182, 0, 65]
abbrev dktX3_item_15 : List UInt8 := dkwX3_item_15 ++ dktX3_item_16
def dkwX3_item_14 : List UInt8 := [42, 180, 0, 3, 180, 0, 68, 180, 0, 113, 42, 3, 42, 180, 0, 3, 180, 0, 68, 180, 0, 92, 4, 100]
abbrev dktX3_item_14 : List UInt8 := dkwX3_item_14 ++ dktX3_item_15
def dkwX3_item_13 : List UInt8 := [180, 0, 40, 182, 0, 117, 153, 0, 7, 4, 167, 0, 4, 3, 182, 0, 61, 42, 180, 0, 3, 180, 0, 68]
abbrev dktX3_item_13 : List UInt8 := dkwX3_item_13 ++ dktX3_item_14
def dkwX3_item_12 : List UInt8 := [184, 0, 57, 153, 0, 34, 42, 180, 0, 3, 180, 0, 68, 42, 180, 0, 3, 180, 0, 68, 180, 0, 113, 42]
abbrev dktX3_item_12 : List UInt8 := dkwX3_item_12 ++ dktX3_item_13
def dkwX3_item_11 : List UInt8 := [160, 0, 59, 42, 180, 0, 40, 133, 9, 42, 180, 0, 3, 180, 0, 68, 180, 0, 92, 4, 100, 133]
abbrev dktX3_item_11 : List UInt8 := dkwX3_item_11 ++ dktX3_item_12
def dkwX3_item_10 : List UInt8 := [167, 0, 254, 42, 18, 111, 182, 0, 86, 153, 0, 117, 42, 182, 0, 65, 42, 42, 180, 0, 33, 5]
abbrev dktX3_item_10 : List UInt8 := dkwX3_item_10 ++ dktX3_item_11
def dkwX3_item_9 : List UInt8 := [62, 42, 180, 0, 3, 180, 0, 68, 27, 28, 29, 16, 9, 160, 0, 7, 2, 167, 0, 4, 29, 182, 0, 107]
abbrev dktX3_item_9 : List UInt8 := dkwX3_item_9 ++ dktX3_item_10
def dkwX3_item_8 : List UInt8 := [4, 100, 133, 184, 0, 57, 153, 0, 7, 4, 167, 0, 4, 3, 182, 0, 61, 42, 3, 16, 9, 182, 0, 95]
abbrev dktX3_item_8 : List UInt8 := dkwX3_item_8 ++ dktX3_item_9
def dkwX3_item_7 : List UInt8 := [180, 0, 40, 16, 9, 159, 0, 28, 42, 180, 0, 40, 133, 9, 42, 180, 0, 3, 180, 0, 68, 180, 0, 92]
abbrev dktX3_item_7 : List UInt8 := dkwX3_item_7 ++ dktX3_item_8
def dkwX3_item_6 : List UInt8 := [182, 0, 95, 60, 42, 4, 16, 9, 182, 0, 95, 61, 42, 42, 180, 0, 33, 5, 160, 0, 41, 42]
abbrev dktX3_item_6 : List UInt8 := dkwX3_item_6 ++ dktX3_item_7
def dkwX3_item_5 : List UInt8 := [180, 0, 104, 16, 8, 162, 0, 7, 4, 167, 0, 4, 3, 182, 0, 61, 42, 182, 0, 65, 42, 3, 8]
abbrev dktX3_item_5 : List UInt8 := dkwX3_item_5 ++ dktX3_item_6
def dkwX3_item_4 : List UInt8 := [182, 0, 99, 167, 1, 135, 42, 18, 102, 182, 0, 86, 153, 0, 131, 42, 42, 180, 0, 3, 180, 0, 68]
abbrev dktX3_item_4 : List UInt8 := dkwX3_item_4 ++ dktX3_item_5
def dkwX3_item_3 : List UInt8 := [167, 0, 4, 3, 182, 0, 61, 42, 182, 0, 65, 42, 180, 0, 3, 180, 0, 68, 42, 3, 8, 182, 0, 95]
abbrev dktX3_item_3 : List UInt8 := dkwX3_item_3 ++ dktX3_item_4
def dkwX3_item_2 : List UInt8 := [182, 0, 86, 153, 0, 49, 42, 42, 180, 0, 3, 180, 0, 68, 180, 0, 92, 6, 162, 0, 7, 4]
abbrev dktX3_item_2 : List UInt8 := dkwX3_item_2 ++ dktX3_item_3
def dkwX3_item_1 : List UInt8 := [182, 0, 61, 42, 4, 181, 0, 77, 42, 182, 0, 65, 177, 42, 42, 180, 0, 77, 182, 0, 61, 42, 18, 90]
abbrev dktX3_item_1 : List UInt8 := dkwX3_item_1 ++ dktX3_item_2
def dkwX3_item_0 : List UInt8 := [42, 18, 84, 182, 0, 86, 153, 0, 29, 42, 42, 180, 0, 77, 154, 0, 7, 4, 167, 0, 4, 3]
abbrev dktX3_item_0 : List UInt8 := dkwX3_item_0 ++ dktX3_item_1
theorem dksX3_item_0 : cX3_item.data.toList.drop 0 = dktX3_item_0 := by decide +kernel
theorem dksX3_item_1 : cX3_item.data.toList.drop 22 = dktX3_item_1 := dk_seg dksX3_item_0 22 rfl rfl
theorem dksX3_item_2 : cX3_item.data.toList.drop 46 = dktX3_item_2 := dk_seg dksX3_item_1 24 rfl rfl
theorem dksX3_item_3 : cX3_item.data.toList.drop 68 = dktX3_item_3 := dk_seg dksX3_item_2 22 rfl rfl
theorem dksX3_item_4 : cX3_item.data.toList.drop 92 = dktX3_item_4 := dk_seg dksX3_item_3 24 rfl rfl
theorem dksX3_item_5 : cX3_item.data.toList.drop 115 = dktX3_item_5 := dk_seg dksX3_item_4 23 rfl rfl
theorem dksX3_item_6 : cX3_item.data.toList.drop 138 = dktX3_item_6 := dk_seg dksX3_item_5 23 rfl rfl
theorem dksX3_item_7 : cX3_item.data.toList.drop 160 = dktX3_item_7 := dk_seg dksX3_item_6 22 rfl rfl
theorem dksX3_item_8 : cX3_item.data.toList.drop 184 = dktX3_item_8 := dk_seg dksX3_item_7 24 rfl rfl
theorem dksX3_item_9 : cX3_item.data.toList.drop 208 = dktX3_item_9 := dk_seg dksX3_item_8 24 rfl rfl
theorem dksX3_item_10 : cX3_item.data.toList.drop 232 = dktX3_item_10 := dk_seg dksX3_item_9 24 rfl rfl
theorem dksX3_item_11 : cX3_item.data.toList.drop 254 = dktX3_item_11 := dk_seg dksX3_item_10 22 rfl rfl
theorem dksX3_item_12 : cX3_item.data.toList.drop 276 = dktX3_item_12 := dk_seg dksX3_item_11 22 rfl rfl
theorem dksX3_item_13 : cX3_item.data.toList.drop 300 = dktX3_item_13 := dk_seg dksX3_item_12 24 rfl rfl
theorem dksX3_item_14 : cX3_item.data.toList.drop 324 = dktX3_item_14 := dk_seg dksX3_item_13 24 rfl rfl
theorem dksX3_item_15 : cX3_item.data.toList.drop 348 = dktX3_item_15 := dk_seg dksX3_item_14 24 rfl rfl
theorem dksX3_item_16 : cX3_item.data.toList.drop 372 = dktX3_item_16 := dk_seg dksX3_item_15 24 rfl rfl
theorem dksX3_item_17 : cX3_item.data.toList.drop 396 = dktX3_item_17 := dk_seg dksX3_item_16 24 rfl rfl
theorem dksX3_item_18 : cX3_item.data.toList.drop 418 = dktX3_item_18 := dk_seg dksX3_item_17 22 rfl rfl
theorem dksX3_item_19 : cX3_item.data.toList.drop 442 = dktX3_item_19 := dk_seg dksX3_item_18 24 rfl rfl
theorem dksX3_item_20 : cX3_item.data.toList.drop 464 = dktX3_item_20 := dk_seg dksX3_item_19 22 rfl rfl
theorem dX3_item_0 : decode cX3_item 0 = .ok (.aload_n 0, 1) := dk_42 (dk_at dksX3_item_0 0 rfl rfl)
theorem dX3_item_1 : decode cX3_item 1 = .ok (.ldc 84, 2) := dk_18 84 (dk_at dksX3_item_0 1 rfl rfl)
theorem dX3_item_3 : decode cX3_item 3 = .ok (.invokevirtual 86, 3) := dk_182 0 86 (dk_at dksX3_item_0 3 rfl rfl)
theorem dX3_item_6 : decode cX3_item 6 = .ok (.ifCond .eq 29, 3) := dk_153 0 29 (dk_at dksX3_item_0 6 rfl rfl)
theorem dX3_item_9 : decode cX3_item 9 = .ok (.aload_n 0, 1) := dk_42 (dk_at dksX3_item_0 9 rfl rfl)
theorem dX3_item_10 : decode cX3_item 10 = .ok (.aload_n 0, 1) := dk_42 (dk_at dksX3_item_0 10 rfl rfl)
theorem dX3_item_11 : decode cX3_item 11 = .ok (.getfield 77, 3) := dk_180 0 77 (dk_at dksX3_item_0 11 rfl rfl)
theorem dX3_item_14 : decode cX3_item 14 = .ok (.ifCond .ne 7, 3) := dk_154 0 7 (dk_at dksX3_item_0 14 rfl rfl)
theorem dX3_item_17 : decode cX3_item 17 = .ok (.iconst 1, 1) := dk_4 (dk_at dksX3_item_0 17 rfl rfl)
theorem dX3_item_18 : decode cX3_item 18 = .ok (.goto 4, 3) := dk_167 0 4 (dk_at dksX3_item_0 18 rfl rfl)
theorem dX3_item_21 : decode cX3_item 21 = .ok (.iconst 0, 1) := dk_3 (dk_at dksX3_item_0 21 rfl rfl)
theorem dX3_item_22 : decode cX3_item 22 = .ok (.invokevirtual 61, 3) := dk_182 0 61 (dk_at dksX3_item_1 0 rfl rfl)
theorem dX3_item_25 : decode cX3_item 25 = .ok (.aload_n 0, 1) := dk_42 (dk_at dksX3_item_1 3 rfl rfl)
theorem dX3_item_26 : decode cX3_item 26 = .ok (.iconst 1, 1) := dk_4 (dk_at dksX3_item_1 4 rfl rfl)
theorem dX3_item_27 : decode cX3_item 27 = .ok (.putfield 77, 3) := dk_181 0 77 (dk_at dksX3_item_1 5 rfl rfl)
theorem dX3_item_30 : decode cX3_item 30 = .ok (.aload_n 0, 1) := dk_42 (dk_at dksX3_item_1 8 rfl rfl)
theorem dX3_item_31 : decode cX3_item 31 = .ok (.invokevirtual 65, 3) := dk_182 0 65 (dk_at dksX3_item_1 9 rfl rfl)
theorem dX3_item_34 : decode cX3_item 34 = .ok (.return_, 1) := dk_177 (dk_at dksX3_item_1 12 rfl rfl)
theorem dX3_item_35 : decode cX3_item 35 = .ok (.aload_n 0, 1) := dk_42 (dk_at dksX3_item_1 13 rfl rfl)
theorem dX3_item_36 : decode cX3_item 36 = .ok (.aload_n 0, 1) := dk_42 (dk_at dksX3_item_1 14 rfl rfl)
theorem dX3_item_37 : decode cX3_item 37 = .ok (.getfield 77, 3) := dk_180 0 77 (dk_at dksX3_item_1 15 rfl rfl)
theorem dX3_item_40 : decode cX3_item 40 = .ok (.invokevirtual 61, 3) := dk_182 0 61 (dk_at dksX3_item_1 18 rfl rfl)
theorem dX3_item_43 : decode cX3_item 43 = .ok (.aload_n 0, 1) := dk_42 (dk_at dksX3_item_1 21 rfl rfl)
theorem dX3_item_44 : decode cX3_item 44 = .ok (.ldc 90, 2) := dk_18 90 (dk_at dksX3_item_1 22 rfl rfl)
theorem dX3_item_46 : decode cX3_item 46 = .ok (.invokevirtual 86, 3) := dk_182 0 86 (dk_at dksX3_item_2 0 rfl rfl)
theorem dX3_item_49 : decode cX3_item 49 = .ok (.ifCond .eq 49, 3) := dk_153 0 49 (dk_at dksX3_item_2 3 rfl rfl)
theorem dX3_item_52 : decode cX3_item 52 = .ok (.aload_n 0, 1) := dk_42 (dk_at dksX3_item_2 6 rfl rfl)
theorem dX3_item_53 : decode cX3_item 53 = .ok (.aload_n 0, 1) := dk_42 (dk_at dksX3_item_2 7 rfl rfl)
theorem dX3_item_54 : decode cX3_item 54 = .ok (.getfield 3, 3) := dk_180 0 3 (dk_at dksX3_item_2 8 rfl rfl)
theorem dX3_item_57 : decode cX3_item 57 = .ok (.getfield 68, 3) := dk_180 0 68 (dk_at dksX3_item_2 11 rfl rfl)
theorem dX3_item_60 : decode cX3_item 60 = .ok (.getfield 92, 3) := dk_180 0 92 (dk_at dksX3_item_2 14 rfl rfl)
theorem dX3_item_63 : decode cX3_item 63 = .ok (.iconst 3, 1) := dk_6 (dk_at dksX3_item_2 17 rfl rfl)
theorem dX3_item_64 : decode cX3_item 64 = .ok (.if_icmp .ge 7, 3) := dk_162 0 7 (dk_at dksX3_item_2 18 rfl rfl)
theorem dX3_item_67 : decode cX3_item 67 = .ok (.iconst 1, 1) := dk_4 (dk_at dksX3_item_2 21 rfl rfl)
theorem dX3_item_68 : decode cX3_item 68 = .ok (.goto 4, 3) := dk_167 0 4 (dk_at dksX3_item_3 0 rfl rfl)
theorem dX3_item_71 : decode cX3_item 71 = .ok (.iconst 0, 1) := dk_3 (dk_at dksX3_item_3 3 rfl rfl)
theorem dX3_item_72 : decode cX3_item 72 = .ok (.invokevirtual 61, 3) := dk_182 0 61 (dk_at dksX3_item_3 4 rfl rfl)
theorem dX3_item_75 : decode cX3_item 75 = .ok (.aload_n 0, 1) := dk_42 (dk_at dksX3_item_3 7 rfl rfl)
theorem dX3_item_76 : decode cX3_item 76 = .ok (.invokevirtual 65, 3) := dk_182 0 65 (dk_at dksX3_item_3 8 rfl rfl)
theorem dX3_item_79 : decode cX3_item 79 = .ok (.aload_n 0, 1) := dk_42 (dk_at dksX3_item_3 11 rfl rfl)
theorem dX3_item_80 : decode cX3_item 80 = .ok (.getfield 3, 3) := dk_180 0 3 (dk_at dksX3_item_3 12 rfl rfl)
theorem dX3_item_83 : decode cX3_item 83 = .ok (.getfield 68, 3) := dk_180 0 68 (dk_at dksX3_item_3 15 rfl rfl)
theorem dX3_item_86 : decode cX3_item 86 = .ok (.aload_n 0, 1) := dk_42 (dk_at dksX3_item_3 18 rfl rfl)
theorem dX3_item_87 : decode cX3_item 87 = .ok (.iconst 0, 1) := dk_3 (dk_at dksX3_item_3 19 rfl rfl)
theorem dX3_item_88 : decode cX3_item 88 = .ok (.iconst 5, 1) := dk_8 (dk_at dksX3_item_3 20 rfl rfl)
theorem dX3_item_89 : decode cX3_item 89 = .ok (.invokevirtual 95, 3) := dk_182 0 95 (dk_at dksX3_item_3 21 rfl rfl)
theorem dX3_item_92 : decode cX3_item 92 = .ok (.invokevirtual 99, 3) := dk_182 0 99 (dk_at dksX3_item_4 0 rfl rfl)
theorem dX3_item_95 : decode cX3_item 95 = .ok (.goto 391, 3) := dk_167 1 135 (dk_at dksX3_item_4 3 rfl rfl)
theorem dX3_item_98 : decode cX3_item 98 = .ok (.aload_n 0, 1) := dk_42 (dk_at dksX3_item_4 6 rfl rfl)
theorem dX3_item_99 : decode cX3_item 99 = .ok (.ldc 102, 2) := dk_18 102 (dk_at dksX3_item_4 7 rfl rfl)
theorem dX3_item_101 : decode cX3_item 101 = .ok (.invokevirtual 86, 3) := dk_182 0 86 (dk_at dksX3_item_4 9 rfl rfl)
theorem dX3_item_104 : decode cX3_item 104 = .ok (.ifCond .eq 131, 3) := dk_153 0 131 (dk_at dksX3_item_4 12 rfl rfl)
theorem dX3_item_107 : decode cX3_item 107 = .ok (.aload_n 0, 1) := dk_42 (dk_at dksX3_item_4 15 rfl rfl)
theorem dX3_item_108 : decode cX3_item 108 = .ok (.aload_n 0, 1) := dk_42 (dk_at dksX3_item_4 16 rfl rfl)
theorem dX3_item_109 : decode cX3_item 109 = .ok (.getfield 3, 3) := dk_180 0 3 (dk_at dksX3_item_4 17 rfl rfl)
theorem dX3_item_112 : decode cX3_item 112 = .ok (.getfield 68, 3) := dk_180 0 68 (dk_at dksX3_item_4 20 rfl rfl)
theorem dX3_item_115 : decode cX3_item 115 = .ok (.getfield 104, 3) := dk_180 0 104 (dk_at dksX3_item_5 0 rfl rfl)
theorem dX3_item_118 : decode cX3_item 118 = .ok (.bipush 8, 2) := dk_16 8 (dk_at dksX3_item_5 3 rfl rfl)
theorem dX3_item_120 : decode cX3_item 120 = .ok (.if_icmp .ge 7, 3) := dk_162 0 7 (dk_at dksX3_item_5 5 rfl rfl)
theorem dX3_item_123 : decode cX3_item 123 = .ok (.iconst 1, 1) := dk_4 (dk_at dksX3_item_5 8 rfl rfl)
theorem dX3_item_124 : decode cX3_item 124 = .ok (.goto 4, 3) := dk_167 0 4 (dk_at dksX3_item_5 9 rfl rfl)
theorem dX3_item_127 : decode cX3_item 127 = .ok (.iconst 0, 1) := dk_3 (dk_at dksX3_item_5 12 rfl rfl)
theorem dX3_item_128 : decode cX3_item 128 = .ok (.invokevirtual 61, 3) := dk_182 0 61 (dk_at dksX3_item_5 13 rfl rfl)
theorem dX3_item_131 : decode cX3_item 131 = .ok (.aload_n 0, 1) := dk_42 (dk_at dksX3_item_5 16 rfl rfl)
theorem dX3_item_132 : decode cX3_item 132 = .ok (.invokevirtual 65, 3) := dk_182 0 65 (dk_at dksX3_item_5 17 rfl rfl)
theorem dX3_item_135 : decode cX3_item 135 = .ok (.aload_n 0, 1) := dk_42 (dk_at dksX3_item_5 20 rfl rfl)
theorem dX3_item_136 : decode cX3_item 136 = .ok (.iconst 0, 1) := dk_3 (dk_at dksX3_item_5 21 rfl rfl)
theorem dX3_item_137 : decode cX3_item 137 = .ok (.iconst 5, 1) := dk_8 (dk_at dksX3_item_5 22 rfl rfl)
theorem dX3_item_138 : decode cX3_item 138 = .ok (.invokevirtual 95, 3) := dk_182 0 95 (dk_at dksX3_item_6 0 rfl rfl)
theorem dX3_item_141 : decode cX3_item 141 = .ok (.istore_n 1, 1) := dk_60 (dk_at dksX3_item_6 3 rfl rfl)
theorem dX3_item_142 : decode cX3_item 142 = .ok (.aload_n 0, 1) := dk_42 (dk_at dksX3_item_6 4 rfl rfl)
theorem dX3_item_143 : decode cX3_item 143 = .ok (.iconst 1, 1) := dk_4 (dk_at dksX3_item_6 5 rfl rfl)
theorem dX3_item_144 : decode cX3_item 144 = .ok (.bipush 9, 2) := dk_16 9 (dk_at dksX3_item_6 6 rfl rfl)
theorem dX3_item_146 : decode cX3_item 146 = .ok (.invokevirtual 95, 3) := dk_182 0 95 (dk_at dksX3_item_6 8 rfl rfl)
theorem dX3_item_149 : decode cX3_item 149 = .ok (.istore_n 2, 1) := dk_61 (dk_at dksX3_item_6 11 rfl rfl)
theorem dX3_item_150 : decode cX3_item 150 = .ok (.aload_n 0, 1) := dk_42 (dk_at dksX3_item_6 12 rfl rfl)
theorem dX3_item_151 : decode cX3_item 151 = .ok (.aload_n 0, 1) := dk_42 (dk_at dksX3_item_6 13 rfl rfl)
theorem dX3_item_152 : decode cX3_item 152 = .ok (.getfield 33, 3) := dk_180 0 33 (dk_at dksX3_item_6 14 rfl rfl)
theorem dX3_item_155 : decode cX3_item 155 = .ok (.iconst 2, 1) := dk_5 (dk_at dksX3_item_6 17 rfl rfl)
theorem dX3_item_156 : decode cX3_item 156 = .ok (.if_icmp .ne 41, 3) := dk_160 0 41 (dk_at dksX3_item_6 18 rfl rfl)
theorem dX3_item_159 : decode cX3_item 159 = .ok (.aload_n 0, 1) := dk_42 (dk_at dksX3_item_6 21 rfl rfl)
theorem dX3_item_160 : decode cX3_item 160 = .ok (.getfield 40, 3) := dk_180 0 40 (dk_at dksX3_item_7 0 rfl rfl)
theorem dX3_item_163 : decode cX3_item 163 = .ok (.bipush 9, 2) := dk_16 9 (dk_at dksX3_item_7 3 rfl rfl)
theorem dX3_item_165 : decode cX3_item 165 = .ok (.if_icmp .eq 28, 3) := dk_159 0 28 (dk_at dksX3_item_7 5 rfl rfl)
theorem dX3_item_168 : decode cX3_item 168 = .ok (.aload_n 0, 1) := dk_42 (dk_at dksX3_item_7 8 rfl rfl)
theorem dX3_item_169 : decode cX3_item 169 = .ok (.getfield 40, 3) := dk_180 0 40 (dk_at dksX3_item_7 9 rfl rfl)
theorem dX3_item_172 : decode cX3_item 172 = .ok (.i2l, 1) := dk_133 (dk_at dksX3_item_7 12 rfl rfl)
theorem dX3_item_173 : decode cX3_item 173 = .ok (.lconst 0, 1) := dk_9 (dk_at dksX3_item_7 13 rfl rfl)
theorem dX3_item_174 : decode cX3_item 174 = .ok (.aload_n 0, 1) := dk_42 (dk_at dksX3_item_7 14 rfl rfl)
theorem dX3_item_175 : decode cX3_item 175 = .ok (.getfield 3, 3) := dk_180 0 3 (dk_at dksX3_item_7 15 rfl rfl)
theorem dX3_item_178 : decode cX3_item 178 = .ok (.getfield 68, 3) := dk_180 0 68 (dk_at dksX3_item_7 18 rfl rfl)
theorem dX3_item_181 : decode cX3_item 181 = .ok (.getfield 92, 3) := dk_180 0 92 (dk_at dksX3_item_7 21 rfl rfl)
theorem dX3_item_184 : decode cX3_item 184 = .ok (.iconst 1, 1) := dk_4 (dk_at dksX3_item_8 0 rfl rfl)
theorem dX3_item_185 : decode cX3_item 185 = .ok (.isub, 1) := dk_100 (dk_at dksX3_item_8 1 rfl rfl)
theorem dX3_item_186 : decode cX3_item 186 = .ok (.i2l, 1) := dk_133 (dk_at dksX3_item_8 2 rfl rfl)
theorem dX3_item_187 : decode cX3_item 187 = .ok (.invokestatic 57, 3) := dk_184 0 57 (dk_at dksX3_item_8 3 rfl rfl)
theorem dX3_item_190 : decode cX3_item 190 = .ok (.ifCond .eq 7, 3) := dk_153 0 7 (dk_at dksX3_item_8 6 rfl rfl)
theorem dX3_item_193 : decode cX3_item 193 = .ok (.iconst 1, 1) := dk_4 (dk_at dksX3_item_8 9 rfl rfl)
theorem dX3_item_194 : decode cX3_item 194 = .ok (.goto 4, 3) := dk_167 0 4 (dk_at dksX3_item_8 10 rfl rfl)
theorem dX3_item_197 : decode cX3_item 197 = .ok (.iconst 0, 1) := dk_3 (dk_at dksX3_item_8 13 rfl rfl)
theorem dX3_item_198 : decode cX3_item 198 = .ok (.invokevirtual 61, 3) := dk_182 0 61 (dk_at dksX3_item_8 14 rfl rfl)
theorem dX3_item_201 : decode cX3_item 201 = .ok (.aload_n 0, 1) := dk_42 (dk_at dksX3_item_8 17 rfl rfl)
theorem dX3_item_202 : decode cX3_item 202 = .ok (.iconst 0, 1) := dk_3 (dk_at dksX3_item_8 18 rfl rfl)
theorem dX3_item_203 : decode cX3_item 203 = .ok (.bipush 9, 2) := dk_16 9 (dk_at dksX3_item_8 19 rfl rfl)
theorem dX3_item_205 : decode cX3_item 205 = .ok (.invokevirtual 95, 3) := dk_182 0 95 (dk_at dksX3_item_8 21 rfl rfl)
theorem dX3_item_208 : decode cX3_item 208 = .ok (.istore_n 3, 1) := dk_62 (dk_at dksX3_item_9 0 rfl rfl)
theorem dX3_item_209 : decode cX3_item 209 = .ok (.aload_n 0, 1) := dk_42 (dk_at dksX3_item_9 1 rfl rfl)
theorem dX3_item_210 : decode cX3_item 210 = .ok (.getfield 3, 3) := dk_180 0 3 (dk_at dksX3_item_9 2 rfl rfl)
theorem dX3_item_213 : decode cX3_item 213 = .ok (.getfield 68, 3) := dk_180 0 68 (dk_at dksX3_item_9 5 rfl rfl)
theorem dX3_item_216 : decode cX3_item 216 = .ok (.iload_n 1, 1) := dk_27 (dk_at dksX3_item_9 8 rfl rfl)
theorem dX3_item_217 : decode cX3_item 217 = .ok (.iload_n 2, 1) := dk_28 (dk_at dksX3_item_9 9 rfl rfl)
theorem dX3_item_218 : decode cX3_item 218 = .ok (.iload_n 3, 1) := dk_29 (dk_at dksX3_item_9 10 rfl rfl)
theorem dX3_item_219 : decode cX3_item 219 = .ok (.bipush 9, 2) := dk_16 9 (dk_at dksX3_item_9 11 rfl rfl)
theorem dX3_item_221 : decode cX3_item 221 = .ok (.if_icmp .ne 7, 3) := dk_160 0 7 (dk_at dksX3_item_9 13 rfl rfl)
theorem dX3_item_224 : decode cX3_item 224 = .ok (.iconst (-1), 1) := dk_2 (dk_at dksX3_item_9 16 rfl rfl)
theorem dX3_item_225 : decode cX3_item 225 = .ok (.goto 4, 3) := dk_167 0 4 (dk_at dksX3_item_9 17 rfl rfl)
theorem dX3_item_228 : decode cX3_item 228 = .ok (.iload_n 3, 1) := dk_29 (dk_at dksX3_item_9 20 rfl rfl)
theorem dX3_item_229 : decode cX3_item 229 = .ok (.invokevirtual 107, 3) := dk_182 0 107 (dk_at dksX3_item_9 21 rfl rfl)
theorem dX3_item_232 : decode cX3_item 232 = .ok (.goto 254, 3) := dk_167 0 254 (dk_at dksX3_item_10 0 rfl rfl)
theorem dX3_item_235 : decode cX3_item 235 = .ok (.aload_n 0, 1) := dk_42 (dk_at dksX3_item_10 3 rfl rfl)
theorem dX3_item_236 : decode cX3_item 236 = .ok (.ldc 111, 2) := dk_18 111 (dk_at dksX3_item_10 4 rfl rfl)
theorem dX3_item_238 : decode cX3_item 238 = .ok (.invokevirtual 86, 3) := dk_182 0 86 (dk_at dksX3_item_10 6 rfl rfl)
theorem dX3_item_241 : decode cX3_item 241 = .ok (.ifCond .eq 117, 3) := dk_153 0 117 (dk_at dksX3_item_10 9 rfl rfl)
theorem dX3_item_244 : decode cX3_item 244 = .ok (.aload_n 0, 1) := dk_42 (dk_at dksX3_item_10 12 rfl rfl)
theorem dX3_item_245 : decode cX3_item 245 = .ok (.invokevirtual 65, 3) := dk_182 0 65 (dk_at dksX3_item_10 13 rfl rfl)
theorem dX3_item_248 : decode cX3_item 248 = .ok (.aload_n 0, 1) := dk_42 (dk_at dksX3_item_10 16 rfl rfl)
theorem dX3_item_249 : decode cX3_item 249 = .ok (.aload_n 0, 1) := dk_42 (dk_at dksX3_item_10 17 rfl rfl)
theorem dX3_item_250 : decode cX3_item 250 = .ok (.getfield 33, 3) := dk_180 0 33 (dk_at dksX3_item_10 18 rfl rfl)
theorem dX3_item_253 : decode cX3_item 253 = .ok (.iconst 2, 1) := dk_5 (dk_at dksX3_item_10 21 rfl rfl)
theorem dX3_item_254 : decode cX3_item 254 = .ok (.if_icmp .ne 59, 3) := dk_160 0 59 (dk_at dksX3_item_11 0 rfl rfl)
theorem dX3_item_257 : decode cX3_item 257 = .ok (.aload_n 0, 1) := dk_42 (dk_at dksX3_item_11 3 rfl rfl)
theorem dX3_item_258 : decode cX3_item 258 = .ok (.getfield 40, 3) := dk_180 0 40 (dk_at dksX3_item_11 4 rfl rfl)
theorem dX3_item_261 : decode cX3_item 261 = .ok (.i2l, 1) := dk_133 (dk_at dksX3_item_11 7 rfl rfl)
theorem dX3_item_262 : decode cX3_item 262 = .ok (.lconst 0, 1) := dk_9 (dk_at dksX3_item_11 8 rfl rfl)
theorem dX3_item_263 : decode cX3_item 263 = .ok (.aload_n 0, 1) := dk_42 (dk_at dksX3_item_11 9 rfl rfl)
theorem dX3_item_264 : decode cX3_item 264 = .ok (.getfield 3, 3) := dk_180 0 3 (dk_at dksX3_item_11 10 rfl rfl)
theorem dX3_item_267 : decode cX3_item 267 = .ok (.getfield 68, 3) := dk_180 0 68 (dk_at dksX3_item_11 13 rfl rfl)
theorem dX3_item_270 : decode cX3_item 270 = .ok (.getfield 92, 3) := dk_180 0 92 (dk_at dksX3_item_11 16 rfl rfl)
theorem dX3_item_273 : decode cX3_item 273 = .ok (.iconst 1, 1) := dk_4 (dk_at dksX3_item_11 19 rfl rfl)
theorem dX3_item_274 : decode cX3_item 274 = .ok (.isub, 1) := dk_100 (dk_at dksX3_item_11 20 rfl rfl)
theorem dX3_item_275 : decode cX3_item 275 = .ok (.i2l, 1) := dk_133 (dk_at dksX3_item_11 21 rfl rfl)
theorem dX3_item_276 : decode cX3_item 276 = .ok (.invokestatic 57, 3) := dk_184 0 57 (dk_at dksX3_item_12 0 rfl rfl)
theorem dX3_item_279 : decode cX3_item 279 = .ok (.ifCond .eq 34, 3) := dk_153 0 34 (dk_at dksX3_item_12 3 rfl rfl)
theorem dX3_item_282 : decode cX3_item 282 = .ok (.aload_n 0, 1) := dk_42 (dk_at dksX3_item_12 6 rfl rfl)
theorem dX3_item_283 : decode cX3_item 283 = .ok (.getfield 3, 3) := dk_180 0 3 (dk_at dksX3_item_12 7 rfl rfl)
theorem dX3_item_286 : decode cX3_item 286 = .ok (.getfield 68, 3) := dk_180 0 68 (dk_at dksX3_item_12 10 rfl rfl)
theorem dX3_item_289 : decode cX3_item 289 = .ok (.aload_n 0, 1) := dk_42 (dk_at dksX3_item_12 13 rfl rfl)
theorem dX3_item_290 : decode cX3_item 290 = .ok (.getfield 3, 3) := dk_180 0 3 (dk_at dksX3_item_12 14 rfl rfl)
theorem dX3_item_293 : decode cX3_item 293 = .ok (.getfield 68, 3) := dk_180 0 68 (dk_at dksX3_item_12 17 rfl rfl)
theorem dX3_item_296 : decode cX3_item 296 = .ok (.getfield 113, 3) := dk_180 0 113 (dk_at dksX3_item_12 20 rfl rfl)
theorem dX3_item_299 : decode cX3_item 299 = .ok (.aload_n 0, 1) := dk_42 (dk_at dksX3_item_12 23 rfl rfl)
theorem dX3_item_300 : decode cX3_item 300 = .ok (.getfield 40, 3) := dk_180 0 40 (dk_at dksX3_item_13 0 rfl rfl)
theorem dX3_item_303 : decode cX3_item 303 = .ok (.invokevirtual 117, 3) := dk_182 0 117 (dk_at dksX3_item_13 3 rfl rfl)
theorem dX3_item_306 : decode cX3_item 306 = .ok (.ifCond .eq 7, 3) := dk_153 0 7 (dk_at dksX3_item_13 6 rfl rfl)
theorem dX3_item_309 : decode cX3_item 309 = .ok (.iconst 1, 1) := dk_4 (dk_at dksX3_item_13 9 rfl rfl)
theorem dX3_item_310 : decode cX3_item 310 = .ok (.goto 4, 3) := dk_167 0 4 (dk_at dksX3_item_13 10 rfl rfl)
theorem dX3_item_313 : decode cX3_item 313 = .ok (.iconst 0, 1) := dk_3 (dk_at dksX3_item_13 13 rfl rfl)
theorem dX3_item_314 : decode cX3_item 314 = .ok (.invokevirtual 61, 3) := dk_182 0 61 (dk_at dksX3_item_13 14 rfl rfl)
theorem dX3_item_317 : decode cX3_item 317 = .ok (.aload_n 0, 1) := dk_42 (dk_at dksX3_item_13 17 rfl rfl)
theorem dX3_item_318 : decode cX3_item 318 = .ok (.getfield 3, 3) := dk_180 0 3 (dk_at dksX3_item_13 18 rfl rfl)
theorem dX3_item_321 : decode cX3_item 321 = .ok (.getfield 68, 3) := dk_180 0 68 (dk_at dksX3_item_13 21 rfl rfl)
theorem dX3_item_324 : decode cX3_item 324 = .ok (.aload_n 0, 1) := dk_42 (dk_at dksX3_item_14 0 rfl rfl)
theorem dX3_item_325 : decode cX3_item 325 = .ok (.getfield 3, 3) := dk_180 0 3 (dk_at dksX3_item_14 1 rfl rfl)
theorem dX3_item_328 : decode cX3_item 328 = .ok (.getfield 68, 3) := dk_180 0 68 (dk_at dksX3_item_14 4 rfl rfl)
theorem dX3_item_331 : decode cX3_item 331 = .ok (.getfield 113, 3) := dk_180 0 113 (dk_at dksX3_item_14 7 rfl rfl)
theorem dX3_item_334 : decode cX3_item 334 = .ok (.aload_n 0, 1) := dk_42 (dk_at dksX3_item_14 10 rfl rfl)
theorem dX3_item_335 : decode cX3_item 335 = .ok (.iconst 0, 1) := dk_3 (dk_at dksX3_item_14 11 rfl rfl)
theorem dX3_item_336 : decode cX3_item 336 = .ok (.aload_n 0, 1) := dk_42 (dk_at dksX3_item_14 12 rfl rfl)
theorem dX3_item_337 : decode cX3_item 337 = .ok (.getfield 3, 3) := dk_180 0 3 (dk_at dksX3_item_14 13 rfl rfl)
theorem dX3_item_340 : decode cX3_item 340 = .ok (.getfield 68, 3) := dk_180 0 68 (dk_at dksX3_item_14 16 rfl rfl)
theorem dX3_item_343 : decode cX3_item 343 = .ok (.getfield 92, 3) := dk_180 0 92 (dk_at dksX3_item_14 19 rfl rfl)
theorem dX3_item_346 : decode cX3_item 346 = .ok (.iconst 1, 1) := dk_4 (dk_at dksX3_item_14 22 rfl rfl)
theorem dX3_item_347 : decode cX3_item 347 = .ok (.isub, 1) := dk_100 (dk_at dksX3_item_14 23 rfl rfl)
theorem dX3_item_348 : decode cX3_item 348 = .ok (.invokevirtual 95, 3) := dk_182 0 95 (dk_at dksX3_item_15 0 rfl rfl)
theorem dX3_item_351 : decode cX3_item 351 = .ok (.invokevirtual 120, 3) := dk_182 0 120 (dk_at dksX3_item_15 3 rfl rfl)
theorem dX3_item_354 : decode cX3_item 354 = .ok (.pop, 1) := dk_87 (dk_at dksX3_item_15 6 rfl rfl)
theorem dX3_item_355 : decode cX3_item 355 = .ok (.goto 131, 3) := dk_167 0 131 (dk_at dksX3_item_15 7 rfl rfl)
theorem dX3_item_358 : decode cX3_item 358 = .ok (.aload_n 0, 1) := dk_42 (dk_at dksX3_item_15 10 rfl rfl)
theorem dX3_item_359 : decode cX3_item 359 = .ok (.aload_n 0, 1) := dk_42 (dk_at dksX3_item_15 11 rfl rfl)
theorem dX3_item_360 : decode cX3_item 360 = .ok (.ldc 123, 2) := dk_18 123 (dk_at dksX3_item_15 12 rfl rfl)
theorem dX3_item_362 : decode cX3_item 362 = .ok (.invokevirtual 86, 3) := dk_182 0 86 (dk_at dksX3_item_15 14 rfl rfl)
theorem dX3_item_365 : decode cX3_item 365 = .ok (.invokevirtual 61, 3) := dk_182 0 61 (dk_at dksX3_item_15 17 rfl rfl)
theorem dX3_item_368 : decode cX3_item 368 = .ok (.aload_n 0, 1) := dk_42 (dk_at dksX3_item_15 20 rfl rfl)
theorem dX3_item_369 : decode cX3_item 369 = .ok (.invokevirtual 65, 3) := dk_182 0 65 (dk_at dksX3_item_15 21 rfl rfl)
theorem dX3_item_372 : decode cX3_item 372 = .ok (.aload_n 0, 1) := dk_42 (dk_at dksX3_item_16 0 rfl rfl)
theorem dX3_item_373 : decode cX3_item 373 = .ok (.iconst 0, 1) := dk_3 (dk_at dksX3_item_16 1 rfl rfl)
theorem dX3_item_374 : decode cX3_item 374 = .ok (.aload_n 0, 1) := dk_42 (dk_at dksX3_item_16 2 rfl rfl)
theorem dX3_item_375 : decode cX3_item 375 = .ok (.getfield 3, 3) := dk_180 0 3 (dk_at dksX3_item_16 3 rfl rfl)
theorem dX3_item_378 : decode cX3_item 378 = .ok (.getfield 68, 3) := dk_180 0 68 (dk_at dksX3_item_16 6 rfl rfl)
theorem dX3_item_381 : decode cX3_item 381 = .ok (.getfield 92, 3) := dk_180 0 92 (dk_at dksX3_item_16 9 rfl rfl)
theorem dX3_item_384 : decode cX3_item 384 = .ok (.iconst 1, 1) := dk_4 (dk_at dksX3_item_16 12 rfl rfl)
theorem dX3_item_385 : decode cX3_item 385 = .ok (.isub, 1) := dk_100 (dk_at dksX3_item_16 13 rfl rfl)
theorem dX3_item_386 : decode cX3_item 386 = .ok (.invokevirtual 95, 3) := dk_182 0 95 (dk_at dksX3_item_16 14 rfl rfl)
theorem dX3_item_389 : decode cX3_item 389 = .ok (.istore_n 1, 1) := dk_60 (dk_at dksX3_item_16 17 rfl rfl)
theorem dX3_item_390 : decode cX3_item 390 = .ok (.aload_n 0, 1) := dk_42 (dk_at dksX3_item_16 18 rfl rfl)
theorem dX3_item_391 : decode cX3_item 391 = .ok (.aload_n 0, 1) := dk_42 (dk_at dksX3_item_16 19 rfl rfl)
theorem dX3_item_392 : decode cX3_item 392 = .ok (.getfield 33, 3) := dk_180 0 33 (dk_at dksX3_item_16 20 rfl rfl)
theorem dX3_item_395 : decode cX3_item 395 = .ok (.iconst 2, 1) := dk_5 (dk_at dksX3_item_16 23 rfl rfl)
theorem dX3_item_396 : decode cX3_item 396 = .ok (.if_icmp .ne 54, 3) := dk_160 0 54 (dk_at dksX3_item_17 0 rfl rfl)
theorem dX3_item_399 : decode cX3_item 399 = .ok (.aload_n 0, 1) := dk_42 (dk_at dksX3_item_17 3 rfl rfl)
theorem dX3_item_400 : decode cX3_item 400 = .ok (.getfield 40, 3) := dk_180 0 40 (dk_at dksX3_item_17 4 rfl rfl)
theorem dX3_item_403 : decode cX3_item 403 = .ok (.i2l, 1) := dk_133 (dk_at dksX3_item_17 7 rfl rfl)
theorem dX3_item_404 : decode cX3_item 404 = .ok (.lconst 0, 1) := dk_9 (dk_at dksX3_item_17 8 rfl rfl)
theorem dX3_item_405 : decode cX3_item 405 = .ok (.aload_n 0, 1) := dk_42 (dk_at dksX3_item_17 9 rfl rfl)
theorem dX3_item_406 : decode cX3_item 406 = .ok (.getfield 3, 3) := dk_180 0 3 (dk_at dksX3_item_17 10 rfl rfl)
theorem dX3_item_409 : decode cX3_item 409 = .ok (.getfield 68, 3) := dk_180 0 68 (dk_at dksX3_item_17 13 rfl rfl)
theorem dX3_item_412 : decode cX3_item 412 = .ok (.getfield 104, 3) := dk_180 0 104 (dk_at dksX3_item_17 16 rfl rfl)
theorem dX3_item_415 : decode cX3_item 415 = .ok (.iconst 1, 1) := dk_4 (dk_at dksX3_item_17 19 rfl rfl)
theorem dX3_item_416 : decode cX3_item 416 = .ok (.isub, 1) := dk_100 (dk_at dksX3_item_17 20 rfl rfl)
theorem dX3_item_417 : decode cX3_item 417 = .ok (.i2l, 1) := dk_133 (dk_at dksX3_item_17 21 rfl rfl)
theorem dX3_item_418 : decode cX3_item 418 = .ok (.invokestatic 57, 3) := dk_184 0 57 (dk_at dksX3_item_18 0 rfl rfl)
theorem dX3_item_421 : decode cX3_item 421 = .ok (.ifCond .eq 29, 3) := dk_153 0 29 (dk_at dksX3_item_18 3 rfl rfl)
theorem dX3_item_424 : decode cX3_item 424 = .ok (.aload_n 0, 1) := dk_42 (dk_at dksX3_item_18 6 rfl rfl)
theorem dX3_item_425 : decode cX3_item 425 = .ok (.getfield 3, 3) := dk_180 0 3 (dk_at dksX3_item_18 7 rfl rfl)
theorem dX3_item_428 : decode cX3_item 428 = .ok (.getfield 68, 3) := dk_180 0 68 (dk_at dksX3_item_18 10 rfl rfl)
theorem dX3_item_431 : decode cX3_item 431 = .ok (.getfield 113, 3) := dk_180 0 113 (dk_at dksX3_item_18 13 rfl rfl)
theorem dX3_item_434 : decode cX3_item 434 = .ok (.getfield 125, 3) := dk_180 0 125 (dk_at dksX3_item_18 16 rfl rfl)
theorem dX3_item_437 : decode cX3_item 437 = .ok (.aload_n 0, 1) := dk_42 (dk_at dksX3_item_18 19 rfl rfl)
theorem dX3_item_438 : decode cX3_item 438 = .ok (.getfield 40, 3) := dk_180 0 40 (dk_at dksX3_item_18 20 rfl rfl)
theorem dX3_item_441 : decode cX3_item 441 = .ok (.iaload, 1) := dk_46 (dk_at dksX3_item_18 23 rfl rfl)
theorem dX3_item_442 : decode cX3_item 442 = .ok (.iconst (-1), 1) := dk_2 (dk_at dksX3_item_19 0 rfl rfl)
theorem dX3_item_443 : decode cX3_item 443 = .ok (.if_icmp .ne 7, 3) := dk_160 0 7 (dk_at dksX3_item_19 1 rfl rfl)
theorem dX3_item_446 : decode cX3_item 446 = .ok (.iconst 1, 1) := dk_4 (dk_at dksX3_item_19 4 rfl rfl)
theorem dX3_item_447 : decode cX3_item 447 = .ok (.goto 4, 3) := dk_167 0 4 (dk_at dksX3_item_19 5 rfl rfl)
theorem dX3_item_450 : decode cX3_item 450 = .ok (.iconst 0, 1) := dk_3 (dk_at dksX3_item_19 8 rfl rfl)
theorem dX3_item_451 : decode cX3_item 451 = .ok (.invokevirtual 61, 3) := dk_182 0 61 (dk_at dksX3_item_19 9 rfl rfl)
theorem dX3_item_454 : decode cX3_item 454 = .ok (.aload_n 0, 1) := dk_42 (dk_at dksX3_item_19 12 rfl rfl)
theorem dX3_item_455 : decode cX3_item 455 = .ok (.getfield 3, 3) := dk_180 0 3 (dk_at dksX3_item_19 13 rfl rfl)
theorem dX3_item_458 : decode cX3_item 458 = .ok (.getfield 68, 3) := dk_180 0 68 (dk_at dksX3_item_19 16 rfl rfl)
theorem dX3_item_461 : decode cX3_item 461 = .ok (.getfield 113, 3) := dk_180 0 113 (dk_at dksX3_item_19 19 rfl rfl)
theorem dX3_item_464 : decode cX3_item 464 = .ok (.getfield 125, 3) := dk_180 0 125 (dk_at dksX3_item_20 0 rfl rfl)
theorem dX3_item_467 : decode cX3_item 467 = .ok (.aload_n 0, 1) := dk_42 (dk_at dksX3_item_20 3 rfl rfl)
theorem dX3_item_468 : decode cX3_item 468 = .ok (.iconst 0, 1) := dk_3 (dk_at dksX3_item_20 4 rfl rfl)
theorem dX3_item_469 : decode cX3_item 469 = .ok (.aload_n 0, 1) := dk_42 (dk_at dksX3_item_20 5 rfl rfl)
theorem dX3_item_470 : decode cX3_item 470 = .ok (.getfield 3, 3) := dk_180 0 3 (dk_at dksX3_item_20 6 rfl rfl)
theorem dX3_item_473 : decode cX3_item 473 = .ok (.getfield 68, 3) := dk_180 0 68 (dk_at dksX3_item_20 9 rfl rfl)
theorem dX3_item_476 : decode cX3_item 476 = .ok (.getfield 104, 3) := dk_180 0 104 (dk_at dksX3_item_20 12 rfl rfl)
theorem dX3_item_479 : decode cX3_item 479 = .ok (.iconst 1, 1) := dk_4 (dk_at dksX3_item_20 15 rfl rfl)
theorem dX3_item_480 : decode cX3_item 480 = .ok (.isub, 1) := dk_100 (dk_at dksX3_item_20 16 rfl rfl)
theorem dX3_item_481 : decode cX3_item 481 = .ok (.invokevirtual 95, 3) := dk_182 0 95 (dk_at dksX3_item_20 17 rfl rfl)
theorem dX3_item_484 : decode cX3_item 484 = .ok (.iload_n 1, 1) := dk_27 (dk_at dksX3_item_20 20 rfl rfl)
theorem dX3_item_485 : decode cX3_item 485 = .ok (.iastore, 1) := dk_79 (dk_at dksX3_item_20 21 rfl rfl)
theorem dX3_item_486 : decode cX3_item 486 = .ok (.return_, 1) := dk_177 (dk_at dksX3_item_20 22 rfl rfl)
abbrev cX3_isWord : ByteArray := prog_15_method_5_code
def yX3_isWord : MethodName := ⟨RX3, "isWord", "(Ljava/lang/String;)Z"⟩
def dkwX3_isWord_3 : List UInt8 := [3, 61, 132, 3, 1, 167, 255, 213, 28, 172]
abbrev dktX3_isWord_3 : List UInt8 := dkwX3_isWord_3 ++ []
def dkwX3_isWord_2 : List UInt8 := [182, 0, 48, 42, 180, 0, 3, 180, 0, 22, 42, 180, 0, 30, 29, 96, 51, 160, 0, 7, 4, 167, 0, 4]
abbrev dktX3_isWord_2 : List UInt8 := dkwX3_isWord_2 ++ dktX3_isWord_3
def dkwX3_isWord_1 : List UInt8 := [4, 167, 0, 4, 3, 61, 3, 62, 29, 43, 182, 0, 43, 162, 0, 41, 28, 153, 0, 37, 43, 29]
abbrev dktX3_isWord_1 : List UInt8 := dkwX3_isWord_1 ++ dktX3_isWord_2
def dkwX3_isWord_0 : List UInt8 := [42, 180, 0, 33, 7, 160, 0, 23, 43, 182, 0, 43, 42, 180, 0, 15, 42, 180, 0, 30, 100, 160, 0, 7]
abbrev dktX3_isWord_0 : List UInt8 := dkwX3_isWord_0 ++ dktX3_isWord_1
theorem dksX3_isWord_0 : cX3_isWord.data.toList.drop 0 = dktX3_isWord_0 := by decide +kernel
theorem dksX3_isWord_1 : cX3_isWord.data.toList.drop 24 = dktX3_isWord_1 := dk_seg dksX3_isWord_0 24 rfl rfl
theorem dksX3_isWord_2 : cX3_isWord.data.toList.drop 46 = dktX3_isWord_2 := dk_seg dksX3_isWord_1 22 rfl rfl
theorem dksX3_isWord_3 : cX3_isWord.data.toList.drop 70 = dktX3_isWord_3 := dk_seg dksX3_isWord_2 24 rfl rfl
theorem dX3_isWord_0 : decode cX3_isWord 0 = .ok (.aload_n 0, 1) := dk_42 (dk_at dksX3_isWord_0 0 rfl rfl)
theorem dX3_isWord_1 : decode cX3_isWord 1 = .ok (.getfield 33, 3) := dk_180 0 33 (dk_at dksX3_isWord_0 1 rfl rfl)
theorem dX3_isWord_4 : decode cX3_isWord 4 = .ok (.iconst 4, 1) := dk_7 (dk_at dksX3_isWord_0 4 rfl rfl)
theorem dX3_isWord_5 : decode cX3_isWord 5 = .ok (.if_icmp .ne 23, 3) := dk_160 0 23 (dk_at dksX3_isWord_0 5 rfl rfl)
theorem dX3_isWord_8 : decode cX3_isWord 8 = .ok (.aload_n 1, 1) := dk_43 (dk_at dksX3_isWord_0 8 rfl rfl)
theorem dX3_isWord_9 : decode cX3_isWord 9 = .ok (.invokevirtual 43, 3) := dk_182 0 43 (dk_at dksX3_isWord_0 9 rfl rfl)
theorem dX3_isWord_12 : decode cX3_isWord 12 = .ok (.aload_n 0, 1) := dk_42 (dk_at dksX3_isWord_0 12 rfl rfl)
theorem dX3_isWord_13 : decode cX3_isWord 13 = .ok (.getfield 15, 3) := dk_180 0 15 (dk_at dksX3_isWord_0 13 rfl rfl)
theorem dX3_isWord_16 : decode cX3_isWord 16 = .ok (.aload_n 0, 1) := dk_42 (dk_at dksX3_isWord_0 16 rfl rfl)
theorem dX3_isWord_17 : decode cX3_isWord 17 = .ok (.getfield 30, 3) := dk_180 0 30 (dk_at dksX3_isWord_0 17 rfl rfl)
theorem dX3_isWord_20 : decode cX3_isWord 20 = .ok (.isub, 1) := dk_100 (dk_at dksX3_isWord_0 20 rfl rfl)
theorem dX3_isWord_21 : decode cX3_isWord 21 = .ok (.if_icmp .ne 7, 3) := dk_160 0 7 (dk_at dksX3_isWord_0 21 rfl rfl)
theorem dX3_isWord_24 : decode cX3_isWord 24 = .ok (.iconst 1, 1) := dk_4 (dk_at dksX3_isWord_1 0 rfl rfl)
theorem dX3_isWord_25 : decode cX3_isWord 25 = .ok (.goto 4, 3) := dk_167 0 4 (dk_at dksX3_isWord_1 1 rfl rfl)
theorem dX3_isWord_28 : decode cX3_isWord 28 = .ok (.iconst 0, 1) := dk_3 (dk_at dksX3_isWord_1 4 rfl rfl)
theorem dX3_isWord_29 : decode cX3_isWord 29 = .ok (.istore_n 2, 1) := dk_61 (dk_at dksX3_isWord_1 5 rfl rfl)
theorem dX3_isWord_30 : decode cX3_isWord 30 = .ok (.iconst 0, 1) := dk_3 (dk_at dksX3_isWord_1 6 rfl rfl)
theorem dX3_isWord_31 : decode cX3_isWord 31 = .ok (.istore_n 3, 1) := dk_62 (dk_at dksX3_isWord_1 7 rfl rfl)
theorem dX3_isWord_32 : decode cX3_isWord 32 = .ok (.iload_n 3, 1) := dk_29 (dk_at dksX3_isWord_1 8 rfl rfl)
theorem dX3_isWord_33 : decode cX3_isWord 33 = .ok (.aload_n 1, 1) := dk_43 (dk_at dksX3_isWord_1 9 rfl rfl)
theorem dX3_isWord_34 : decode cX3_isWord 34 = .ok (.invokevirtual 43, 3) := dk_182 0 43 (dk_at dksX3_isWord_1 10 rfl rfl)
theorem dX3_isWord_37 : decode cX3_isWord 37 = .ok (.if_icmp .ge 41, 3) := dk_162 0 41 (dk_at dksX3_isWord_1 13 rfl rfl)
theorem dX3_isWord_40 : decode cX3_isWord 40 = .ok (.iload_n 2, 1) := dk_28 (dk_at dksX3_isWord_1 16 rfl rfl)
theorem dX3_isWord_41 : decode cX3_isWord 41 = .ok (.ifCond .eq 37, 3) := dk_153 0 37 (dk_at dksX3_isWord_1 17 rfl rfl)
theorem dX3_isWord_44 : decode cX3_isWord 44 = .ok (.aload_n 1, 1) := dk_43 (dk_at dksX3_isWord_1 20 rfl rfl)
theorem dX3_isWord_45 : decode cX3_isWord 45 = .ok (.iload_n 3, 1) := dk_29 (dk_at dksX3_isWord_1 21 rfl rfl)
theorem dX3_isWord_46 : decode cX3_isWord 46 = .ok (.invokevirtual 48, 3) := dk_182 0 48 (dk_at dksX3_isWord_2 0 rfl rfl)
theorem dX3_isWord_49 : decode cX3_isWord 49 = .ok (.aload_n 0, 1) := dk_42 (dk_at dksX3_isWord_2 3 rfl rfl)
theorem dX3_isWord_50 : decode cX3_isWord 50 = .ok (.getfield 3, 3) := dk_180 0 3 (dk_at dksX3_isWord_2 4 rfl rfl)
theorem dX3_isWord_53 : decode cX3_isWord 53 = .ok (.getfield 22, 3) := dk_180 0 22 (dk_at dksX3_isWord_2 7 rfl rfl)
theorem dX3_isWord_56 : decode cX3_isWord 56 = .ok (.aload_n 0, 1) := dk_42 (dk_at dksX3_isWord_2 10 rfl rfl)
theorem dX3_isWord_57 : decode cX3_isWord 57 = .ok (.getfield 30, 3) := dk_180 0 30 (dk_at dksX3_isWord_2 11 rfl rfl)
theorem dX3_isWord_60 : decode cX3_isWord 60 = .ok (.iload_n 3, 1) := dk_29 (dk_at dksX3_isWord_2 14 rfl rfl)
theorem dX3_isWord_61 : decode cX3_isWord 61 = .ok (.iadd, 1) := dk_96 (dk_at dksX3_isWord_2 15 rfl rfl)
theorem dX3_isWord_62 : decode cX3_isWord 62 = .ok (.baload, 1) := dk_51 (dk_at dksX3_isWord_2 16 rfl rfl)
theorem dX3_isWord_63 : decode cX3_isWord 63 = .ok (.if_icmp .ne 7, 3) := dk_160 0 7 (dk_at dksX3_isWord_2 17 rfl rfl)
theorem dX3_isWord_66 : decode cX3_isWord 66 = .ok (.iconst 1, 1) := dk_4 (dk_at dksX3_isWord_2 20 rfl rfl)
theorem dX3_isWord_67 : decode cX3_isWord 67 = .ok (.goto 4, 3) := dk_167 0 4 (dk_at dksX3_isWord_2 21 rfl rfl)
theorem dX3_isWord_70 : decode cX3_isWord 70 = .ok (.iconst 0, 1) := dk_3 (dk_at dksX3_isWord_3 0 rfl rfl)
theorem dX3_isWord_71 : decode cX3_isWord 71 = .ok (.istore_n 2, 1) := dk_61 (dk_at dksX3_isWord_3 1 rfl rfl)
theorem dX3_isWord_72 : decode cX3_isWord 72 = .ok (.iinc 3 1, 3) := dk_132 3 1 (dk_at dksX3_isWord_3 2 rfl rfl)
theorem dX3_isWord_75 : decode cX3_isWord 75 = .ok (.goto (-43), 3) := dk_167 255 213 (dk_at dksX3_isWord_3 5 rfl rfl)
theorem dX3_isWord_78 : decode cX3_isWord 78 = .ok (.iload_n 2, 1) := dk_28 (dk_at dksX3_isWord_3 8 rfl rfl)
theorem dX3_isWord_79 : decode cX3_isWord 79 = .ok (.ireturn, 1) := dk_172 (dk_at dksX3_isWord_3 9 rfl rfl)
abbrev cX3_takes : ByteArray := prog_15_method_7_code
def yX3_takes : MethodName := ⟨RX3, "takes", "(II)I"⟩
def dkwX3_takes_1 : List UInt8 := [4, 167, 0, 4, 3, 182, 0, 61, 42, 180, 0, 40, 62, 42, 182, 0, 65, 29, 172]
abbrev dktX3_takes_1 : List UInt8 := dkwX3_takes_1 ++ []
def dkwX3_takes_0 : List UInt8 := [42, 42, 180, 0, 33, 5, 160, 0, 22, 42, 180, 0, 40, 133, 27, 133, 28, 133, 184, 0, 57, 153, 0, 7]
abbrev dktX3_takes_0 : List UInt8 := dkwX3_takes_0 ++ dktX3_takes_1
theorem dksX3_takes_0 : cX3_takes.data.toList.drop 0 = dktX3_takes_0 := by decide +kernel
theorem dksX3_takes_1 : cX3_takes.data.toList.drop 24 = dktX3_takes_1 := dk_seg dksX3_takes_0 24 rfl rfl
theorem dX3_takes_0 : decode cX3_takes 0 = .ok (.aload_n 0, 1) := dk_42 (dk_at dksX3_takes_0 0 rfl rfl)
theorem dX3_takes_1 : decode cX3_takes 1 = .ok (.aload_n 0, 1) := dk_42 (dk_at dksX3_takes_0 1 rfl rfl)
theorem dX3_takes_2 : decode cX3_takes 2 = .ok (.getfield 33, 3) := dk_180 0 33 (dk_at dksX3_takes_0 2 rfl rfl)
theorem dX3_takes_5 : decode cX3_takes 5 = .ok (.iconst 2, 1) := dk_5 (dk_at dksX3_takes_0 5 rfl rfl)
theorem dX3_takes_6 : decode cX3_takes 6 = .ok (.if_icmp .ne 22, 3) := dk_160 0 22 (dk_at dksX3_takes_0 6 rfl rfl)
theorem dX3_takes_9 : decode cX3_takes 9 = .ok (.aload_n 0, 1) := dk_42 (dk_at dksX3_takes_0 9 rfl rfl)
theorem dX3_takes_10 : decode cX3_takes 10 = .ok (.getfield 40, 3) := dk_180 0 40 (dk_at dksX3_takes_0 10 rfl rfl)
theorem dX3_takes_13 : decode cX3_takes 13 = .ok (.i2l, 1) := dk_133 (dk_at dksX3_takes_0 13 rfl rfl)
theorem dX3_takes_14 : decode cX3_takes 14 = .ok (.iload_n 1, 1) := dk_27 (dk_at dksX3_takes_0 14 rfl rfl)
theorem dX3_takes_15 : decode cX3_takes 15 = .ok (.i2l, 1) := dk_133 (dk_at dksX3_takes_0 15 rfl rfl)
theorem dX3_takes_16 : decode cX3_takes 16 = .ok (.iload_n 2, 1) := dk_28 (dk_at dksX3_takes_0 16 rfl rfl)
theorem dX3_takes_17 : decode cX3_takes 17 = .ok (.i2l, 1) := dk_133 (dk_at dksX3_takes_0 17 rfl rfl)
theorem dX3_takes_18 : decode cX3_takes 18 = .ok (.invokestatic 57, 3) := dk_184 0 57 (dk_at dksX3_takes_0 18 rfl rfl)
theorem dX3_takes_21 : decode cX3_takes 21 = .ok (.ifCond .eq 7, 3) := dk_153 0 7 (dk_at dksX3_takes_0 21 rfl rfl)
theorem dX3_takes_24 : decode cX3_takes 24 = .ok (.iconst 1, 1) := dk_4 (dk_at dksX3_takes_1 0 rfl rfl)
theorem dX3_takes_25 : decode cX3_takes 25 = .ok (.goto 4, 3) := dk_167 0 4 (dk_at dksX3_takes_1 1 rfl rfl)
theorem dX3_takes_28 : decode cX3_takes 28 = .ok (.iconst 0, 1) := dk_3 (dk_at dksX3_takes_1 4 rfl rfl)
theorem dX3_takes_29 : decode cX3_takes 29 = .ok (.invokevirtual 61, 3) := dk_182 0 61 (dk_at dksX3_takes_1 5 rfl rfl)
theorem dX3_takes_32 : decode cX3_takes 32 = .ok (.aload_n 0, 1) := dk_42 (dk_at dksX3_takes_1 8 rfl rfl)
theorem dX3_takes_33 : decode cX3_takes 33 = .ok (.getfield 40, 3) := dk_180 0 40 (dk_at dksX3_takes_1 9 rfl rfl)
theorem dX3_takes_36 : decode cX3_takes 36 = .ok (.istore_n 3, 1) := dk_62 (dk_at dksX3_takes_1 12 rfl rfl)
theorem dX3_takes_37 : decode cX3_takes 37 = .ok (.aload_n 0, 1) := dk_42 (dk_at dksX3_takes_1 13 rfl rfl)
theorem dX3_takes_38 : decode cX3_takes 38 = .ok (.invokevirtual 65, 3) := dk_182 0 65 (dk_at dksX3_takes_1 14 rfl rfl)
theorem dX3_takes_41 : decode cX3_takes 41 = .ok (.iload_n 3, 1) := dk_29 (dk_at dksX3_takes_1 17 rfl rfl)
theorem dX3_takes_42 : decode cX3_takes 42 = .ok (.ireturn, 1) := dk_172 (dk_at dksX3_takes_1 18 rfl rfl)
theorem q64 : (Jvm.Cond.initialized "LeftBehind$Reader") ∈ lw_all := lw_g (lw_at lw_m1 4 rfl) rfl
theorem q105 : (Jvm.Cond.fieldLinkNest "LeftBehind$Reader" (125 : Nat) "LeftBehind$State" "places" "[I" "LeftBehind") ∈ lw_tbl := lw_at lw_m1 45 rfl
theorem q122 : (Jvm.Cond.fieldLinkNest "LeftBehind$Reader" (92 : Nat) "LeftBehind$Island" "fleet" "I" "LeftBehind") ∈ lw_tbl := lw_at lw_m1 62 rfl
theorem q131 : (Jvm.Cond.fieldLinkNest "LeftBehind$Reader" (104 : Nat) "LeftBehind$Island" "many" "I" "LeftBehind") ∈ lw_tbl := lw_at lw_m1 71 rfl
theorem q148 : (Jvm.Cond.fieldLinkNest "LeftBehind$Reader" (113 : Nat) "LeftBehind$Island" "now" "LLeftBehind$State;" "LeftBehind") ∈ lw_tbl := lw_at lw_m1 88 rfl
theorem q187 : (Jvm.Cond.instantiable "LeftBehind$Reader" (6 : Nat)) ∈ lw_all := lw_g (lw_at lw_m1 127 rfl) rfl
theorem q189 : (Jvm.Cond.instanceMethod ({ cls := "LeftBehind$Reader", name := "<init>", desc := "(LLeftBehind;)V" } : Jvm.MethodName)) ∈ lw_all := lw_g (lw_at lw_m1 129 rfl) rfl
theorem q190 : (Jvm.Cond.code ({ cls := "LeftBehind$Reader", name := "<init>", desc := "(LLeftBehind;)V" } : Jvm.MethodName) prog_15_method_1_code (2 : Nat) (Option.none : Option Jvm.ClassFile.FieldType)) ∈ lw_all := lw_g (lw_at lw_m1 130 rfl) rfl
theorem q191 : (Jvm.Cond.methodLink "LeftBehind$Reader" (9 : Nat) ({ cls := "java/lang/Object", name := "<init>", desc := "()V" } : Jvm.MethodName)) ∈ lw_all := lw_g (lw_at lw_m1 131 rfl) rfl
theorem q192 : (Jvm.Cond.fieldLink "LeftBehind$Reader" (15 : Nat) "LeftBehind$Reader" "at" "I") ∈ lw_all := lw_g (lw_at lw_m1 132 rfl) rfl
theorem q193 : (Jvm.Cond.fieldLink "LeftBehind$Reader" (30 : Nat) "LeftBehind$Reader" "start" "I") ∈ lw_all := lw_g (lw_at lw_m1 133 rfl) rfl
theorem q194 : (Jvm.Cond.fieldLink "LeftBehind$Reader" (33 : Nat) "LeftBehind$Reader" "token" "I") ∈ lw_all := lw_g (lw_at lw_m1 134 rfl) rfl
theorem q195 : (Jvm.Cond.fieldLink "LeftBehind$Reader" (40 : Nat) "LeftBehind$Reader" "value" "I") ∈ lw_all := lw_g (lw_at lw_m1 135 rfl) rfl
theorem q196 : (Jvm.Cond.fieldLink "LeftBehind$Reader" (77 : Nat) "LeftBehind$Reader" "begun" "Z") ∈ lw_all := lw_g (lw_at lw_m1 136 rfl) rfl
theorem q197 : (Jvm.Cond.fieldLink "LeftBehind$Reader" (3 : Nat) "LeftBehind$Reader" "this$0" "LLeftBehind;") ∈ lw_all := lw_g (lw_at lw_m1 137 rfl) rfl
theorem q198 : (Jvm.Cond.lays "LeftBehind$Reader" "LeftBehind$Reader" "at" "I") ∈ lw_all := lw_g (lw_at lw_m1 138 rfl) rfl
theorem q199 : (Jvm.Cond.soleField "LeftBehind$Reader" "at") ∈ lw_all := lw_g (lw_at lw_m1 139 rfl) rfl
theorem q200 : (Jvm.Cond.lays "LeftBehind$Reader" "LeftBehind$Reader" "start" "I") ∈ lw_all := lw_g (lw_at lw_m1 140 rfl) rfl
theorem q201 : (Jvm.Cond.soleField "LeftBehind$Reader" "start") ∈ lw_all := lw_g (lw_at lw_m1 141 rfl) rfl
theorem q202 : (Jvm.Cond.lays "LeftBehind$Reader" "LeftBehind$Reader" "token" "I") ∈ lw_all := lw_g (lw_at lw_m1 142 rfl) rfl
theorem q203 : (Jvm.Cond.soleField "LeftBehind$Reader" "token") ∈ lw_all := lw_g (lw_at lw_m1 143 rfl) rfl
theorem q204 : (Jvm.Cond.lays "LeftBehind$Reader" "LeftBehind$Reader" "value" "I") ∈ lw_all := lw_g (lw_at lw_m1 144 rfl) rfl
theorem q205 : (Jvm.Cond.soleField "LeftBehind$Reader" "value") ∈ lw_all := lw_g (lw_at lw_m1 145 rfl) rfl
theorem q206 : (Jvm.Cond.lays "LeftBehind$Reader" "LeftBehind$Reader" "begun" "Z") ∈ lw_all := lw_g (lw_at lw_m1 146 rfl) rfl
theorem q207 : (Jvm.Cond.soleField "LeftBehind$Reader" "begun") ∈ lw_all := lw_g (lw_at lw_m1 147 rfl) rfl
theorem q208 : (Jvm.Cond.laysFinal "LeftBehind$Reader" "LeftBehind$Reader" "this$0" "LLeftBehind;") ∈ lw_all := lw_g (lw_at lw_m1 148 rfl) rfl
theorem q209 : (Jvm.Cond.soleField "LeftBehind$Reader" "this$0") ∈ lw_all := lw_g (lw_at lw_m1 149 rfl) rfl
theorem q210 : (Jvm.Cond.superclass "LeftBehind$Reader" "java/lang/Object") ∈ lw_all := lw_g (lw_at lw_m1 150 rfl) rfl
theorem q271 : (Jvm.Cond.fieldLinkNest "LeftBehind$Reader" (68 : Nat) "LeftBehind" "aside" "LLeftBehind$Island;" "LeftBehind") ∈ lw_tbl := lw_at lw_m1 211 rfl
theorem q276 : (Jvm.Cond.fieldLinkNest "LeftBehind$Reader" (22 : Nat) "LeftBehind" "text" "[B" "LeftBehind") ∈ lw_tbl := lw_at lw_m1 216 rfl
theorem q278 : (Jvm.Cond.fieldLinkNest "LeftBehind$Reader" (19 : Nat) "LeftBehind" "typed" "I" "LeftBehind") ∈ lw_tbl := lw_at lw_m1 218 rfl
theorem q377 : (Jvm.Cond.instanceMethod ({ cls := "LeftBehind$Reader", name := "reads", desc := "()I" } : Jvm.MethodName)) ∈ lw_all := lw_g (lw_at lw_m2 77 rfl) rfl
theorem q378 : (Jvm.Cond.selects "LeftBehind$Reader" ({ cls := "LeftBehind$Reader", name := "reads", desc := "()I" } : Jvm.MethodName) ({ cls := "LeftBehind$Reader", name := "reads", desc := "()I" } : Jvm.MethodName)) ∈ lw_all := lw_g (lw_at lw_m2 78 rfl) rfl
theorem q379 : (Jvm.Cond.code ({ cls := "LeftBehind$Reader", name := "reads", desc := "()I" } : Jvm.MethodName) prog_15_method_8_code (2 : Nat) (Option.some Jvm.ClassFile.FieldType.int)) ∈ lw_all := lw_g (lw_at lw_m2 79 rfl) rfl
theorem q380 : (Jvm.Cond.methodLink "LeftBehind$Reader" (72 : Nat) ({ cls := "LeftBehind$Island", name := "begins", desc := "()V" } : Jvm.MethodName)) ∈ lw_all := lw_g (lw_at lw_m2 80 rfl) rfl
theorem q381 : (Jvm.Cond.methodLink "LeftBehind$Reader" (65 : Nat) ({ cls := "LeftBehind$Reader", name := "scans", desc := "()V" } : Jvm.MethodName)) ∈ lw_all := lw_g (lw_at lw_m2 81 rfl) rfl
theorem q382 : (Jvm.Cond.privateMethod ({ cls := "LeftBehind$Reader", name := "scans", desc := "()V" } : Jvm.MethodName)) ∈ lw_tbl := lw_at lw_m2 82 rfl
theorem q383 : (Jvm.Cond.instanceMethod ({ cls := "LeftBehind$Reader", name := "scans", desc := "()V" } : Jvm.MethodName)) ∈ lw_all := lw_g (lw_at lw_m2 83 rfl) rfl
theorem q384 : (Jvm.Cond.code ({ cls := "LeftBehind$Reader", name := "scans", desc := "()V" } : Jvm.MethodName) prog_15_method_3_code (1 : Nat) (Option.none : Option Jvm.ClassFile.FieldType)) ∈ lw_all := lw_g (lw_at lw_m2 84 rfl) rfl
theorem q385 : (Jvm.Cond.methodLink "LeftBehind$Reader" (26 : Nat) ({ cls := "LeftBehind$Reader", name := "isAt", desc := "(II)Z" } : Jvm.MethodName)) ∈ lw_all := lw_g (lw_at lw_m2 85 rfl) rfl
theorem q386 : (Jvm.Cond.privateMethod ({ cls := "LeftBehind$Reader", name := "isAt", desc := "(II)Z" } : Jvm.MethodName)) ∈ lw_tbl := lw_at lw_m2 86 rfl
theorem q387 : (Jvm.Cond.instanceMethod ({ cls := "LeftBehind$Reader", name := "isAt", desc := "(II)Z" } : Jvm.MethodName)) ∈ lw_all := lw_g (lw_at lw_m2 87 rfl) rfl
theorem q388 : (Jvm.Cond.code ({ cls := "LeftBehind$Reader", name := "isAt", desc := "(II)Z" } : Jvm.MethodName) prog_15_method_2_code (3 : Nat) (Option.some Jvm.ClassFile.FieldType.boolean)) ∈ lw_all := lw_g (lw_at lw_m2 88 rfl) rfl
theorem q389 : (Jvm.Cond.methodLink "LeftBehind$Reader" (36 : Nat) ({ cls := "LeftBehind$Reader", name := "number", desc := "()I" } : Jvm.MethodName)) ∈ lw_all := lw_g (lw_at lw_m2 89 rfl) rfl
theorem q390 : (Jvm.Cond.privateMethod ({ cls := "LeftBehind$Reader", name := "number", desc := "()I" } : Jvm.MethodName)) ∈ lw_tbl := lw_at lw_m2 90 rfl
theorem q391 : (Jvm.Cond.instanceMethod ({ cls := "LeftBehind$Reader", name := "number", desc := "()I" } : Jvm.MethodName)) ∈ lw_all := lw_g (lw_at lw_m2 91 rfl) rfl
theorem q392 : (Jvm.Cond.code ({ cls := "LeftBehind$Reader", name := "number", desc := "()I" } : Jvm.MethodName) prog_15_method_4_code (2 : Nat) (Option.some Jvm.ClassFile.FieldType.int)) ∈ lw_all := lw_g (lw_at lw_m2 92 rfl) rfl
theorem q393 : (Jvm.Cond.methodLink "LeftBehind$Reader" (61 : Nat) ({ cls := "LeftBehind$Reader", name := "wants", desc := "(Z)V" } : Jvm.MethodName)) ∈ lw_all := lw_g (lw_at lw_m2 93 rfl) rfl
theorem q394 : (Jvm.Cond.privateMethod ({ cls := "LeftBehind$Reader", name := "wants", desc := "(Z)V" } : Jvm.MethodName)) ∈ lw_tbl := lw_at lw_m2 94 rfl
theorem q395 : (Jvm.Cond.instanceMethod ({ cls := "LeftBehind$Reader", name := "wants", desc := "(Z)V" } : Jvm.MethodName)) ∈ lw_all := lw_g (lw_at lw_m2 95 rfl) rfl
theorem q396 : (Jvm.Cond.code ({ cls := "LeftBehind$Reader", name := "wants", desc := "(Z)V" } : Jvm.MethodName) prog_15_method_6_code (2 : Nat) (Option.none : Option Jvm.ClassFile.FieldType)) ∈ lw_all := lw_g (lw_at lw_m2 96 rfl) rfl
theorem q397 : (Jvm.Cond.classLink "LeftBehind$Reader" (52 : Nat) "LeftBehind$Fault") ∈ lw_all := lw_g (lw_at lw_m2 97 rfl) rfl
theorem q434 : (Jvm.Cond.methodLink "LeftBehind$Reader" (54 : Nat) ({ cls := "LeftBehind$Fault", name := "<init>", desc := "(I)V" } : Jvm.MethodName)) ∈ lw_all := lw_g (lw_at lw_m2 134 rfl) rfl
theorem q460 : (Jvm.Cond.methodLink "LeftBehind$Reader" (81 : Nat) ({ cls := "LeftBehind$Reader", name := "item", desc := "()V" } : Jvm.MethodName)) ∈ lw_all := lw_g (lw_at lw_m2 160 rfl) rfl
theorem q461 : (Jvm.Cond.privateMethod ({ cls := "LeftBehind$Reader", name := "item", desc := "()V" } : Jvm.MethodName)) ∈ lw_tbl := lw_at lw_m2 161 rfl
theorem q462 : (Jvm.Cond.instanceMethod ({ cls := "LeftBehind$Reader", name := "item", desc := "()V" } : Jvm.MethodName)) ∈ lw_all := lw_g (lw_at lw_m2 162 rfl) rfl
theorem q463 : (Jvm.Cond.code ({ cls := "LeftBehind$Reader", name := "item", desc := "()V" } : Jvm.MethodName) prog_15_method_9_code (4 : Nat) (Option.none : Option Jvm.ClassFile.FieldType)) ∈ lw_all := lw_g (lw_at lw_m2 163 rfl) rfl
theorem q464 : (Jvm.Cond.stringRef "LeftBehind$Reader" (84 : Nat) "island") ∈ lw_tbl := lw_at lw_m2 164 rfl
theorem q465 : (Jvm.Cond.methodLink "LeftBehind$Reader" (86 : Nat) ({ cls := "LeftBehind$Reader", name := "isWord", desc := "(Ljava/lang/String;)Z" } : Jvm.MethodName)) ∈ lw_all := lw_g (lw_at lw_m2 165 rfl) rfl
theorem q466 : (Jvm.Cond.privateMethod ({ cls := "LeftBehind$Reader", name := "isWord", desc := "(Ljava/lang/String;)Z" } : Jvm.MethodName)) ∈ lw_tbl := lw_at lw_m2 166 rfl
theorem q467 : (Jvm.Cond.instanceMethod ({ cls := "LeftBehind$Reader", name := "isWord", desc := "(Ljava/lang/String;)Z" } : Jvm.MethodName)) ∈ lw_all := lw_g (lw_at lw_m2 167 rfl) rfl
theorem q468 : (Jvm.Cond.code ({ cls := "LeftBehind$Reader", name := "isWord", desc := "(Ljava/lang/String;)Z" } : Jvm.MethodName) prog_15_method_5_code (4 : Nat) (Option.some Jvm.ClassFile.FieldType.boolean)) ∈ lw_all := lw_g (lw_at lw_m2 168 rfl) rfl
theorem q469 : (Jvm.Cond.methodLink "LeftBehind$Reader" (43 : Nat) ({ cls := "java/lang/String", name := "length", desc := "()I" } : Jvm.MethodName)) ∈ lw_all := lw_g (lw_at lw_m2 169 rfl) rfl
theorem q479 : (Jvm.Cond.methodLink "LeftBehind$Reader" (48 : Nat) ({ cls := "java/lang/String", name := "charAt", desc := "(I)C" } : Jvm.MethodName)) ∈ lw_all := lw_g (lw_at lw_m2 179 rfl) rfl
theorem q517 : (Jvm.Cond.stringRef "LeftBehind$Reader" (90 : Nat) "ship") ∈ lw_tbl := lw_at lw_m2 217 rfl
theorem q518 : (Jvm.Cond.methodLink "LeftBehind$Reader" (95 : Nat) ({ cls := "LeftBehind$Reader", name := "takes", desc := "(II)I" } : Jvm.MethodName)) ∈ lw_all := lw_g (lw_at lw_m2 218 rfl) rfl
theorem q519 : (Jvm.Cond.privateMethod ({ cls := "LeftBehind$Reader", name := "takes", desc := "(II)I" } : Jvm.MethodName)) ∈ lw_tbl := lw_at lw_m2 219 rfl
theorem q520 : (Jvm.Cond.instanceMethod ({ cls := "LeftBehind$Reader", name := "takes", desc := "(II)I" } : Jvm.MethodName)) ∈ lw_all := lw_g (lw_at lw_m2 220 rfl) rfl
theorem q521 : (Jvm.Cond.code ({ cls := "LeftBehind$Reader", name := "takes", desc := "(II)I" } : Jvm.MethodName) prog_15_method_7_code (4 : Nat) (Option.some Jvm.ClassFile.FieldType.int)) ∈ lw_all := lw_g (lw_at lw_m2 221 rfl) rfl
theorem q522 : (Jvm.Cond.methodLinkNest "LeftBehind$Reader" (57 : Nat) ({ cls := "LeftBehind", name := "in", desc := "(JJJ)Z" } : Jvm.MethodName) "LeftBehind") ∈ lw_tbl := lw_at lw_m2 222 rfl
theorem q523 : (Jvm.Cond.methodLink "LeftBehind$Reader" (99 : Nat) ({ cls := "LeftBehind$Island", name := "launches", desc := "(I)V" } : Jvm.MethodName)) ∈ lw_all := lw_g (lw_at lw_m2 223 rfl) rfl
theorem q524 : (Jvm.Cond.stringRef "LeftBehind$Reader" (102 : Nat) "man") ∈ lw_tbl := lw_at lw_m2 224 rfl
theorem q525 : (Jvm.Cond.methodLink "LeftBehind$Reader" (107 : Nat) ({ cls := "LeftBehind$Island", name := "adds", desc := "(III)V" } : Jvm.MethodName)) ∈ lw_all := lw_g (lw_at lw_m2 225 rfl) rfl
theorem q526 : (Jvm.Cond.stringRef "LeftBehind$Reader" (111 : Nat) "call") ∈ lw_tbl := lw_at lw_m2 226 rfl
theorem q527 : (Jvm.Cond.methodLink "LeftBehind$Reader" (117 : Nat) ({ cls := "LeftBehind$Island", name := "at", desc := "(LLeftBehind$State;I)I" } : Jvm.MethodName)) ∈ lw_all := lw_g (lw_at lw_m2 227 rfl) rfl
theorem q531 : (Jvm.Cond.methodLink "LeftBehind$Reader" (120 : Nat) ({ cls := "LeftBehind$Island", name := "calls", desc := "(LLeftBehind$State;I)I" } : Jvm.MethodName)) ∈ lw_all := lw_g (lw_at lw_m2 231 rfl) rfl
theorem q576 : (Jvm.Cond.stringRef "LeftBehind$Reader" (123 : Nat) "board") ∈ lw_tbl := lw_at lw_m3 36 rfl
theorem in_X3 : ∀ w ∈ wsX30, w ∈ lw_all := lw_in wsX30 [198, 200, 202, 204, 206, 208] (by decide +kernel) (by decide +kernel)

/-! LeftBehind$Fews -/
set_option maxRecDepth 100000
def RX4 : String := "LeftBehind$Fews"
def TX4 : u_T := fun k => match k with
  | 0 => ("LeftBehind$Fews", "gains", "[I", true)
  | 1 => ("LeftBehind$Fews", "most", "[I", true)
  | 2 => ("LeftBehind$Fews", "row", "[I", true)
  | 3 => ("LeftBehind$Fews", "found", "[I", true)
  | 4 => ("LeftBehind$Fews", "wanted", "I", false)
  | 5 => ("LeftBehind$Fews", "fewest", "I", false)
  | _ => ("LeftBehind$Fews", "this$0", "LLeftBehind;", true)
def tyX4 : Nat → FieldType := fun k => match k with
  | 0 => .array .int
  | 1 => .array .int
  | 2 => .array .int
  | 3 => .array .int
  | 4 => .int
  | 5 => .int
  | _ => .object "LeftBehind"
abbrev wsX40 : List Cond := u_ws RX4 TX4 7
theorem nmX4 : ∀ a, a < 7 → ∀ b, b < 7 → a ≠ b → (TX4 a).2.1 ≠ (TX4 b).2.1 := by decide +kernel
theorem tyX4_ok : ∀ k, k < 7 → parseFieldDescriptor (TX4 k).2.2.1 = some (tyX4 k) := by decide +kernel
abbrev cX4_init : ByteArray := prog_10_method_1_code
def yX4_init : MethodName := ⟨RX4, "<init>", "(LLeftBehind;)V"⟩
def dkwX4_init_1 : List UInt8 := [42, 6, 188, 10, 181, 0, 22, 42, 6, 188, 10, 181, 0, 25, 177]
abbrev dktX4_init_1 : List UInt8 := dkwX4_init_1 ++ []
def dkwX4_init_0 : List UInt8 := [42, 43, 181, 0, 3, 42, 183, 0, 9, 42, 16, 27, 188, 10, 181, 0, 15, 42, 6, 188, 10, 181, 0, 19]
abbrev dktX4_init_0 : List UInt8 := dkwX4_init_0 ++ dktX4_init_1
theorem dksX4_init_0 : cX4_init.data.toList.drop 0 = dktX4_init_0 := by decide +kernel
theorem dksX4_init_1 : cX4_init.data.toList.drop 24 = dktX4_init_1 := dk_seg dksX4_init_0 24 rfl rfl
theorem dX4_init_0 : decode cX4_init 0 = .ok (.aload_n 0, 1) := dk_42 (dk_at dksX4_init_0 0 rfl rfl)
theorem dX4_init_1 : decode cX4_init 1 = .ok (.aload_n 1, 1) := dk_43 (dk_at dksX4_init_0 1 rfl rfl)
theorem dX4_init_2 : decode cX4_init 2 = .ok (.putfield 3, 3) := dk_181 0 3 (dk_at dksX4_init_0 2 rfl rfl)
theorem dX4_init_5 : decode cX4_init 5 = .ok (.aload_n 0, 1) := dk_42 (dk_at dksX4_init_0 5 rfl rfl)
theorem dX4_init_6 : decode cX4_init 6 = .ok (.invokespecial 9, 3) := dk_183 0 9 (dk_at dksX4_init_0 6 rfl rfl)
theorem dX4_init_9 : decode cX4_init 9 = .ok (.aload_n 0, 1) := dk_42 (dk_at dksX4_init_0 9 rfl rfl)
theorem dX4_init_10 : decode cX4_init 10 = .ok (.bipush 27, 2) := dk_16 27 (dk_at dksX4_init_0 10 rfl rfl)
theorem dX4_init_12 : decode cX4_init 12 = .ok (.newarray .int, 2) := dk_188_10 (dk_at dksX4_init_0 12 rfl rfl)
theorem dX4_init_14 : decode cX4_init 14 = .ok (.putfield 15, 3) := dk_181 0 15 (dk_at dksX4_init_0 14 rfl rfl)
theorem dX4_init_17 : decode cX4_init 17 = .ok (.aload_n 0, 1) := dk_42 (dk_at dksX4_init_0 17 rfl rfl)
theorem dX4_init_18 : decode cX4_init 18 = .ok (.iconst 3, 1) := dk_6 (dk_at dksX4_init_0 18 rfl rfl)
theorem dX4_init_19 : decode cX4_init 19 = .ok (.newarray .int, 2) := dk_188_10 (dk_at dksX4_init_0 19 rfl rfl)
theorem dX4_init_21 : decode cX4_init 21 = .ok (.putfield 19, 3) := dk_181 0 19 (dk_at dksX4_init_0 21 rfl rfl)
theorem dX4_init_24 : decode cX4_init 24 = .ok (.aload_n 0, 1) := dk_42 (dk_at dksX4_init_1 0 rfl rfl)
theorem dX4_init_25 : decode cX4_init 25 = .ok (.iconst 3, 1) := dk_6 (dk_at dksX4_init_1 1 rfl rfl)
theorem dX4_init_26 : decode cX4_init 26 = .ok (.newarray .int, 2) := dk_188_10 (dk_at dksX4_init_1 2 rfl rfl)
theorem dX4_init_28 : decode cX4_init 28 = .ok (.putfield 22, 3) := dk_181 0 22 (dk_at dksX4_init_1 4 rfl rfl)
theorem dX4_init_31 : decode cX4_init 31 = .ok (.aload_n 0, 1) := dk_42 (dk_at dksX4_init_1 7 rfl rfl)
theorem dX4_init_32 : decode cX4_init 32 = .ok (.iconst 3, 1) := dk_6 (dk_at dksX4_init_1 8 rfl rfl)
theorem dX4_init_33 : decode cX4_init 33 = .ok (.newarray .int, 2) := dk_188_10 (dk_at dksX4_init_1 9 rfl rfl)
theorem dX4_init_35 : decode cX4_init 35 = .ok (.putfield 25, 3) := dk_181 0 25 (dk_at dksX4_init_1 11 rfl rfl)
theorem dX4_init_38 : decode cX4_init 38 = .ok (.return_, 1) := dk_177 (dk_at dksX4_init_1 14 rfl rfl)
abbrev cX4_goes : ByteArray := prog_10_method_2_code
def yX4_goes : MethodName := ⟨RX4, "goes", "(I)V"⟩
def dkwX4_goes_8 : List UInt8 := [18, 77, 181, 0, 78, 42, 3, 3, 3, 182, 0, 81, 177]
abbrev dktX4_goes_8 : List UInt8 := dkwX4_goes_8 ++ []
def dkwX4_goes_7 : List UInt8 := [180, 0, 46, 28, 182, 0, 74, 46, 96, 79, 132, 3, 1, 167, 255, 189, 132, 2, 1, 167, 255, 118, 42]
abbrev dktX4_goes_7 : List UInt8 := dkwX4_goes_7 ++ dktX4_goes_8
def dkwX4_goes_6 : List UInt8 := [100, 46, 42, 180, 0, 3, 180, 0, 28, 180, 0, 71, 42, 180, 0, 3, 180, 0, 28, 42, 180, 0, 3]
abbrev dktX4_goes_6 : List UInt8 := dkwX4_goes_6 ++ dktX4_goes_7
def dkwX4_goes_5 : List UInt8 := [163, 0, 63, 42, 180, 0, 15, 28, 16, 9, 104, 29, 96, 42, 180, 0, 15, 28, 16, 9, 104, 29, 96, 4]
abbrev dktX4_goes_5 : List UInt8 := dkwX4_goes_5 ++ dktX4_goes_6
def dkwX4_goes_4 : List UInt8 := [167, 0, 4, 3, 79, 42, 180, 0, 15, 28, 16, 9, 104, 3, 79, 4, 62, 29, 42, 180, 0, 19, 28, 46]
abbrev dktX4_goes_4 : List UInt8 := dkwX4_goes_4 ++ dktX4_goes_5
def dkwX4_goes_3 : List UInt8 := [180, 0, 3, 180, 0, 28, 42, 180, 0, 3, 180, 0, 28, 180, 0, 50, 28, 182, 0, 62, 184, 0, 66]
abbrev dktX4_goes_3 : List UInt8 := dkwX4_goes_3 ++ dktX4_goes_4
def dkwX4_goes_2 : List UInt8 := [162, 0, 139, 42, 180, 0, 19, 28, 28, 42, 180, 0, 3, 180, 0, 28, 180, 0, 59, 162, 0, 30, 42]
abbrev dktX4_goes_2 : List UInt8 := dkwX4_goes_2 ++ dktX4_goes_3
def dkwX4_goes_1 : List UInt8 := [180, 0, 3, 180, 0, 46, 42, 180, 0, 3, 180, 0, 28, 180, 0, 50, 182, 0, 53, 3, 61, 28, 6]
abbrev dktX4_goes_1 : List UInt8 := dkwX4_goes_1 ++ dktX4_goes_2
def dkwX4_goes_0 : List UInt8 := [42, 27, 42, 180, 0, 3, 180, 0, 28, 42, 180, 0, 3, 182, 0, 32, 182, 0, 36, 100, 181, 0, 42, 42]
abbrev dktX4_goes_0 : List UInt8 := dkwX4_goes_0 ++ dktX4_goes_1
theorem dksX4_goes_0 : cX4_goes.data.toList.drop 0 = dktX4_goes_0 := by decide +kernel
theorem dksX4_goes_1 : cX4_goes.data.toList.drop 24 = dktX4_goes_1 := dk_seg dksX4_goes_0 24 rfl rfl
theorem dksX4_goes_2 : cX4_goes.data.toList.drop 47 = dktX4_goes_2 := dk_seg dksX4_goes_1 23 rfl rfl
theorem dksX4_goes_3 : cX4_goes.data.toList.drop 70 = dktX4_goes_3 := dk_seg dksX4_goes_2 23 rfl rfl
theorem dksX4_goes_4 : cX4_goes.data.toList.drop 93 = dktX4_goes_4 := dk_seg dksX4_goes_3 23 rfl rfl
theorem dksX4_goes_5 : cX4_goes.data.toList.drop 117 = dktX4_goes_5 := dk_seg dksX4_goes_4 24 rfl rfl
theorem dksX4_goes_6 : cX4_goes.data.toList.drop 141 = dktX4_goes_6 := dk_seg dksX4_goes_5 24 rfl rfl
theorem dksX4_goes_7 : cX4_goes.data.toList.drop 164 = dktX4_goes_7 := dk_seg dksX4_goes_6 23 rfl rfl
theorem dksX4_goes_8 : cX4_goes.data.toList.drop 187 = dktX4_goes_8 := dk_seg dksX4_goes_7 23 rfl rfl
theorem dX4_goes_0 : decode cX4_goes 0 = .ok (.aload_n 0, 1) := dk_42 (dk_at dksX4_goes_0 0 rfl rfl)
theorem dX4_goes_1 : decode cX4_goes 1 = .ok (.iload_n 1, 1) := dk_27 (dk_at dksX4_goes_0 1 rfl rfl)
theorem dX4_goes_2 : decode cX4_goes 2 = .ok (.aload_n 0, 1) := dk_42 (dk_at dksX4_goes_0 2 rfl rfl)
theorem dX4_goes_3 : decode cX4_goes 3 = .ok (.getfield 3, 3) := dk_180 0 3 (dk_at dksX4_goes_0 3 rfl rfl)
theorem dX4_goes_6 : decode cX4_goes 6 = .ok (.getfield 28, 3) := dk_180 0 28 (dk_at dksX4_goes_0 6 rfl rfl)
theorem dX4_goes_9 : decode cX4_goes 9 = .ok (.aload_n 0, 1) := dk_42 (dk_at dksX4_goes_0 9 rfl rfl)
theorem dX4_goes_10 : decode cX4_goes 10 = .ok (.getfield 3, 3) := dk_180 0 3 (dk_at dksX4_goes_0 10 rfl rfl)
theorem dX4_goes_13 : decode cX4_goes 13 = .ok (.invokevirtual 32, 3) := dk_182 0 32 (dk_at dksX4_goes_0 13 rfl rfl)
theorem dX4_goes_16 : decode cX4_goes 16 = .ok (.invokevirtual 36, 3) := dk_182 0 36 (dk_at dksX4_goes_0 16 rfl rfl)
theorem dX4_goes_19 : decode cX4_goes 19 = .ok (.isub, 1) := dk_100 (dk_at dksX4_goes_0 19 rfl rfl)
theorem dX4_goes_20 : decode cX4_goes 20 = .ok (.putfield 42, 3) := dk_181 0 42 (dk_at dksX4_goes_0 20 rfl rfl)
theorem dX4_goes_23 : decode cX4_goes 23 = .ok (.aload_n 0, 1) := dk_42 (dk_at dksX4_goes_0 23 rfl rfl)
theorem dX4_goes_24 : decode cX4_goes 24 = .ok (.getfield 3, 3) := dk_180 0 3 (dk_at dksX4_goes_1 0 rfl rfl)
theorem dX4_goes_27 : decode cX4_goes 27 = .ok (.getfield 46, 3) := dk_180 0 46 (dk_at dksX4_goes_1 3 rfl rfl)
theorem dX4_goes_30 : decode cX4_goes 30 = .ok (.aload_n 0, 1) := dk_42 (dk_at dksX4_goes_1 6 rfl rfl)
theorem dX4_goes_31 : decode cX4_goes 31 = .ok (.getfield 3, 3) := dk_180 0 3 (dk_at dksX4_goes_1 7 rfl rfl)
theorem dX4_goes_34 : decode cX4_goes 34 = .ok (.getfield 28, 3) := dk_180 0 28 (dk_at dksX4_goes_1 10 rfl rfl)
theorem dX4_goes_37 : decode cX4_goes 37 = .ok (.getfield 50, 3) := dk_180 0 50 (dk_at dksX4_goes_1 13 rfl rfl)
theorem dX4_goes_40 : decode cX4_goes 40 = .ok (.invokevirtual 53, 3) := dk_182 0 53 (dk_at dksX4_goes_1 16 rfl rfl)
theorem dX4_goes_43 : decode cX4_goes 43 = .ok (.iconst 0, 1) := dk_3 (dk_at dksX4_goes_1 19 rfl rfl)
theorem dX4_goes_44 : decode cX4_goes 44 = .ok (.istore_n 2, 1) := dk_61 (dk_at dksX4_goes_1 20 rfl rfl)
theorem dX4_goes_45 : decode cX4_goes 45 = .ok (.iload_n 2, 1) := dk_28 (dk_at dksX4_goes_1 21 rfl rfl)
theorem dX4_goes_46 : decode cX4_goes 46 = .ok (.iconst 3, 1) := dk_6 (dk_at dksX4_goes_1 22 rfl rfl)
theorem dX4_goes_47 : decode cX4_goes 47 = .ok (.if_icmp .ge 139, 3) := dk_162 0 139 (dk_at dksX4_goes_2 0 rfl rfl)
theorem dX4_goes_50 : decode cX4_goes 50 = .ok (.aload_n 0, 1) := dk_42 (dk_at dksX4_goes_2 3 rfl rfl)
theorem dX4_goes_51 : decode cX4_goes 51 = .ok (.getfield 19, 3) := dk_180 0 19 (dk_at dksX4_goes_2 4 rfl rfl)
theorem dX4_goes_54 : decode cX4_goes 54 = .ok (.iload_n 2, 1) := dk_28 (dk_at dksX4_goes_2 7 rfl rfl)
theorem dX4_goes_55 : decode cX4_goes 55 = .ok (.iload_n 2, 1) := dk_28 (dk_at dksX4_goes_2 8 rfl rfl)
theorem dX4_goes_56 : decode cX4_goes 56 = .ok (.aload_n 0, 1) := dk_42 (dk_at dksX4_goes_2 9 rfl rfl)
theorem dX4_goes_57 : decode cX4_goes 57 = .ok (.getfield 3, 3) := dk_180 0 3 (dk_at dksX4_goes_2 10 rfl rfl)
theorem dX4_goes_60 : decode cX4_goes 60 = .ok (.getfield 28, 3) := dk_180 0 28 (dk_at dksX4_goes_2 13 rfl rfl)
theorem dX4_goes_63 : decode cX4_goes 63 = .ok (.getfield 59, 3) := dk_180 0 59 (dk_at dksX4_goes_2 16 rfl rfl)
theorem dX4_goes_66 : decode cX4_goes 66 = .ok (.if_icmp .ge 30, 3) := dk_162 0 30 (dk_at dksX4_goes_2 19 rfl rfl)
theorem dX4_goes_69 : decode cX4_goes 69 = .ok (.aload_n 0, 1) := dk_42 (dk_at dksX4_goes_2 22 rfl rfl)
theorem dX4_goes_70 : decode cX4_goes 70 = .ok (.getfield 3, 3) := dk_180 0 3 (dk_at dksX4_goes_3 0 rfl rfl)
theorem dX4_goes_73 : decode cX4_goes 73 = .ok (.getfield 28, 3) := dk_180 0 28 (dk_at dksX4_goes_3 3 rfl rfl)
theorem dX4_goes_76 : decode cX4_goes 76 = .ok (.aload_n 0, 1) := dk_42 (dk_at dksX4_goes_3 6 rfl rfl)
theorem dX4_goes_77 : decode cX4_goes 77 = .ok (.getfield 3, 3) := dk_180 0 3 (dk_at dksX4_goes_3 7 rfl rfl)
theorem dX4_goes_80 : decode cX4_goes 80 = .ok (.getfield 28, 3) := dk_180 0 28 (dk_at dksX4_goes_3 10 rfl rfl)
theorem dX4_goes_83 : decode cX4_goes 83 = .ok (.getfield 50, 3) := dk_180 0 50 (dk_at dksX4_goes_3 13 rfl rfl)
theorem dX4_goes_86 : decode cX4_goes 86 = .ok (.iload_n 2, 1) := dk_28 (dk_at dksX4_goes_3 16 rfl rfl)
theorem dX4_goes_87 : decode cX4_goes 87 = .ok (.invokevirtual 62, 3) := dk_182 0 62 (dk_at dksX4_goes_3 17 rfl rfl)
theorem dX4_goes_90 : decode cX4_goes 90 = .ok (.invokestatic 66, 3) := dk_184 0 66 (dk_at dksX4_goes_3 20 rfl rfl)
theorem dX4_goes_93 : decode cX4_goes 93 = .ok (.goto 4, 3) := dk_167 0 4 (dk_at dksX4_goes_4 0 rfl rfl)
theorem dX4_goes_96 : decode cX4_goes 96 = .ok (.iconst 0, 1) := dk_3 (dk_at dksX4_goes_4 3 rfl rfl)
theorem dX4_goes_97 : decode cX4_goes 97 = .ok (.iastore, 1) := dk_79 (dk_at dksX4_goes_4 4 rfl rfl)
theorem dX4_goes_98 : decode cX4_goes 98 = .ok (.aload_n 0, 1) := dk_42 (dk_at dksX4_goes_4 5 rfl rfl)
theorem dX4_goes_99 : decode cX4_goes 99 = .ok (.getfield 15, 3) := dk_180 0 15 (dk_at dksX4_goes_4 6 rfl rfl)
theorem dX4_goes_102 : decode cX4_goes 102 = .ok (.iload_n 2, 1) := dk_28 (dk_at dksX4_goes_4 9 rfl rfl)
theorem dX4_goes_103 : decode cX4_goes 103 = .ok (.bipush 9, 2) := dk_16 9 (dk_at dksX4_goes_4 10 rfl rfl)
theorem dX4_goes_105 : decode cX4_goes 105 = .ok (.imul, 1) := dk_104 (dk_at dksX4_goes_4 12 rfl rfl)
theorem dX4_goes_106 : decode cX4_goes 106 = .ok (.iconst 0, 1) := dk_3 (dk_at dksX4_goes_4 13 rfl rfl)
theorem dX4_goes_107 : decode cX4_goes 107 = .ok (.iastore, 1) := dk_79 (dk_at dksX4_goes_4 14 rfl rfl)
theorem dX4_goes_108 : decode cX4_goes 108 = .ok (.iconst 1, 1) := dk_4 (dk_at dksX4_goes_4 15 rfl rfl)
theorem dX4_goes_109 : decode cX4_goes 109 = .ok (.istore_n 3, 1) := dk_62 (dk_at dksX4_goes_4 16 rfl rfl)
theorem dX4_goes_110 : decode cX4_goes 110 = .ok (.iload_n 3, 1) := dk_29 (dk_at dksX4_goes_4 17 rfl rfl)
theorem dX4_goes_111 : decode cX4_goes 111 = .ok (.aload_n 0, 1) := dk_42 (dk_at dksX4_goes_4 18 rfl rfl)
theorem dX4_goes_112 : decode cX4_goes 112 = .ok (.getfield 19, 3) := dk_180 0 19 (dk_at dksX4_goes_4 19 rfl rfl)
theorem dX4_goes_115 : decode cX4_goes 115 = .ok (.iload_n 2, 1) := dk_28 (dk_at dksX4_goes_4 22 rfl rfl)
theorem dX4_goes_116 : decode cX4_goes 116 = .ok (.iaload, 1) := dk_46 (dk_at dksX4_goes_4 23 rfl rfl)
theorem dX4_goes_117 : decode cX4_goes 117 = .ok (.if_icmp .gt 63, 3) := dk_163 0 63 (dk_at dksX4_goes_5 0 rfl rfl)
theorem dX4_goes_120 : decode cX4_goes 120 = .ok (.aload_n 0, 1) := dk_42 (dk_at dksX4_goes_5 3 rfl rfl)
theorem dX4_goes_121 : decode cX4_goes 121 = .ok (.getfield 15, 3) := dk_180 0 15 (dk_at dksX4_goes_5 4 rfl rfl)
theorem dX4_goes_124 : decode cX4_goes 124 = .ok (.iload_n 2, 1) := dk_28 (dk_at dksX4_goes_5 7 rfl rfl)
theorem dX4_goes_125 : decode cX4_goes 125 = .ok (.bipush 9, 2) := dk_16 9 (dk_at dksX4_goes_5 8 rfl rfl)
theorem dX4_goes_127 : decode cX4_goes 127 = .ok (.imul, 1) := dk_104 (dk_at dksX4_goes_5 10 rfl rfl)
theorem dX4_goes_128 : decode cX4_goes 128 = .ok (.iload_n 3, 1) := dk_29 (dk_at dksX4_goes_5 11 rfl rfl)
theorem dX4_goes_129 : decode cX4_goes 129 = .ok (.iadd, 1) := dk_96 (dk_at dksX4_goes_5 12 rfl rfl)
theorem dX4_goes_130 : decode cX4_goes 130 = .ok (.aload_n 0, 1) := dk_42 (dk_at dksX4_goes_5 13 rfl rfl)
theorem dX4_goes_131 : decode cX4_goes 131 = .ok (.getfield 15, 3) := dk_180 0 15 (dk_at dksX4_goes_5 14 rfl rfl)
theorem dX4_goes_134 : decode cX4_goes 134 = .ok (.iload_n 2, 1) := dk_28 (dk_at dksX4_goes_5 17 rfl rfl)
theorem dX4_goes_135 : decode cX4_goes 135 = .ok (.bipush 9, 2) := dk_16 9 (dk_at dksX4_goes_5 18 rfl rfl)
theorem dX4_goes_137 : decode cX4_goes 137 = .ok (.imul, 1) := dk_104 (dk_at dksX4_goes_5 20 rfl rfl)
theorem dX4_goes_138 : decode cX4_goes 138 = .ok (.iload_n 3, 1) := dk_29 (dk_at dksX4_goes_5 21 rfl rfl)
theorem dX4_goes_139 : decode cX4_goes 139 = .ok (.iadd, 1) := dk_96 (dk_at dksX4_goes_5 22 rfl rfl)
theorem dX4_goes_140 : decode cX4_goes 140 = .ok (.iconst 1, 1) := dk_4 (dk_at dksX4_goes_5 23 rfl rfl)
theorem dX4_goes_141 : decode cX4_goes 141 = .ok (.isub, 1) := dk_100 (dk_at dksX4_goes_6 0 rfl rfl)
theorem dX4_goes_142 : decode cX4_goes 142 = .ok (.iaload, 1) := dk_46 (dk_at dksX4_goes_6 1 rfl rfl)
theorem dX4_goes_143 : decode cX4_goes 143 = .ok (.aload_n 0, 1) := dk_42 (dk_at dksX4_goes_6 2 rfl rfl)
theorem dX4_goes_144 : decode cX4_goes 144 = .ok (.getfield 3, 3) := dk_180 0 3 (dk_at dksX4_goes_6 3 rfl rfl)
theorem dX4_goes_147 : decode cX4_goes 147 = .ok (.getfield 28, 3) := dk_180 0 28 (dk_at dksX4_goes_6 6 rfl rfl)
theorem dX4_goes_150 : decode cX4_goes 150 = .ok (.getfield 71, 3) := dk_180 0 71 (dk_at dksX4_goes_6 9 rfl rfl)
theorem dX4_goes_153 : decode cX4_goes 153 = .ok (.aload_n 0, 1) := dk_42 (dk_at dksX4_goes_6 12 rfl rfl)
theorem dX4_goes_154 : decode cX4_goes 154 = .ok (.getfield 3, 3) := dk_180 0 3 (dk_at dksX4_goes_6 13 rfl rfl)
theorem dX4_goes_157 : decode cX4_goes 157 = .ok (.getfield 28, 3) := dk_180 0 28 (dk_at dksX4_goes_6 16 rfl rfl)
theorem dX4_goes_160 : decode cX4_goes 160 = .ok (.aload_n 0, 1) := dk_42 (dk_at dksX4_goes_6 19 rfl rfl)
theorem dX4_goes_161 : decode cX4_goes 161 = .ok (.getfield 3, 3) := dk_180 0 3 (dk_at dksX4_goes_6 20 rfl rfl)
theorem dX4_goes_164 : decode cX4_goes 164 = .ok (.getfield 46, 3) := dk_180 0 46 (dk_at dksX4_goes_7 0 rfl rfl)
theorem dX4_goes_167 : decode cX4_goes 167 = .ok (.iload_n 2, 1) := dk_28 (dk_at dksX4_goes_7 3 rfl rfl)
theorem dX4_goes_168 : decode cX4_goes 168 = .ok (.invokevirtual 74, 3) := dk_182 0 74 (dk_at dksX4_goes_7 4 rfl rfl)
theorem dX4_goes_171 : decode cX4_goes 171 = .ok (.iaload, 1) := dk_46 (dk_at dksX4_goes_7 7 rfl rfl)
theorem dX4_goes_172 : decode cX4_goes 172 = .ok (.iadd, 1) := dk_96 (dk_at dksX4_goes_7 8 rfl rfl)
theorem dX4_goes_173 : decode cX4_goes 173 = .ok (.iastore, 1) := dk_79 (dk_at dksX4_goes_7 9 rfl rfl)
theorem dX4_goes_174 : decode cX4_goes 174 = .ok (.iinc 3 1, 3) := dk_132 3 1 (dk_at dksX4_goes_7 10 rfl rfl)
theorem dX4_goes_177 : decode cX4_goes 177 = .ok (.goto (-67), 3) := dk_167 255 189 (dk_at dksX4_goes_7 13 rfl rfl)
theorem dX4_goes_180 : decode cX4_goes 180 = .ok (.iinc 2 1, 3) := dk_132 2 1 (dk_at dksX4_goes_7 16 rfl rfl)
theorem dX4_goes_183 : decode cX4_goes 183 = .ok (.goto (-138), 3) := dk_167 255 118 (dk_at dksX4_goes_7 19 rfl rfl)
theorem dX4_goes_186 : decode cX4_goes 186 = .ok (.aload_n 0, 1) := dk_42 (dk_at dksX4_goes_7 22 rfl rfl)
theorem dX4_goes_187 : decode cX4_goes 187 = .ok (.ldc 77, 2) := dk_18 77 (dk_at dksX4_goes_8 0 rfl rfl)
theorem dX4_goes_189 : decode cX4_goes 189 = .ok (.putfield 78, 3) := dk_181 0 78 (dk_at dksX4_goes_8 2 rfl rfl)
theorem dX4_goes_192 : decode cX4_goes 192 = .ok (.aload_n 0, 1) := dk_42 (dk_at dksX4_goes_8 5 rfl rfl)
theorem dX4_goes_193 : decode cX4_goes 193 = .ok (.iconst 0, 1) := dk_3 (dk_at dksX4_goes_8 6 rfl rfl)
theorem dX4_goes_194 : decode cX4_goes 194 = .ok (.iconst 0, 1) := dk_3 (dk_at dksX4_goes_8 7 rfl rfl)
theorem dX4_goes_195 : decode cX4_goes 195 = .ok (.iconst 0, 1) := dk_3 (dk_at dksX4_goes_8 8 rfl rfl)
theorem dX4_goes_196 : decode cX4_goes 196 = .ok (.invokevirtual 81, 3) := dk_182 0 81 (dk_at dksX4_goes_8 9 rfl rfl)
theorem dX4_goes_199 : decode cX4_goes 199 = .ok (.return_, 1) := dk_177 (dk_at dksX4_goes_8 12 rfl rfl)
abbrev cX4_tries : ByteArray := prog_10_method_3_code
def yX4_tries : MethodName := ⟨RX4, "tries", "(III)V"⟩
def dkwX4_tries_3 : List UInt8 := [29, 42, 180, 0, 15, 27, 16, 9, 104, 21, 4, 96, 46, 96, 182, 0, 81, 132, 4, 1, 167, 255, 209, 177]
abbrev dktX4_tries_3 : List UInt8 := dkwX4_tries_3 ++ []
def dkwX4_tries_2 : List UInt8 := [180, 0, 19, 27, 46, 163, 0, 42, 42, 180, 0, 22, 27, 21, 4, 79, 42, 27, 4, 96, 28, 21, 4, 96]
abbrev dktX4_tries_2 : List UInt8 := dkwX4_tries_2 ++ dktX4_tries_3
def dkwX4_tries_1 : List UInt8 := [181, 0, 78, 42, 180, 0, 22, 3, 42, 180, 0, 25, 3, 6, 184, 0, 85, 177, 3, 54, 4, 21, 4, 42]
abbrev dktX4_tries_1 : List UInt8 := dkwX4_tries_1 ++ dktX4_tries_2
def dkwX4_tries_0 : List UInt8 := [27, 6, 160, 0, 39, 29, 42, 180, 0, 42, 161, 0, 30, 28, 42, 180, 0, 78, 162, 0, 22, 42, 28]
abbrev dktX4_tries_0 : List UInt8 := dkwX4_tries_0 ++ dktX4_tries_1
theorem dksX4_tries_0 : cX4_tries.data.toList.drop 0 = dktX4_tries_0 := by decide +kernel
theorem dksX4_tries_1 : cX4_tries.data.toList.drop 23 = dktX4_tries_1 := dk_seg dksX4_tries_0 23 rfl rfl
theorem dksX4_tries_2 : cX4_tries.data.toList.drop 47 = dktX4_tries_2 := dk_seg dksX4_tries_1 24 rfl rfl
theorem dksX4_tries_3 : cX4_tries.data.toList.drop 71 = dktX4_tries_3 := dk_seg dksX4_tries_2 24 rfl rfl
theorem dX4_tries_0 : decode cX4_tries 0 = .ok (.iload_n 1, 1) := dk_27 (dk_at dksX4_tries_0 0 rfl rfl)
theorem dX4_tries_1 : decode cX4_tries 1 = .ok (.iconst 3, 1) := dk_6 (dk_at dksX4_tries_0 1 rfl rfl)
theorem dX4_tries_2 : decode cX4_tries 2 = .ok (.if_icmp .ne 39, 3) := dk_160 0 39 (dk_at dksX4_tries_0 2 rfl rfl)
theorem dX4_tries_5 : decode cX4_tries 5 = .ok (.iload_n 3, 1) := dk_29 (dk_at dksX4_tries_0 5 rfl rfl)
theorem dX4_tries_6 : decode cX4_tries 6 = .ok (.aload_n 0, 1) := dk_42 (dk_at dksX4_tries_0 6 rfl rfl)
theorem dX4_tries_7 : decode cX4_tries 7 = .ok (.getfield 42, 3) := dk_180 0 42 (dk_at dksX4_tries_0 7 rfl rfl)
theorem dX4_tries_10 : decode cX4_tries 10 = .ok (.if_icmp .lt 30, 3) := dk_161 0 30 (dk_at dksX4_tries_0 10 rfl rfl)
theorem dX4_tries_13 : decode cX4_tries 13 = .ok (.iload_n 2, 1) := dk_28 (dk_at dksX4_tries_0 13 rfl rfl)
theorem dX4_tries_14 : decode cX4_tries 14 = .ok (.aload_n 0, 1) := dk_42 (dk_at dksX4_tries_0 14 rfl rfl)
theorem dX4_tries_15 : decode cX4_tries 15 = .ok (.getfield 78, 3) := dk_180 0 78 (dk_at dksX4_tries_0 15 rfl rfl)
theorem dX4_tries_18 : decode cX4_tries 18 = .ok (.if_icmp .ge 22, 3) := dk_162 0 22 (dk_at dksX4_tries_0 18 rfl rfl)
theorem dX4_tries_21 : decode cX4_tries 21 = .ok (.aload_n 0, 1) := dk_42 (dk_at dksX4_tries_0 21 rfl rfl)
theorem dX4_tries_22 : decode cX4_tries 22 = .ok (.iload_n 2, 1) := dk_28 (dk_at dksX4_tries_0 22 rfl rfl)
theorem dX4_tries_23 : decode cX4_tries 23 = .ok (.putfield 78, 3) := dk_181 0 78 (dk_at dksX4_tries_1 0 rfl rfl)
theorem dX4_tries_26 : decode cX4_tries 26 = .ok (.aload_n 0, 1) := dk_42 (dk_at dksX4_tries_1 3 rfl rfl)
theorem dX4_tries_27 : decode cX4_tries 27 = .ok (.getfield 22, 3) := dk_180 0 22 (dk_at dksX4_tries_1 4 rfl rfl)
theorem dX4_tries_30 : decode cX4_tries 30 = .ok (.iconst 0, 1) := dk_3 (dk_at dksX4_tries_1 7 rfl rfl)
theorem dX4_tries_31 : decode cX4_tries 31 = .ok (.aload_n 0, 1) := dk_42 (dk_at dksX4_tries_1 8 rfl rfl)
theorem dX4_tries_32 : decode cX4_tries 32 = .ok (.getfield 25, 3) := dk_180 0 25 (dk_at dksX4_tries_1 9 rfl rfl)
theorem dX4_tries_35 : decode cX4_tries 35 = .ok (.iconst 0, 1) := dk_3 (dk_at dksX4_tries_1 12 rfl rfl)
theorem dX4_tries_36 : decode cX4_tries 36 = .ok (.iconst 3, 1) := dk_6 (dk_at dksX4_tries_1 13 rfl rfl)
theorem dX4_tries_37 : decode cX4_tries 37 = .ok (.invokestatic 85, 3) := dk_184 0 85 (dk_at dksX4_tries_1 14 rfl rfl)
theorem dX4_tries_40 : decode cX4_tries 40 = .ok (.return_, 1) := dk_177 (dk_at dksX4_tries_1 17 rfl rfl)
theorem dX4_tries_41 : decode cX4_tries 41 = .ok (.iconst 0, 1) := dk_3 (dk_at dksX4_tries_1 18 rfl rfl)
theorem dX4_tries_42 : decode cX4_tries 42 = .ok (.istore 4, 2) := dk_54 4 (dk_at dksX4_tries_1 19 rfl rfl)
theorem dX4_tries_44 : decode cX4_tries 44 = .ok (.iload 4, 2) := dk_21 4 (dk_at dksX4_tries_1 21 rfl rfl)
theorem dX4_tries_46 : decode cX4_tries 46 = .ok (.aload_n 0, 1) := dk_42 (dk_at dksX4_tries_1 23 rfl rfl)
theorem dX4_tries_47 : decode cX4_tries 47 = .ok (.getfield 19, 3) := dk_180 0 19 (dk_at dksX4_tries_2 0 rfl rfl)
theorem dX4_tries_50 : decode cX4_tries 50 = .ok (.iload_n 1, 1) := dk_27 (dk_at dksX4_tries_2 3 rfl rfl)
theorem dX4_tries_51 : decode cX4_tries 51 = .ok (.iaload, 1) := dk_46 (dk_at dksX4_tries_2 4 rfl rfl)
theorem dX4_tries_52 : decode cX4_tries 52 = .ok (.if_icmp .gt 42, 3) := dk_163 0 42 (dk_at dksX4_tries_2 5 rfl rfl)
theorem dX4_tries_55 : decode cX4_tries 55 = .ok (.aload_n 0, 1) := dk_42 (dk_at dksX4_tries_2 8 rfl rfl)
theorem dX4_tries_56 : decode cX4_tries 56 = .ok (.getfield 22, 3) := dk_180 0 22 (dk_at dksX4_tries_2 9 rfl rfl)
theorem dX4_tries_59 : decode cX4_tries 59 = .ok (.iload_n 1, 1) := dk_27 (dk_at dksX4_tries_2 12 rfl rfl)
theorem dX4_tries_60 : decode cX4_tries 60 = .ok (.iload 4, 2) := dk_21 4 (dk_at dksX4_tries_2 13 rfl rfl)
theorem dX4_tries_62 : decode cX4_tries 62 = .ok (.iastore, 1) := dk_79 (dk_at dksX4_tries_2 15 rfl rfl)
theorem dX4_tries_63 : decode cX4_tries 63 = .ok (.aload_n 0, 1) := dk_42 (dk_at dksX4_tries_2 16 rfl rfl)
theorem dX4_tries_64 : decode cX4_tries 64 = .ok (.iload_n 1, 1) := dk_27 (dk_at dksX4_tries_2 17 rfl rfl)
theorem dX4_tries_65 : decode cX4_tries 65 = .ok (.iconst 1, 1) := dk_4 (dk_at dksX4_tries_2 18 rfl rfl)
theorem dX4_tries_66 : decode cX4_tries 66 = .ok (.iadd, 1) := dk_96 (dk_at dksX4_tries_2 19 rfl rfl)
theorem dX4_tries_67 : decode cX4_tries 67 = .ok (.iload_n 2, 1) := dk_28 (dk_at dksX4_tries_2 20 rfl rfl)
theorem dX4_tries_68 : decode cX4_tries 68 = .ok (.iload 4, 2) := dk_21 4 (dk_at dksX4_tries_2 21 rfl rfl)
theorem dX4_tries_70 : decode cX4_tries 70 = .ok (.iadd, 1) := dk_96 (dk_at dksX4_tries_2 23 rfl rfl)
theorem dX4_tries_71 : decode cX4_tries 71 = .ok (.iload_n 3, 1) := dk_29 (dk_at dksX4_tries_3 0 rfl rfl)
theorem dX4_tries_72 : decode cX4_tries 72 = .ok (.aload_n 0, 1) := dk_42 (dk_at dksX4_tries_3 1 rfl rfl)
theorem dX4_tries_73 : decode cX4_tries 73 = .ok (.getfield 15, 3) := dk_180 0 15 (dk_at dksX4_tries_3 2 rfl rfl)
theorem dX4_tries_76 : decode cX4_tries 76 = .ok (.iload_n 1, 1) := dk_27 (dk_at dksX4_tries_3 5 rfl rfl)
theorem dX4_tries_77 : decode cX4_tries 77 = .ok (.bipush 9, 2) := dk_16 9 (dk_at dksX4_tries_3 6 rfl rfl)
theorem dX4_tries_79 : decode cX4_tries 79 = .ok (.imul, 1) := dk_104 (dk_at dksX4_tries_3 8 rfl rfl)
theorem dX4_tries_80 : decode cX4_tries 80 = .ok (.iload 4, 2) := dk_21 4 (dk_at dksX4_tries_3 9 rfl rfl)
theorem dX4_tries_82 : decode cX4_tries 82 = .ok (.iadd, 1) := dk_96 (dk_at dksX4_tries_3 11 rfl rfl)
theorem dX4_tries_83 : decode cX4_tries 83 = .ok (.iaload, 1) := dk_46 (dk_at dksX4_tries_3 12 rfl rfl)
theorem dX4_tries_84 : decode cX4_tries 84 = .ok (.iadd, 1) := dk_96 (dk_at dksX4_tries_3 13 rfl rfl)
theorem dX4_tries_85 : decode cX4_tries 85 = .ok (.invokevirtual 81, 3) := dk_182 0 81 (dk_at dksX4_tries_3 14 rfl rfl)
theorem dX4_tries_88 : decode cX4_tries 88 = .ok (.iinc 4 1, 3) := dk_132 4 1 (dk_at dksX4_tries_3 17 rfl rfl)
theorem dX4_tries_91 : decode cX4_tries 91 = .ok (.goto (-47), 3) := dk_167 255 209 (dk_at dksX4_tries_3 20 rfl rfl)
theorem dX4_tries_94 : decode cX4_tries 94 = .ok (.return_, 1) := dk_177 (dk_at dksX4_tries_3 23 rfl rfl)
theorem q65 : (Jvm.Cond.initialized "LeftBehind$Fews") ∈ lw_all := lw_g (lw_at lw_m1 5 rfl) rfl
theorem q120 : (Jvm.Cond.fieldLinkNest "LeftBehind$Fews" (59 : Nat) "LeftBehind$Island" "fleet" "I" "LeftBehind") ∈ lw_tbl := lw_at lw_m1 60 rfl
theorem q127 : (Jvm.Cond.fieldLinkNest "LeftBehind$Fews" (71 : Nat) "LeftBehind$Island" "skills" "[I" "LeftBehind") ∈ lw_tbl := lw_at lw_m1 67 rfl
theorem q147 : (Jvm.Cond.fieldLinkNest "LeftBehind$Fews" (50 : Nat) "LeftBehind$Island" "now" "LLeftBehind$State;" "LeftBehind") ∈ lw_tbl := lw_at lw_m1 87 rfl
theorem q213 : (Jvm.Cond.instantiable "LeftBehind$Fews" (7 : Nat)) ∈ lw_all := lw_g (lw_at lw_m1 153 rfl) rfl
theorem q215 : (Jvm.Cond.instanceMethod ({ cls := "LeftBehind$Fews", name := "<init>", desc := "(LLeftBehind;)V" } : Jvm.MethodName)) ∈ lw_all := lw_g (lw_at lw_m1 155 rfl) rfl
theorem q216 : (Jvm.Cond.code ({ cls := "LeftBehind$Fews", name := "<init>", desc := "(LLeftBehind;)V" } : Jvm.MethodName) prog_10_method_1_code (2 : Nat) (Option.none : Option Jvm.ClassFile.FieldType)) ∈ lw_all := lw_g (lw_at lw_m1 156 rfl) rfl
theorem q217 : (Jvm.Cond.methodLink "LeftBehind$Fews" (9 : Nat) ({ cls := "java/lang/Object", name := "<init>", desc := "()V" } : Jvm.MethodName)) ∈ lw_all := lw_g (lw_at lw_m1 157 rfl) rfl
theorem q218 : (Jvm.Cond.fieldLink "LeftBehind$Fews" (15 : Nat) "LeftBehind$Fews" "gains" "[I") ∈ lw_all := lw_g (lw_at lw_m1 158 rfl) rfl
theorem q219 : (Jvm.Cond.fieldLink "LeftBehind$Fews" (19 : Nat) "LeftBehind$Fews" "most" "[I") ∈ lw_all := lw_g (lw_at lw_m1 159 rfl) rfl
theorem q220 : (Jvm.Cond.fieldLink "LeftBehind$Fews" (22 : Nat) "LeftBehind$Fews" "row" "[I") ∈ lw_all := lw_g (lw_at lw_m1 160 rfl) rfl
theorem q221 : (Jvm.Cond.fieldLink "LeftBehind$Fews" (25 : Nat) "LeftBehind$Fews" "found" "[I") ∈ lw_all := lw_g (lw_at lw_m1 161 rfl) rfl
theorem q223 : (Jvm.Cond.fieldLink "LeftBehind$Fews" (42 : Nat) "LeftBehind$Fews" "wanted" "I") ∈ lw_all := lw_g (lw_at lw_m1 163 rfl) rfl
theorem q224 : (Jvm.Cond.fieldLink "LeftBehind$Fews" (78 : Nat) "LeftBehind$Fews" "fewest" "I") ∈ lw_all := lw_g (lw_at lw_m1 164 rfl) rfl
theorem q226 : (Jvm.Cond.fieldLink "LeftBehind$Fews" (3 : Nat) "LeftBehind$Fews" "this$0" "LLeftBehind;") ∈ lw_all := lw_g (lw_at lw_m1 166 rfl) rfl
theorem q227 : (Jvm.Cond.laysFinal "LeftBehind$Fews" "LeftBehind$Fews" "gains" "[I") ∈ lw_all := lw_g (lw_at lw_m1 167 rfl) rfl
theorem q228 : (Jvm.Cond.soleField "LeftBehind$Fews" "gains") ∈ lw_all := lw_g (lw_at lw_m1 168 rfl) rfl
theorem q229 : (Jvm.Cond.laysFinal "LeftBehind$Fews" "LeftBehind$Fews" "most" "[I") ∈ lw_all := lw_g (lw_at lw_m1 169 rfl) rfl
theorem q230 : (Jvm.Cond.soleField "LeftBehind$Fews" "most") ∈ lw_all := lw_g (lw_at lw_m1 170 rfl) rfl
theorem q231 : (Jvm.Cond.laysFinal "LeftBehind$Fews" "LeftBehind$Fews" "row" "[I") ∈ lw_all := lw_g (lw_at lw_m1 171 rfl) rfl
theorem q232 : (Jvm.Cond.soleField "LeftBehind$Fews" "row") ∈ lw_all := lw_g (lw_at lw_m1 172 rfl) rfl
theorem q233 : (Jvm.Cond.laysFinal "LeftBehind$Fews" "LeftBehind$Fews" "found" "[I") ∈ lw_all := lw_g (lw_at lw_m1 173 rfl) rfl
theorem q234 : (Jvm.Cond.soleField "LeftBehind$Fews" "found") ∈ lw_all := lw_g (lw_at lw_m1 174 rfl) rfl
theorem q235 : (Jvm.Cond.lays "LeftBehind$Fews" "LeftBehind$Fews" "wanted" "I") ∈ lw_all := lw_g (lw_at lw_m1 175 rfl) rfl
theorem q236 : (Jvm.Cond.soleField "LeftBehind$Fews" "wanted") ∈ lw_all := lw_g (lw_at lw_m1 176 rfl) rfl
theorem q237 : (Jvm.Cond.lays "LeftBehind$Fews" "LeftBehind$Fews" "fewest" "I") ∈ lw_all := lw_g (lw_at lw_m1 177 rfl) rfl
theorem q238 : (Jvm.Cond.soleField "LeftBehind$Fews" "fewest") ∈ lw_all := lw_g (lw_at lw_m1 178 rfl) rfl
theorem q239 : (Jvm.Cond.laysFinal "LeftBehind$Fews" "LeftBehind$Fews" "this$0" "LLeftBehind;") ∈ lw_all := lw_g (lw_at lw_m1 179 rfl) rfl
theorem q240 : (Jvm.Cond.soleField "LeftBehind$Fews" "this$0") ∈ lw_all := lw_g (lw_at lw_m1 180 rfl) rfl
theorem q241 : (Jvm.Cond.superclass "LeftBehind$Fews" "java/lang/Object") ∈ lw_all := lw_g (lw_at lw_m1 181 rfl) rfl
theorem q267 : (Jvm.Cond.fieldLinkNest "LeftBehind$Fews" (28 : Nat) "LeftBehind" "island" "LLeftBehind$Island;" "LeftBehind") ∈ lw_tbl := lw_at lw_m1 207 rfl
theorem q274 : (Jvm.Cond.fieldLinkNest "LeftBehind$Fews" (46 : Nat) "LeftBehind" "trial" "LLeftBehind$State;" "LeftBehind") ∈ lw_tbl := lw_at lw_m1 214 rfl
theorem q767 : (Jvm.Cond.instanceMethod ({ cls := "LeftBehind$Fews", name := "goes", desc := "(I)V" } : Jvm.MethodName)) ∈ lw_all := lw_g (lw_at lw_m3 227 rfl) rfl
theorem q768 : (Jvm.Cond.selects "LeftBehind$Fews" ({ cls := "LeftBehind$Fews", name := "goes", desc := "(I)V" } : Jvm.MethodName) ({ cls := "LeftBehind$Fews", name := "goes", desc := "(I)V" } : Jvm.MethodName)) ∈ lw_all := lw_g (lw_at lw_m3 228 rfl) rfl
theorem q769 : (Jvm.Cond.code ({ cls := "LeftBehind$Fews", name := "goes", desc := "(I)V" } : Jvm.MethodName) prog_10_method_2_code (4 : Nat) (Option.none : Option Jvm.ClassFile.FieldType)) ∈ lw_all := lw_g (lw_at lw_m3 229 rfl) rfl
theorem q770 : (Jvm.Cond.methodLinkNest "LeftBehind$Fews" (32 : Nat) ({ cls := "LeftBehind", name := "ashore", desc := "()I" } : Jvm.MethodName) "LeftBehind") ∈ lw_tbl := lw_at lw_m3 230 rfl
theorem q771 : (Jvm.Cond.methodLink "LeftBehind$Fews" (36 : Nat) ({ cls := "LeftBehind$Island", name := "skillOf", desc := "(I)I" } : Jvm.MethodName)) ∈ lw_all := lw_g (lw_at lw_m3 231 rfl) rfl
theorem q772 : (Jvm.Cond.methodLink "LeftBehind$Fews" (53 : Nat) ({ cls := "LeftBehind$State", name := "takes", desc := "(LLeftBehind$State;)V" } : Jvm.MethodName)) ∈ lw_all := lw_g (lw_at lw_m3 232 rfl) rfl
theorem q773 : (Jvm.Cond.methodLink "LeftBehind$Fews" (62 : Nat) ({ cls := "LeftBehind$Island", name := "at", desc := "(LLeftBehind$State;I)I" } : Jvm.MethodName)) ∈ lw_all := lw_g (lw_at lw_m3 233 rfl) rfl
theorem q774 : (Jvm.Cond.methodLink "LeftBehind$Fews" (66 : Nat) ({ cls := "java/lang/Integer", name := "bitCount", desc := "(I)I" } : Jvm.MethodName)) ∈ lw_all := lw_g (lw_at lw_m3 234 rfl) rfl
theorem q775 : (Jvm.Cond.methodLink "LeftBehind$Fews" (74 : Nat) ({ cls := "LeftBehind$Island", name := "calls", desc := "(LLeftBehind$State;I)I" } : Jvm.MethodName)) ∈ lw_all := lw_g (lw_at lw_m3 235 rfl) rfl
theorem q776 : (Jvm.Cond.constant "LeftBehind$Fews" (77 : Nat) (1000000 : Int32)) ∈ lw_all := lw_g (lw_at lw_m3 236 rfl) rfl
theorem q777 : (Jvm.Cond.methodLink "LeftBehind$Fews" (81 : Nat) ({ cls := "LeftBehind$Fews", name := "tries", desc := "(III)V" } : Jvm.MethodName)) ∈ lw_all := lw_g (lw_at lw_m3 237 rfl) rfl
theorem q778 : (Jvm.Cond.privateMethod ({ cls := "LeftBehind$Fews", name := "tries", desc := "(III)V" } : Jvm.MethodName)) ∈ lw_tbl := lw_at lw_m3 238 rfl
theorem q779 : (Jvm.Cond.instanceMethod ({ cls := "LeftBehind$Fews", name := "tries", desc := "(III)V" } : Jvm.MethodName)) ∈ lw_all := lw_g (lw_at lw_m3 239 rfl) rfl
theorem q780 : (Jvm.Cond.code ({ cls := "LeftBehind$Fews", name := "tries", desc := "(III)V" } : Jvm.MethodName) prog_10_method_3_code (5 : Nat) (Option.none : Option Jvm.ClassFile.FieldType)) ∈ lw_all := lw_g (lw_at lw_m4 0 rfl) rfl
theorem q781 : (Jvm.Cond.methodLink "LeftBehind$Fews" (85 : Nat) ({ cls := "java/lang/System", name := "arraycopy", desc := "(Ljava/lang/Object;ILjava/lang/Object;II)V" } : Jvm.MethodName)) ∈ lw_all := lw_g (lw_at lw_m4 1 rfl) rfl
theorem in_X4 : ∀ w ∈ wsX40, w ∈ lw_all := lw_in wsX40 [227, 229, 231, 233, 235, 237, 239] (by decide +kernel) (by decide +kernel)

/-! LeftBehind$Crews -/
set_option maxRecDepth 100000
def RX5 : String := "LeftBehind$Crews"
def TX5 : u_T := fun k => match k with
  | 0 => ("LeftBehind$Crews", "found", "[I", true)
  | 1 => ("LeftBehind$Crews", "goal", "I", false)
  | 2 => ("LeftBehind$Crews", "most", "I", false)
  | _ => ("LeftBehind$Crews", "this$0", "LLeftBehind;", true)
def tyX5 : Nat → FieldType := fun k => match k with
  | 0 => .array .int
  | 1 => .int
  | 2 => .int
  | _ => .object "LeftBehind"
abbrev wsX50 : List Cond := u_ws RX5 TX5 4
theorem nmX5 : ∀ a, a < 4 → ∀ b, b < 4 → a ≠ b → (TX5 a).2.1 ≠ (TX5 b).2.1 := by decide +kernel
theorem tyX5_ok : ∀ k, k < 4 → parseFieldDescriptor (TX5 k).2.2.1 = some (tyX5 k) := by decide +kernel
abbrev cX5_init : ByteArray := prog_8_method_1_code
def yX5_init : MethodName := ⟨RX5, "<init>", "(LLeftBehind;)V"⟩
def dkwX5_init_0 : List UInt8 := [42, 43, 181, 0, 3, 42, 183, 0, 9, 42, 16, 8, 188, 10, 181, 0, 15, 177]
abbrev dktX5_init_0 : List UInt8 := dkwX5_init_0 ++ []
theorem dksX5_init_0 : cX5_init.data.toList.drop 0 = dktX5_init_0 := by decide +kernel
theorem dX5_init_0 : decode cX5_init 0 = .ok (.aload_n 0, 1) := dk_42 (dk_at dksX5_init_0 0 rfl rfl)
theorem dX5_init_1 : decode cX5_init 1 = .ok (.aload_n 1, 1) := dk_43 (dk_at dksX5_init_0 1 rfl rfl)
theorem dX5_init_2 : decode cX5_init 2 = .ok (.putfield 3, 3) := dk_181 0 3 (dk_at dksX5_init_0 2 rfl rfl)
theorem dX5_init_5 : decode cX5_init 5 = .ok (.aload_n 0, 1) := dk_42 (dk_at dksX5_init_0 5 rfl rfl)
theorem dX5_init_6 : decode cX5_init 6 = .ok (.invokespecial 9, 3) := dk_183 0 9 (dk_at dksX5_init_0 6 rfl rfl)
theorem dX5_init_9 : decode cX5_init 9 = .ok (.aload_n 0, 1) := dk_42 (dk_at dksX5_init_0 9 rfl rfl)
theorem dX5_init_10 : decode cX5_init 10 = .ok (.bipush 8, 2) := dk_16 8 (dk_at dksX5_init_0 10 rfl rfl)
theorem dX5_init_12 : decode cX5_init 12 = .ok (.newarray .int, 2) := dk_188_10 (dk_at dksX5_init_0 12 rfl rfl)
theorem dX5_init_14 : decode cX5_init 14 = .ok (.putfield 15, 3) := dk_181 0 15 (dk_at dksX5_init_0 14 rfl rfl)
theorem dX5_init_17 : decode cX5_init 17 = .ok (.return_, 1) := dk_177 (dk_at dksX5_init_0 17 rfl rfl)
abbrev cX5_goes : ByteArray := prog_8_method_2_code
def yX5_goes : MethodName := ⟨RX5, "goes", "(I)V"⟩
def dkwX5_goes_1 : List UInt8 := [180, 0, 34, 182, 0, 39, 42, 3, 182, 0, 45, 177]
abbrev dktX5_goes_1 : List UInt8 := dkwX5_goes_1 ++ []
def dkwX5_goes_0 : List UInt8 := [42, 27, 181, 0, 19, 42, 2, 181, 0, 23, 42, 180, 0, 3, 180, 0, 26, 42, 180, 0, 3, 180, 0, 30]
abbrev dktX5_goes_0 : List UInt8 := dkwX5_goes_0 ++ dktX5_goes_1
theorem dksX5_goes_0 : cX5_goes.data.toList.drop 0 = dktX5_goes_0 := by decide +kernel
theorem dksX5_goes_1 : cX5_goes.data.toList.drop 24 = dktX5_goes_1 := dk_seg dksX5_goes_0 24 rfl rfl
theorem dX5_goes_0 : decode cX5_goes 0 = .ok (.aload_n 0, 1) := dk_42 (dk_at dksX5_goes_0 0 rfl rfl)
theorem dX5_goes_1 : decode cX5_goes 1 = .ok (.iload_n 1, 1) := dk_27 (dk_at dksX5_goes_0 1 rfl rfl)
theorem dX5_goes_2 : decode cX5_goes 2 = .ok (.putfield 19, 3) := dk_181 0 19 (dk_at dksX5_goes_0 2 rfl rfl)
theorem dX5_goes_5 : decode cX5_goes 5 = .ok (.aload_n 0, 1) := dk_42 (dk_at dksX5_goes_0 5 rfl rfl)
theorem dX5_goes_6 : decode cX5_goes 6 = .ok (.iconst (-1), 1) := dk_2 (dk_at dksX5_goes_0 6 rfl rfl)
theorem dX5_goes_7 : decode cX5_goes 7 = .ok (.putfield 23, 3) := dk_181 0 23 (dk_at dksX5_goes_0 7 rfl rfl)
theorem dX5_goes_10 : decode cX5_goes 10 = .ok (.aload_n 0, 1) := dk_42 (dk_at dksX5_goes_0 10 rfl rfl)
theorem dX5_goes_11 : decode cX5_goes 11 = .ok (.getfield 3, 3) := dk_180 0 3 (dk_at dksX5_goes_0 11 rfl rfl)
theorem dX5_goes_14 : decode cX5_goes 14 = .ok (.getfield 26, 3) := dk_180 0 26 (dk_at dksX5_goes_0 14 rfl rfl)
theorem dX5_goes_17 : decode cX5_goes 17 = .ok (.aload_n 0, 1) := dk_42 (dk_at dksX5_goes_0 17 rfl rfl)
theorem dX5_goes_18 : decode cX5_goes 18 = .ok (.getfield 3, 3) := dk_180 0 3 (dk_at dksX5_goes_0 18 rfl rfl)
theorem dX5_goes_21 : decode cX5_goes 21 = .ok (.getfield 30, 3) := dk_180 0 30 (dk_at dksX5_goes_0 21 rfl rfl)
theorem dX5_goes_24 : decode cX5_goes 24 = .ok (.getfield 34, 3) := dk_180 0 34 (dk_at dksX5_goes_1 0 rfl rfl)
theorem dX5_goes_27 : decode cX5_goes 27 = .ok (.invokevirtual 39, 3) := dk_182 0 39 (dk_at dksX5_goes_1 3 rfl rfl)
theorem dX5_goes_30 : decode cX5_goes 30 = .ok (.aload_n 0, 1) := dk_42 (dk_at dksX5_goes_1 6 rfl rfl)
theorem dX5_goes_31 : decode cX5_goes 31 = .ok (.iconst 0, 1) := dk_3 (dk_at dksX5_goes_1 7 rfl rfl)
theorem dX5_goes_32 : decode cX5_goes 32 = .ok (.invokevirtual 45, 3) := dk_182 0 45 (dk_at dksX5_goes_1 8 rfl rfl)
theorem dX5_goes_35 : decode cX5_goes 35 = .ok (.return_, 1) := dk_177 (dk_at dksX5_goes_1 11 rfl rfl)
abbrev cX5_tries : ByteArray := prog_8_method_3_code
def yX5_tries : MethodName := ⟨RX5, "tries", "(I)V"⟩
def dkwX5_tries_3 : List UInt8 := [180, 0, 55, 27, 28, 79, 42, 27, 4, 96, 182, 0, 45, 132, 2, 1, 167, 255, 219, 177]
abbrev dktX5_tries_3 : List UInt8 := dkwX5_tries_3 ++ []
def dkwX5_tries_2 : List UInt8 := [61, 28, 42, 180, 0, 3, 180, 0, 30, 180, 0, 58, 162, 0, 29, 42, 180, 0, 3, 180, 0, 26]
abbrev dktX5_tries_2 : List UInt8 := dkwX5_tries_2 ++ dktX5_tries_3
def dkwX5_tries_1 : List UInt8 := [180, 0, 30, 180, 0, 34, 180, 0, 55, 27, 46, 2, 159, 0, 11, 42, 27, 4, 96, 182, 0, 45, 177, 2]
abbrev dktX5_tries_1 : List UInt8 := dkwX5_tries_1 ++ dktX5_tries_2
def dkwX5_tries_0 : List UInt8 := [27, 42, 180, 0, 3, 180, 0, 30, 180, 0, 49, 160, 0, 8, 42, 182, 0, 52, 177, 42, 180, 0, 3]
abbrev dktX5_tries_0 : List UInt8 := dkwX5_tries_0 ++ dktX5_tries_1
theorem dksX5_tries_0 : cX5_tries.data.toList.drop 0 = dktX5_tries_0 := by decide +kernel
theorem dksX5_tries_1 : cX5_tries.data.toList.drop 23 = dktX5_tries_1 := dk_seg dksX5_tries_0 23 rfl rfl
theorem dksX5_tries_2 : cX5_tries.data.toList.drop 47 = dktX5_tries_2 := dk_seg dksX5_tries_1 24 rfl rfl
theorem dksX5_tries_3 : cX5_tries.data.toList.drop 69 = dktX5_tries_3 := dk_seg dksX5_tries_2 22 rfl rfl
theorem dX5_tries_0 : decode cX5_tries 0 = .ok (.iload_n 1, 1) := dk_27 (dk_at dksX5_tries_0 0 rfl rfl)
theorem dX5_tries_1 : decode cX5_tries 1 = .ok (.aload_n 0, 1) := dk_42 (dk_at dksX5_tries_0 1 rfl rfl)
theorem dX5_tries_2 : decode cX5_tries 2 = .ok (.getfield 3, 3) := dk_180 0 3 (dk_at dksX5_tries_0 2 rfl rfl)
theorem dX5_tries_5 : decode cX5_tries 5 = .ok (.getfield 30, 3) := dk_180 0 30 (dk_at dksX5_tries_0 5 rfl rfl)
theorem dX5_tries_8 : decode cX5_tries 8 = .ok (.getfield 49, 3) := dk_180 0 49 (dk_at dksX5_tries_0 8 rfl rfl)
theorem dX5_tries_11 : decode cX5_tries 11 = .ok (.if_icmp .ne 8, 3) := dk_160 0 8 (dk_at dksX5_tries_0 11 rfl rfl)
theorem dX5_tries_14 : decode cX5_tries 14 = .ok (.aload_n 0, 1) := dk_42 (dk_at dksX5_tries_0 14 rfl rfl)
theorem dX5_tries_15 : decode cX5_tries 15 = .ok (.invokevirtual 52, 3) := dk_182 0 52 (dk_at dksX5_tries_0 15 rfl rfl)
theorem dX5_tries_18 : decode cX5_tries 18 = .ok (.return_, 1) := dk_177 (dk_at dksX5_tries_0 18 rfl rfl)
theorem dX5_tries_19 : decode cX5_tries 19 = .ok (.aload_n 0, 1) := dk_42 (dk_at dksX5_tries_0 19 rfl rfl)
theorem dX5_tries_20 : decode cX5_tries 20 = .ok (.getfield 3, 3) := dk_180 0 3 (dk_at dksX5_tries_0 20 rfl rfl)
theorem dX5_tries_23 : decode cX5_tries 23 = .ok (.getfield 30, 3) := dk_180 0 30 (dk_at dksX5_tries_1 0 rfl rfl)
theorem dX5_tries_26 : decode cX5_tries 26 = .ok (.getfield 34, 3) := dk_180 0 34 (dk_at dksX5_tries_1 3 rfl rfl)
theorem dX5_tries_29 : decode cX5_tries 29 = .ok (.getfield 55, 3) := dk_180 0 55 (dk_at dksX5_tries_1 6 rfl rfl)
theorem dX5_tries_32 : decode cX5_tries 32 = .ok (.iload_n 1, 1) := dk_27 (dk_at dksX5_tries_1 9 rfl rfl)
theorem dX5_tries_33 : decode cX5_tries 33 = .ok (.iaload, 1) := dk_46 (dk_at dksX5_tries_1 10 rfl rfl)
theorem dX5_tries_34 : decode cX5_tries 34 = .ok (.iconst (-1), 1) := dk_2 (dk_at dksX5_tries_1 11 rfl rfl)
theorem dX5_tries_35 : decode cX5_tries 35 = .ok (.if_icmp .eq 11, 3) := dk_159 0 11 (dk_at dksX5_tries_1 12 rfl rfl)
theorem dX5_tries_38 : decode cX5_tries 38 = .ok (.aload_n 0, 1) := dk_42 (dk_at dksX5_tries_1 15 rfl rfl)
theorem dX5_tries_39 : decode cX5_tries 39 = .ok (.iload_n 1, 1) := dk_27 (dk_at dksX5_tries_1 16 rfl rfl)
theorem dX5_tries_40 : decode cX5_tries 40 = .ok (.iconst 1, 1) := dk_4 (dk_at dksX5_tries_1 17 rfl rfl)
theorem dX5_tries_41 : decode cX5_tries 41 = .ok (.iadd, 1) := dk_96 (dk_at dksX5_tries_1 18 rfl rfl)
theorem dX5_tries_42 : decode cX5_tries 42 = .ok (.invokevirtual 45, 3) := dk_182 0 45 (dk_at dksX5_tries_1 19 rfl rfl)
theorem dX5_tries_45 : decode cX5_tries 45 = .ok (.return_, 1) := dk_177 (dk_at dksX5_tries_1 22 rfl rfl)
theorem dX5_tries_46 : decode cX5_tries 46 = .ok (.iconst (-1), 1) := dk_2 (dk_at dksX5_tries_1 23 rfl rfl)
theorem dX5_tries_47 : decode cX5_tries 47 = .ok (.istore_n 2, 1) := dk_61 (dk_at dksX5_tries_2 0 rfl rfl)
theorem dX5_tries_48 : decode cX5_tries 48 = .ok (.iload_n 2, 1) := dk_28 (dk_at dksX5_tries_2 1 rfl rfl)
theorem dX5_tries_49 : decode cX5_tries 49 = .ok (.aload_n 0, 1) := dk_42 (dk_at dksX5_tries_2 2 rfl rfl)
theorem dX5_tries_50 : decode cX5_tries 50 = .ok (.getfield 3, 3) := dk_180 0 3 (dk_at dksX5_tries_2 3 rfl rfl)
theorem dX5_tries_53 : decode cX5_tries 53 = .ok (.getfield 30, 3) := dk_180 0 30 (dk_at dksX5_tries_2 6 rfl rfl)
theorem dX5_tries_56 : decode cX5_tries 56 = .ok (.getfield 58, 3) := dk_180 0 58 (dk_at dksX5_tries_2 9 rfl rfl)
theorem dX5_tries_59 : decode cX5_tries 59 = .ok (.if_icmp .ge 29, 3) := dk_162 0 29 (dk_at dksX5_tries_2 12 rfl rfl)
theorem dX5_tries_62 : decode cX5_tries 62 = .ok (.aload_n 0, 1) := dk_42 (dk_at dksX5_tries_2 15 rfl rfl)
theorem dX5_tries_63 : decode cX5_tries 63 = .ok (.getfield 3, 3) := dk_180 0 3 (dk_at dksX5_tries_2 16 rfl rfl)
theorem dX5_tries_66 : decode cX5_tries 66 = .ok (.getfield 26, 3) := dk_180 0 26 (dk_at dksX5_tries_2 19 rfl rfl)
theorem dX5_tries_69 : decode cX5_tries 69 = .ok (.getfield 55, 3) := dk_180 0 55 (dk_at dksX5_tries_3 0 rfl rfl)
theorem dX5_tries_72 : decode cX5_tries 72 = .ok (.iload_n 1, 1) := dk_27 (dk_at dksX5_tries_3 3 rfl rfl)
theorem dX5_tries_73 : decode cX5_tries 73 = .ok (.iload_n 2, 1) := dk_28 (dk_at dksX5_tries_3 4 rfl rfl)
theorem dX5_tries_74 : decode cX5_tries 74 = .ok (.iastore, 1) := dk_79 (dk_at dksX5_tries_3 5 rfl rfl)
theorem dX5_tries_75 : decode cX5_tries 75 = .ok (.aload_n 0, 1) := dk_42 (dk_at dksX5_tries_3 6 rfl rfl)
theorem dX5_tries_76 : decode cX5_tries 76 = .ok (.iload_n 1, 1) := dk_27 (dk_at dksX5_tries_3 7 rfl rfl)
theorem dX5_tries_77 : decode cX5_tries 77 = .ok (.iconst 1, 1) := dk_4 (dk_at dksX5_tries_3 8 rfl rfl)
theorem dX5_tries_78 : decode cX5_tries 78 = .ok (.iadd, 1) := dk_96 (dk_at dksX5_tries_3 9 rfl rfl)
theorem dX5_tries_79 : decode cX5_tries 79 = .ok (.invokevirtual 45, 3) := dk_182 0 45 (dk_at dksX5_tries_3 10 rfl rfl)
theorem dX5_tries_82 : decode cX5_tries 82 = .ok (.iinc 2 1, 3) := dk_132 2 1 (dk_at dksX5_tries_3 13 rfl rfl)
theorem dX5_tries_85 : decode cX5_tries 85 = .ok (.goto (-37), 3) := dk_167 255 219 (dk_at dksX5_tries_3 16 rfl rfl)
theorem dX5_tries_88 : decode cX5_tries 88 = .ok (.return_, 1) := dk_177 (dk_at dksX5_tries_3 19 rfl rfl)
abbrev cX5_ends : ByteArray := prog_8_method_4_code
def yX5_ends : MethodName := ⟨RX5, "ends", "()V"⟩
def dkwX5_ends_4 : List UInt8 := [177]
abbrev dktX5_ends_4 : List UInt8 := dkwX5_ends_4 ++ []
def dkwX5_ends_3 : List UInt8 := [181, 0, 23, 42, 180, 0, 3, 180, 0, 26, 180, 0, 55, 3, 42, 180, 0, 15, 3, 16, 8, 184, 0, 65]
abbrev dktX5_ends_3 : List UInt8 := dkwX5_ends_3 ++ dktX5_ends_4
def dkwX5_ends_2 : List UInt8 := [167, 0, 4, 3, 96, 60, 132, 2, 1, 167, 255, 206, 27, 42, 180, 0, 23, 164, 0, 29, 42, 27]
abbrev dktX5_ends_2 : List UInt8 := dkwX5_ends_2 ++ dktX5_ends_3
def dkwX5_ends_1 : List UInt8 := [180, 0, 30, 42, 180, 0, 3, 180, 0, 26, 28, 42, 180, 0, 19, 182, 0, 61, 153, 0, 7, 4]
abbrev dktX5_ends_1 : List UInt8 := dkwX5_ends_1 ++ dktX5_ends_2
def dkwX5_ends_0 : List UInt8 := [3, 60, 3, 61, 28, 42, 180, 0, 3, 180, 0, 30, 180, 0, 58, 162, 0, 42, 27, 42, 180, 0, 3]
abbrev dktX5_ends_0 : List UInt8 := dkwX5_ends_0 ++ dktX5_ends_1
theorem dksX5_ends_0 : cX5_ends.data.toList.drop 0 = dktX5_ends_0 := by decide +kernel
theorem dksX5_ends_1 : cX5_ends.data.toList.drop 23 = dktX5_ends_1 := dk_seg dksX5_ends_0 23 rfl rfl
theorem dksX5_ends_2 : cX5_ends.data.toList.drop 45 = dktX5_ends_2 := dk_seg dksX5_ends_1 22 rfl rfl
theorem dksX5_ends_3 : cX5_ends.data.toList.drop 67 = dktX5_ends_3 := dk_seg dksX5_ends_2 22 rfl rfl
theorem dksX5_ends_4 : cX5_ends.data.toList.drop 91 = dktX5_ends_4 := dk_seg dksX5_ends_3 24 rfl rfl
theorem dX5_ends_0 : decode cX5_ends 0 = .ok (.iconst 0, 1) := dk_3 (dk_at dksX5_ends_0 0 rfl rfl)
theorem dX5_ends_1 : decode cX5_ends 1 = .ok (.istore_n 1, 1) := dk_60 (dk_at dksX5_ends_0 1 rfl rfl)
theorem dX5_ends_2 : decode cX5_ends 2 = .ok (.iconst 0, 1) := dk_3 (dk_at dksX5_ends_0 2 rfl rfl)
theorem dX5_ends_3 : decode cX5_ends 3 = .ok (.istore_n 2, 1) := dk_61 (dk_at dksX5_ends_0 3 rfl rfl)
theorem dX5_ends_4 : decode cX5_ends 4 = .ok (.iload_n 2, 1) := dk_28 (dk_at dksX5_ends_0 4 rfl rfl)
theorem dX5_ends_5 : decode cX5_ends 5 = .ok (.aload_n 0, 1) := dk_42 (dk_at dksX5_ends_0 5 rfl rfl)
theorem dX5_ends_6 : decode cX5_ends 6 = .ok (.getfield 3, 3) := dk_180 0 3 (dk_at dksX5_ends_0 6 rfl rfl)
theorem dX5_ends_9 : decode cX5_ends 9 = .ok (.getfield 30, 3) := dk_180 0 30 (dk_at dksX5_ends_0 9 rfl rfl)
theorem dX5_ends_12 : decode cX5_ends 12 = .ok (.getfield 58, 3) := dk_180 0 58 (dk_at dksX5_ends_0 12 rfl rfl)
theorem dX5_ends_15 : decode cX5_ends 15 = .ok (.if_icmp .ge 42, 3) := dk_162 0 42 (dk_at dksX5_ends_0 15 rfl rfl)
theorem dX5_ends_18 : decode cX5_ends 18 = .ok (.iload_n 1, 1) := dk_27 (dk_at dksX5_ends_0 18 rfl rfl)
theorem dX5_ends_19 : decode cX5_ends 19 = .ok (.aload_n 0, 1) := dk_42 (dk_at dksX5_ends_0 19 rfl rfl)
theorem dX5_ends_20 : decode cX5_ends 20 = .ok (.getfield 3, 3) := dk_180 0 3 (dk_at dksX5_ends_0 20 rfl rfl)
theorem dX5_ends_23 : decode cX5_ends 23 = .ok (.getfield 30, 3) := dk_180 0 30 (dk_at dksX5_ends_1 0 rfl rfl)
theorem dX5_ends_26 : decode cX5_ends 26 = .ok (.aload_n 0, 1) := dk_42 (dk_at dksX5_ends_1 3 rfl rfl)
theorem dX5_ends_27 : decode cX5_ends 27 = .ok (.getfield 3, 3) := dk_180 0 3 (dk_at dksX5_ends_1 4 rfl rfl)
theorem dX5_ends_30 : decode cX5_ends 30 = .ok (.getfield 26, 3) := dk_180 0 26 (dk_at dksX5_ends_1 7 rfl rfl)
theorem dX5_ends_33 : decode cX5_ends 33 = .ok (.iload_n 2, 1) := dk_28 (dk_at dksX5_ends_1 10 rfl rfl)
theorem dX5_ends_34 : decode cX5_ends 34 = .ok (.aload_n 0, 1) := dk_42 (dk_at dksX5_ends_1 11 rfl rfl)
theorem dX5_ends_35 : decode cX5_ends 35 = .ok (.getfield 19, 3) := dk_180 0 19 (dk_at dksX5_ends_1 12 rfl rfl)
theorem dX5_ends_38 : decode cX5_ends 38 = .ok (.invokevirtual 61, 3) := dk_182 0 61 (dk_at dksX5_ends_1 15 rfl rfl)
theorem dX5_ends_41 : decode cX5_ends 41 = .ok (.ifCond .eq 7, 3) := dk_153 0 7 (dk_at dksX5_ends_1 18 rfl rfl)
theorem dX5_ends_44 : decode cX5_ends 44 = .ok (.iconst 1, 1) := dk_4 (dk_at dksX5_ends_1 21 rfl rfl)
theorem dX5_ends_45 : decode cX5_ends 45 = .ok (.goto 4, 3) := dk_167 0 4 (dk_at dksX5_ends_2 0 rfl rfl)
theorem dX5_ends_48 : decode cX5_ends 48 = .ok (.iconst 0, 1) := dk_3 (dk_at dksX5_ends_2 3 rfl rfl)
theorem dX5_ends_49 : decode cX5_ends 49 = .ok (.iadd, 1) := dk_96 (dk_at dksX5_ends_2 4 rfl rfl)
theorem dX5_ends_50 : decode cX5_ends 50 = .ok (.istore_n 1, 1) := dk_60 (dk_at dksX5_ends_2 5 rfl rfl)
theorem dX5_ends_51 : decode cX5_ends 51 = .ok (.iinc 2 1, 3) := dk_132 2 1 (dk_at dksX5_ends_2 6 rfl rfl)
theorem dX5_ends_54 : decode cX5_ends 54 = .ok (.goto (-50), 3) := dk_167 255 206 (dk_at dksX5_ends_2 9 rfl rfl)
theorem dX5_ends_57 : decode cX5_ends 57 = .ok (.iload_n 1, 1) := dk_27 (dk_at dksX5_ends_2 12 rfl rfl)
theorem dX5_ends_58 : decode cX5_ends 58 = .ok (.aload_n 0, 1) := dk_42 (dk_at dksX5_ends_2 13 rfl rfl)
theorem dX5_ends_59 : decode cX5_ends 59 = .ok (.getfield 23, 3) := dk_180 0 23 (dk_at dksX5_ends_2 14 rfl rfl)
theorem dX5_ends_62 : decode cX5_ends 62 = .ok (.if_icmp .le 29, 3) := dk_164 0 29 (dk_at dksX5_ends_2 17 rfl rfl)
theorem dX5_ends_65 : decode cX5_ends 65 = .ok (.aload_n 0, 1) := dk_42 (dk_at dksX5_ends_2 20 rfl rfl)
theorem dX5_ends_66 : decode cX5_ends 66 = .ok (.iload_n 1, 1) := dk_27 (dk_at dksX5_ends_2 21 rfl rfl)
theorem dX5_ends_67 : decode cX5_ends 67 = .ok (.putfield 23, 3) := dk_181 0 23 (dk_at dksX5_ends_3 0 rfl rfl)
theorem dX5_ends_70 : decode cX5_ends 70 = .ok (.aload_n 0, 1) := dk_42 (dk_at dksX5_ends_3 3 rfl rfl)
theorem dX5_ends_71 : decode cX5_ends 71 = .ok (.getfield 3, 3) := dk_180 0 3 (dk_at dksX5_ends_3 4 rfl rfl)
theorem dX5_ends_74 : decode cX5_ends 74 = .ok (.getfield 26, 3) := dk_180 0 26 (dk_at dksX5_ends_3 7 rfl rfl)
theorem dX5_ends_77 : decode cX5_ends 77 = .ok (.getfield 55, 3) := dk_180 0 55 (dk_at dksX5_ends_3 10 rfl rfl)
theorem dX5_ends_80 : decode cX5_ends 80 = .ok (.iconst 0, 1) := dk_3 (dk_at dksX5_ends_3 13 rfl rfl)
theorem dX5_ends_81 : decode cX5_ends 81 = .ok (.aload_n 0, 1) := dk_42 (dk_at dksX5_ends_3 14 rfl rfl)
theorem dX5_ends_82 : decode cX5_ends 82 = .ok (.getfield 15, 3) := dk_180 0 15 (dk_at dksX5_ends_3 15 rfl rfl)
theorem dX5_ends_85 : decode cX5_ends 85 = .ok (.iconst 0, 1) := dk_3 (dk_at dksX5_ends_3 18 rfl rfl)
theorem dX5_ends_86 : decode cX5_ends 86 = .ok (.bipush 8, 2) := dk_16 8 (dk_at dksX5_ends_3 19 rfl rfl)
theorem dX5_ends_88 : decode cX5_ends 88 = .ok (.invokestatic 65, 3) := dk_184 0 65 (dk_at dksX5_ends_3 21 rfl rfl)
theorem dX5_ends_91 : decode cX5_ends 91 = .ok (.return_, 1) := dk_177 (dk_at dksX5_ends_4 0 rfl rfl)
theorem q66 : (Jvm.Cond.initialized "LeftBehind$Crews") ∈ lw_all := lw_g (lw_at lw_m1 6 rfl) rfl
theorem q103 : (Jvm.Cond.fieldLinkNest "LeftBehind$Crews" (55 : Nat) "LeftBehind$State" "places" "[I" "LeftBehind") ∈ lw_tbl := lw_at lw_m1 43 rfl
theorem q121 : (Jvm.Cond.fieldLinkNest "LeftBehind$Crews" (58 : Nat) "LeftBehind$Island" "fleet" "I" "LeftBehind") ∈ lw_tbl := lw_at lw_m1 61 rfl
theorem q130 : (Jvm.Cond.fieldLinkNest "LeftBehind$Crews" (49 : Nat) "LeftBehind$Island" "many" "I" "LeftBehind") ∈ lw_tbl := lw_at lw_m1 70 rfl
theorem q146 : (Jvm.Cond.fieldLinkNest "LeftBehind$Crews" (34 : Nat) "LeftBehind$Island" "now" "LLeftBehind$State;" "LeftBehind") ∈ lw_tbl := lw_at lw_m1 86 rfl
theorem q243 : (Jvm.Cond.instantiable "LeftBehind$Crews" (4 : Nat)) ∈ lw_all := lw_g (lw_at lw_m1 183 rfl) rfl
theorem q245 : (Jvm.Cond.instanceMethod ({ cls := "LeftBehind$Crews", name := "<init>", desc := "(LLeftBehind;)V" } : Jvm.MethodName)) ∈ lw_all := lw_g (lw_at lw_m1 185 rfl) rfl
theorem q246 : (Jvm.Cond.code ({ cls := "LeftBehind$Crews", name := "<init>", desc := "(LLeftBehind;)V" } : Jvm.MethodName) prog_8_method_1_code (2 : Nat) (Option.none : Option Jvm.ClassFile.FieldType)) ∈ lw_all := lw_g (lw_at lw_m1 186 rfl) rfl
theorem q247 : (Jvm.Cond.methodLink "LeftBehind$Crews" (9 : Nat) ({ cls := "java/lang/Object", name := "<init>", desc := "()V" } : Jvm.MethodName)) ∈ lw_all := lw_g (lw_at lw_m1 187 rfl) rfl
theorem q248 : (Jvm.Cond.fieldLink "LeftBehind$Crews" (15 : Nat) "LeftBehind$Crews" "found" "[I") ∈ lw_all := lw_g (lw_at lw_m1 188 rfl) rfl
theorem q250 : (Jvm.Cond.fieldLink "LeftBehind$Crews" (19 : Nat) "LeftBehind$Crews" "goal" "I") ∈ lw_all := lw_g (lw_at lw_m1 190 rfl) rfl
theorem q251 : (Jvm.Cond.fieldLink "LeftBehind$Crews" (23 : Nat) "LeftBehind$Crews" "most" "I") ∈ lw_all := lw_g (lw_at lw_m1 191 rfl) rfl
theorem q253 : (Jvm.Cond.fieldLink "LeftBehind$Crews" (3 : Nat) "LeftBehind$Crews" "this$0" "LLeftBehind;") ∈ lw_all := lw_g (lw_at lw_m1 193 rfl) rfl
theorem q254 : (Jvm.Cond.laysFinal "LeftBehind$Crews" "LeftBehind$Crews" "found" "[I") ∈ lw_all := lw_g (lw_at lw_m1 194 rfl) rfl
theorem q255 : (Jvm.Cond.soleField "LeftBehind$Crews" "found") ∈ lw_all := lw_g (lw_at lw_m1 195 rfl) rfl
theorem q256 : (Jvm.Cond.lays "LeftBehind$Crews" "LeftBehind$Crews" "goal" "I") ∈ lw_all := lw_g (lw_at lw_m1 196 rfl) rfl
theorem q257 : (Jvm.Cond.soleField "LeftBehind$Crews" "goal") ∈ lw_all := lw_g (lw_at lw_m1 197 rfl) rfl
theorem q258 : (Jvm.Cond.lays "LeftBehind$Crews" "LeftBehind$Crews" "most" "I") ∈ lw_all := lw_g (lw_at lw_m1 198 rfl) rfl
theorem q259 : (Jvm.Cond.soleField "LeftBehind$Crews" "most") ∈ lw_all := lw_g (lw_at lw_m1 199 rfl) rfl
theorem q260 : (Jvm.Cond.laysFinal "LeftBehind$Crews" "LeftBehind$Crews" "this$0" "LLeftBehind;") ∈ lw_all := lw_g (lw_at lw_m1 200 rfl) rfl
theorem q261 : (Jvm.Cond.soleField "LeftBehind$Crews" "this$0") ∈ lw_all := lw_g (lw_at lw_m1 201 rfl) rfl
theorem q262 : (Jvm.Cond.superclass "LeftBehind$Crews" "java/lang/Object") ∈ lw_all := lw_g (lw_at lw_m1 202 rfl) rfl
theorem q269 : (Jvm.Cond.fieldLinkNest "LeftBehind$Crews" (30 : Nat) "LeftBehind" "island" "LLeftBehind$Island;" "LeftBehind") ∈ lw_tbl := lw_at lw_m1 209 rfl
theorem q273 : (Jvm.Cond.fieldLinkNest "LeftBehind$Crews" (26 : Nat) "LeftBehind" "trial" "LLeftBehind$State;" "LeftBehind") ∈ lw_tbl := lw_at lw_m1 213 rfl
theorem q788 : (Jvm.Cond.instanceMethod ({ cls := "LeftBehind$Crews", name := "goes", desc := "(I)V" } : Jvm.MethodName)) ∈ lw_all := lw_g (lw_at lw_m4 8 rfl) rfl
theorem q789 : (Jvm.Cond.selects "LeftBehind$Crews" ({ cls := "LeftBehind$Crews", name := "goes", desc := "(I)V" } : Jvm.MethodName) ({ cls := "LeftBehind$Crews", name := "goes", desc := "(I)V" } : Jvm.MethodName)) ∈ lw_all := lw_g (lw_at lw_m4 9 rfl) rfl
theorem q790 : (Jvm.Cond.code ({ cls := "LeftBehind$Crews", name := "goes", desc := "(I)V" } : Jvm.MethodName) prog_8_method_2_code (2 : Nat) (Option.none : Option Jvm.ClassFile.FieldType)) ∈ lw_all := lw_g (lw_at lw_m4 10 rfl) rfl
theorem q791 : (Jvm.Cond.methodLink "LeftBehind$Crews" (39 : Nat) ({ cls := "LeftBehind$State", name := "takes", desc := "(LLeftBehind$State;)V" } : Jvm.MethodName)) ∈ lw_all := lw_g (lw_at lw_m4 11 rfl) rfl
theorem q792 : (Jvm.Cond.methodLink "LeftBehind$Crews" (45 : Nat) ({ cls := "LeftBehind$Crews", name := "tries", desc := "(I)V" } : Jvm.MethodName)) ∈ lw_all := lw_g (lw_at lw_m4 12 rfl) rfl
theorem q793 : (Jvm.Cond.privateMethod ({ cls := "LeftBehind$Crews", name := "tries", desc := "(I)V" } : Jvm.MethodName)) ∈ lw_tbl := lw_at lw_m4 13 rfl
theorem q794 : (Jvm.Cond.instanceMethod ({ cls := "LeftBehind$Crews", name := "tries", desc := "(I)V" } : Jvm.MethodName)) ∈ lw_all := lw_g (lw_at lw_m4 14 rfl) rfl
theorem q795 : (Jvm.Cond.code ({ cls := "LeftBehind$Crews", name := "tries", desc := "(I)V" } : Jvm.MethodName) prog_8_method_3_code (3 : Nat) (Option.none : Option Jvm.ClassFile.FieldType)) ∈ lw_all := lw_g (lw_at lw_m4 15 rfl) rfl
theorem q796 : (Jvm.Cond.methodLink "LeftBehind$Crews" (52 : Nat) ({ cls := "LeftBehind$Crews", name := "ends", desc := "()V" } : Jvm.MethodName)) ∈ lw_all := lw_g (lw_at lw_m4 16 rfl) rfl
theorem q797 : (Jvm.Cond.privateMethod ({ cls := "LeftBehind$Crews", name := "ends", desc := "()V" } : Jvm.MethodName)) ∈ lw_tbl := lw_at lw_m4 17 rfl
theorem q798 : (Jvm.Cond.instanceMethod ({ cls := "LeftBehind$Crews", name := "ends", desc := "()V" } : Jvm.MethodName)) ∈ lw_all := lw_g (lw_at lw_m4 18 rfl) rfl
theorem q799 : (Jvm.Cond.code ({ cls := "LeftBehind$Crews", name := "ends", desc := "()V" } : Jvm.MethodName) prog_8_method_4_code (3 : Nat) (Option.none : Option Jvm.ClassFile.FieldType)) ∈ lw_all := lw_g (lw_at lw_m4 19 rfl) rfl
theorem q800 : (Jvm.Cond.methodLink "LeftBehind$Crews" (61 : Nat) ({ cls := "LeftBehind$Island", name := "can", desc := "(LLeftBehind$State;II)Z" } : Jvm.MethodName)) ∈ lw_all := lw_g (lw_at lw_m4 20 rfl) rfl
theorem q801 : (Jvm.Cond.methodLink "LeftBehind$Crews" (65 : Nat) ({ cls := "java/lang/System", name := "arraycopy", desc := "(Ljava/lang/Object;ILjava/lang/Object;II)V" } : Jvm.MethodName)) ∈ lw_all := lw_g (lw_at lw_m4 21 rfl) rfl
theorem in_X5 : ∀ w ∈ wsX50, w ∈ lw_all := lw_in wsX50 [254, 256, 258, 260] (by decide +kernel) (by decide +kernel)

/-! LeftBehind$Fault -/
set_option maxRecDepth 100000
def RX7 : String := "LeftBehind$Fault"
def TX7 : u_T := fun k => match k with
  | 0 => ("java/lang/Throwable", "cause", "Ljava/lang/Throwable;", false)
  | 1 => ("java/lang/Throwable", "stackTrace", "[Ljava/lang/StackTraceElement;", false)
  | 2 => ("java/lang/Throwable", "suppressedExceptions", "Ljava/util/List;", false)
  | 3 => ("java/lang/Throwable", "detailMessage", "Ljava/lang/String;", false)
  | 4 => ("java/lang/Throwable", "backtrace", "Ljava/lang/Object;", false)
  | 5 => ("java/lang/Throwable", "depth", "I", false)
  | _ => ("LeftBehind$Fault", "place", "I", true)
def tyX7 : Nat → FieldType := fun k => match k with
  | 0 => .object "java/lang/Throwable"
  | 1 => .array (.object "java/lang/StackTraceElement")
  | 2 => .object "java/util/List"
  | 3 => .object "java/lang/String"
  | 4 => .object "java/lang/Object"
  | 5 => .int
  | _ => .int
abbrev wsX70 : List Cond := u_ws RX7 TX7 7
theorem nmX7 : ∀ a, a < 7 → ∀ b, b < 7 → a ≠ b → (TX7 a).2.1 ≠ (TX7 b).2.1 := by decide +kernel
theorem tyX7_ok : ∀ k, k < 7 → parseFieldDescriptor (TX7 k).2.2.1 = some (tyX7 k) := by decide +kernel
abbrev cX7_init : ByteArray := prog_9_method_1_code
def yX7_init : MethodName := ⟨RX7, "<init>", "(I)V"⟩
def dkwX7_init_0 : List UInt8 := [42, 1, 1, 3, 3, 183, 0, 1, 42, 27, 181, 0, 7, 177]
abbrev dktX7_init_0 : List UInt8 := dkwX7_init_0 ++ []
theorem dksX7_init_0 : cX7_init.data.toList.drop 0 = dktX7_init_0 := by decide +kernel
theorem dX7_init_0 : decode cX7_init 0 = .ok (.aload_n 0, 1) := dk_42 (dk_at dksX7_init_0 0 rfl rfl)
theorem dX7_init_1 : decode cX7_init 1 = .ok (.aconst_null, 1) := dk_1 (dk_at dksX7_init_0 1 rfl rfl)
theorem dX7_init_2 : decode cX7_init 2 = .ok (.aconst_null, 1) := dk_1 (dk_at dksX7_init_0 2 rfl rfl)
theorem dX7_init_3 : decode cX7_init 3 = .ok (.iconst 0, 1) := dk_3 (dk_at dksX7_init_0 3 rfl rfl)
theorem dX7_init_4 : decode cX7_init 4 = .ok (.iconst 0, 1) := dk_3 (dk_at dksX7_init_0 4 rfl rfl)
theorem dX7_init_5 : decode cX7_init 5 = .ok (.invokespecial 1, 3) := dk_183 0 1 (dk_at dksX7_init_0 5 rfl rfl)
theorem dX7_init_8 : decode cX7_init 8 = .ok (.aload_n 0, 1) := dk_42 (dk_at dksX7_init_0 8 rfl rfl)
theorem dX7_init_9 : decode cX7_init 9 = .ok (.iload_n 1, 1) := dk_27 (dk_at dksX7_init_0 9 rfl rfl)
theorem dX7_init_10 : decode cX7_init 10 = .ok (.putfield 7, 3) := dk_181 0 7 (dk_at dksX7_init_0 10 rfl rfl)
theorem dX7_init_13 : decode cX7_init 13 = .ok (.return_, 1) := dk_177 (dk_at dksX7_init_0 13 rfl rfl)
theorem q70 : (Jvm.Cond.initialized "LeftBehind$Fault") ∈ lw_all := lw_g (lw_at lw_m1 10 rfl) rfl
theorem q398 : (Jvm.Cond.instantiable "LeftBehind$Fault" (7 : Nat)) ∈ lw_all := lw_g (lw_at lw_m2 98 rfl) rfl
theorem q399 : (Jvm.Cond.castable "LeftBehind$Fault" "LeftBehind$Fault") ∈ lw_tbl := lw_at lw_m2 99 rfl
theorem q404 : (Jvm.Cond.selects "LeftBehind$Fault" ({ cls := "java/lang/Throwable", name := "fillInStackTrace", desc := "(I)Ljava/lang/Throwable;" } : Jvm.MethodName) ({ cls := "java/lang/Throwable", name := "fillInStackTrace", desc := "(I)Ljava/lang/Throwable;" } : Jvm.MethodName)) ∈ lw_all := lw_g (lw_at lw_m2 104 rfl) rfl
theorem q405 : (Jvm.Cond.selects "LeftBehind$Fault" ({ cls := "java/lang/Throwable", name := "fillInStackTrace", desc := "()Ljava/lang/Throwable;" } : Jvm.MethodName) ({ cls := "java/lang/Throwable", name := "fillInStackTrace", desc := "()Ljava/lang/Throwable;" } : Jvm.MethodName)) ∈ lw_all := lw_g (lw_at lw_m2 105 rfl) rfl
theorem q406 : (Jvm.Cond.lays "LeftBehind$Fault" "java/lang/Throwable" "cause" "Ljava/lang/Throwable;") ∈ lw_all := lw_g (lw_at lw_m2 106 rfl) rfl
theorem q408 : (Jvm.Cond.lays "LeftBehind$Fault" "java/lang/Throwable" "stackTrace" "[Ljava/lang/StackTraceElement;") ∈ lw_all := lw_g (lw_at lw_m2 108 rfl) rfl
theorem q410 : (Jvm.Cond.lays "LeftBehind$Fault" "java/lang/Throwable" "suppressedExceptions" "Ljava/util/List;") ∈ lw_all := lw_g (lw_at lw_m2 110 rfl) rfl
theorem q412 : (Jvm.Cond.lays "LeftBehind$Fault" "java/lang/Throwable" "detailMessage" "Ljava/lang/String;") ∈ lw_all := lw_g (lw_at lw_m2 112 rfl) rfl
theorem q414 : (Jvm.Cond.lays "LeftBehind$Fault" "java/lang/Throwable" "backtrace" "Ljava/lang/Object;") ∈ lw_all := lw_g (lw_at lw_m2 114 rfl) rfl
theorem q435 : (Jvm.Cond.instanceMethod ({ cls := "LeftBehind$Fault", name := "<init>", desc := "(I)V" } : Jvm.MethodName)) ∈ lw_all := lw_g (lw_at lw_m2 135 rfl) rfl
theorem q436 : (Jvm.Cond.code ({ cls := "LeftBehind$Fault", name := "<init>", desc := "(I)V" } : Jvm.MethodName) prog_9_method_1_code (2 : Nat) (Option.none : Option Jvm.ClassFile.FieldType)) ∈ lw_all := lw_g (lw_at lw_m2 136 rfl) rfl
theorem q437 : (Jvm.Cond.methodLink "LeftBehind$Fault" (1 : Nat) ({ cls := "java/lang/Exception", name := "<init>", desc := "(Ljava/lang/String;Ljava/lang/Throwable;ZZ)V" } : Jvm.MethodName)) ∈ lw_all := lw_g (lw_at lw_m2 137 rfl) rfl
theorem q443 : (Jvm.Cond.fieldLink "LeftBehind$Fault" (7 : Nat) "LeftBehind$Fault" "place" "I") ∈ lw_all := lw_g (lw_at lw_m2 143 rfl) rfl
theorem q450 : (Jvm.Cond.laysFinal "LeftBehind$Fault" "LeftBehind$Fault" "place" "I") ∈ lw_all := lw_g (lw_at lw_m2 150 rfl) rfl
theorem q451 : (Jvm.Cond.soleField "LeftBehind$Fault" "place") ∈ lw_all := lw_g (lw_at lw_m2 151 rfl) rfl
theorem q456 : (Jvm.Cond.lays "LeftBehind$Fault" "java/lang/Throwable" "depth" "I") ∈ lw_all := lw_g (lw_at lw_m2 156 rfl) rfl
theorem q459 : (Jvm.Cond.superclass "LeftBehind$Fault" "java/lang/Exception") ∈ lw_all := lw_g (lw_at lw_m2 159 rfl) rfl
theorem in_X7 : ∀ w ∈ wsX70, w ∈ lw_all := lw_in wsX70 [406, 408, 410, 412, 414, 456, 450] (by decide +kernel) (by decide +kernel)

/-! LeftBehind$Man -/
set_option maxRecDepth 100000
def RX8 : String := "LeftBehind$Man"
abbrev cX8_liked : ByteArray := prog_12_method_3_code
def yX8_liked : MethodName := ⟨RX8, "liked", "(II)I"⟩
theorem dX8_liked_0 : decode cX8_liked 0 = .ok (.iload_n 1, 1) := by decide +kernel
theorem dX8_liked_1 : decode cX8_liked 1 = .ok (.ireturn, 1) := by decide +kernel
abbrev cX8_kind : ByteArray := prog_12_method_2_code
def yX8_kind : MethodName := ⟨RX8, "kind", "()I"⟩
theorem dX8_kind_0 : decode cX8_kind 0 = .ok (.iconst 0, 1) := by decide +kernel
theorem dX8_kind_1 : decode cX8_kind 1 = .ok (.ireturn, 1) := by decide +kernel
theorem q541 : (Jvm.Cond.instanceMethod ({ cls := "LeftBehind$Man", name := "liked", desc := "(II)I" } : Jvm.MethodName)) ∈ lw_all := lw_g (lw_at lw_m3 1 rfl) rfl
theorem q542 : (Jvm.Cond.selects "LeftBehind$Man" ({ cls := "LeftBehind$Man", name := "liked", desc := "(II)I" } : Jvm.MethodName) ({ cls := "LeftBehind$Man", name := "liked", desc := "(II)I" } : Jvm.MethodName)) ∈ lw_all := lw_g (lw_at lw_m3 2 rfl) rfl
theorem q543 : (Jvm.Cond.sameMethod "LeftBehind$Man" "LeftBehind$Man" "liked" "(II)I") ∈ lw_all := lw_g (lw_at lw_m3 3 rfl) rfl
theorem q572 : (Jvm.Cond.code ({ cls := "LeftBehind$Man", name := "liked", desc := "(II)I" } : Jvm.MethodName) prog_12_method_3_code (3 : Nat) (Option.some Jvm.ClassFile.FieldType.int)) ∈ lw_all := lw_g (lw_at lw_m3 32 rfl) rfl
theorem q635 : (Jvm.Cond.instanceMethod ({ cls := "LeftBehind$Man", name := "kind", desc := "()I" } : Jvm.MethodName)) ∈ lw_all := lw_g (lw_at lw_m3 95 rfl) rfl
theorem q636 : (Jvm.Cond.selects "LeftBehind$Man" ({ cls := "LeftBehind$Man", name := "kind", desc := "()I" } : Jvm.MethodName) ({ cls := "LeftBehind$Man", name := "kind", desc := "()I" } : Jvm.MethodName)) ∈ lw_all := lw_g (lw_at lw_m3 96 rfl) rfl
theorem q637 : (Jvm.Cond.sameMethod "LeftBehind$Man" "LeftBehind$Man" "kind" "()I") ∈ lw_all := lw_g (lw_at lw_m3 97 rfl) rfl
theorem q653 : (Jvm.Cond.code ({ cls := "LeftBehind$Man", name := "kind", desc := "()I" } : Jvm.MethodName) prog_12_method_2_code (1 : Nat) (Option.some Jvm.ClassFile.FieldType.int)) ∈ lw_all := lw_g (lw_at lw_m3 113 rfl) rfl

/-! LeftBehind$Bosun -/
set_option maxRecDepth 100000
def RX9 : String := "LeftBehind$Bosun"
abbrev cX9_liked : ByteArray := prog_3_method_3_code
def yX9_liked : MethodName := ⟨RX9, "liked", "(II)I"⟩
def dkwX9_liked_0 : List UInt8 := [42, 27, 28, 183, 0, 7, 62, 28, 5, 161, 0, 9, 5, 29, 104, 167, 0, 4, 29, 172]
abbrev dktX9_liked_0 : List UInt8 := dkwX9_liked_0 ++ []
theorem dksX9_liked_0 : cX9_liked.data.toList.drop 0 = dktX9_liked_0 := by decide +kernel
theorem dX9_liked_0 : decode cX9_liked 0 = .ok (.aload_n 0, 1) := dk_42 (dk_at dksX9_liked_0 0 rfl rfl)
theorem dX9_liked_1 : decode cX9_liked 1 = .ok (.iload_n 1, 1) := dk_27 (dk_at dksX9_liked_0 1 rfl rfl)
theorem dX9_liked_2 : decode cX9_liked 2 = .ok (.iload_n 2, 1) := dk_28 (dk_at dksX9_liked_0 2 rfl rfl)
theorem dX9_liked_3 : decode cX9_liked 3 = .ok (.invokespecial 7, 3) := dk_183 0 7 (dk_at dksX9_liked_0 3 rfl rfl)
theorem dX9_liked_6 : decode cX9_liked 6 = .ok (.istore_n 3, 1) := dk_62 (dk_at dksX9_liked_0 6 rfl rfl)
theorem dX9_liked_7 : decode cX9_liked 7 = .ok (.iload_n 2, 1) := dk_28 (dk_at dksX9_liked_0 7 rfl rfl)
theorem dX9_liked_8 : decode cX9_liked 8 = .ok (.iconst 2, 1) := dk_5 (dk_at dksX9_liked_0 8 rfl rfl)
theorem dX9_liked_9 : decode cX9_liked 9 = .ok (.if_icmp .lt 9, 3) := dk_161 0 9 (dk_at dksX9_liked_0 9 rfl rfl)
theorem dX9_liked_12 : decode cX9_liked 12 = .ok (.iconst 2, 1) := dk_5 (dk_at dksX9_liked_0 12 rfl rfl)
theorem dX9_liked_13 : decode cX9_liked 13 = .ok (.iload_n 3, 1) := dk_29 (dk_at dksX9_liked_0 13 rfl rfl)
theorem dX9_liked_14 : decode cX9_liked 14 = .ok (.imul, 1) := dk_104 (dk_at dksX9_liked_0 14 rfl rfl)
theorem dX9_liked_15 : decode cX9_liked 15 = .ok (.goto 4, 3) := dk_167 0 4 (dk_at dksX9_liked_0 15 rfl rfl)
theorem dX9_liked_18 : decode cX9_liked 18 = .ok (.iload_n 3, 1) := dk_29 (dk_at dksX9_liked_0 18 rfl rfl)
theorem dX9_liked_19 : decode cX9_liked 19 = .ok (.ireturn, 1) := dk_172 (dk_at dksX9_liked_0 19 rfl rfl)
abbrev cX9_kind : ByteArray := prog_3_method_2_code
def yX9_kind : MethodName := ⟨RX9, "kind", "()I"⟩
theorem dX9_kind_0 : decode cX9_kind 0 = .ok (.iconst 3, 1) := by decide +kernel
theorem dX9_kind_1 : decode cX9_kind 1 = .ok (.ireturn, 1) := by decide +kernel
theorem q544 : (Jvm.Cond.selects "LeftBehind$Bosun" ({ cls := "LeftBehind$Man", name := "liked", desc := "(II)I" } : Jvm.MethodName) ({ cls := "LeftBehind$Bosun", name := "liked", desc := "(II)I" } : Jvm.MethodName)) ∈ lw_all := lw_g (lw_at lw_m3 4 rfl) rfl
theorem q545 : (Jvm.Cond.instanceMethod ({ cls := "LeftBehind$Bosun", name := "liked", desc := "(II)I" } : Jvm.MethodName)) ∈ lw_all := lw_g (lw_at lw_m3 5 rfl) rfl
theorem q546 : (Jvm.Cond.code ({ cls := "LeftBehind$Bosun", name := "liked", desc := "(II)I" } : Jvm.MethodName) prog_3_method_3_code (4 : Nat) (Option.some Jvm.ClassFile.FieldType.int)) ∈ lw_all := lw_g (lw_at lw_m3 6 rfl) rfl
theorem q547 : (Jvm.Cond.methodLink "LeftBehind$Bosun" (7 : Nat) ({ cls := "LeftBehind$Cook", name := "liked", desc := "(II)I" } : Jvm.MethodName)) ∈ lw_all := lw_g (lw_at lw_m3 7 rfl) rfl
theorem q548 : (Jvm.Cond.superclass "LeftBehind$Bosun" "LeftBehind$Cook") ∈ lw_all := lw_g (lw_at lw_m3 8 rfl) rfl
theorem q638 : (Jvm.Cond.selects "LeftBehind$Bosun" ({ cls := "LeftBehind$Man", name := "kind", desc := "()I" } : Jvm.MethodName) ({ cls := "LeftBehind$Bosun", name := "kind", desc := "()I" } : Jvm.MethodName)) ∈ lw_all := lw_g (lw_at lw_m3 98 rfl) rfl
theorem q639 : (Jvm.Cond.instanceMethod ({ cls := "LeftBehind$Bosun", name := "kind", desc := "()I" } : Jvm.MethodName)) ∈ lw_all := lw_g (lw_at lw_m3 99 rfl) rfl
theorem q640 : (Jvm.Cond.code ({ cls := "LeftBehind$Bosun", name := "kind", desc := "()I" } : Jvm.MethodName) prog_3_method_2_code (1 : Nat) (Option.some Jvm.ClassFile.FieldType.int)) ∈ lw_all := lw_g (lw_at lw_m3 100 rfl) rfl
theorem q1371 : (Jvm.Cond.castable "LeftBehind$Bosun" "LeftBehind$Man") ∈ lw_tbl := lw_at lw_m6 111 rfl

theorem q60 : (Jvm.Cond.initialized "LeftBehindLaw") ∈ lw_all := lw_g (lw_at lw_m1 0 rfl) rfl
set_option maxRecDepth 100000
theorem q78 : (Jvm.Cond.classLink "LeftBehindLaw" (7 : Nat) "LeftBehind") ∈ lw_all := lw_g (lw_at lw_m1 18 rfl) rfl
theorem q80 : (Jvm.Cond.methodLink "LeftBehindLaw" (9 : Nat) ({ cls := "LeftBehind", name := "<init>", desc := "()V" } : Jvm.MethodName)) ∈ lw_all := lw_g (lw_at lw_m1 20 rfl) rfl
theorem q311 : (Jvm.Cond.methodLink "LeftBehindLaw" (13 : Nat) ({ cls := "LeftBehind", name := "island", desc := "()I" } : Jvm.MethodName)) ∈ lw_all := lw_g (lw_at lw_m2 11 rfl) rfl
theorem q315 : (Jvm.Cond.methodLink "LeftBehindLaw" (18 : Nat) ({ cls := "LeftBehind", name := "ship", desc := "(I)I" } : Jvm.MethodName)) ∈ lw_all := lw_g (lw_at lw_m2 15 rfl) rfl
theorem q344 : (Jvm.Cond.methodLink "LeftBehindLaw" (23 : Nat) ({ cls := "LeftBehind", name := "man", desc := "(III)I" } : Jvm.MethodName)) ∈ lw_all := lw_g (lw_at lw_m2 44 rfl) rfl
theorem q362 : (Jvm.Cond.methodLink "LeftBehindLaw" (28 : Nat) ({ cls := "LeftBehind", name := "type", desc := "(I)I" } : Jvm.MethodName)) ∈ lw_all := lw_g (lw_at lw_m2 62 rfl) rfl
theorem q367 : (Jvm.Cond.methodLink "LeftBehindLaw" (32 : Nat) ({ cls := "LeftBehind", name := "clear", desc := "()I" } : Jvm.MethodName)) ∈ lw_all := lw_g (lw_at lw_m2 67 rfl) rfl
theorem q371 : (Jvm.Cond.methodLink "LeftBehindLaw" (36 : Nat) ({ cls := "LeftBehind", name := "read", desc := "()I" } : Jvm.MethodName)) ∈ lw_all := lw_g (lw_at lw_m2 71 rfl) rfl
theorem q589 : (Jvm.Cond.methodLink "LeftBehindLaw" (40 : Nat) ({ cls := "LeftBehind", name := "calls", desc := "(I)I" } : Jvm.MethodName)) ∈ lw_all := lw_g (lw_at lw_m3 49 rfl) rfl
theorem q607 : (Jvm.Cond.methodLink "LeftBehindLaw" (44 : Nat) ({ cls := "LeftBehind", name := "boards", desc := "(II)I" } : Jvm.MethodName)) ∈ lw_all := lw_g (lw_at lw_m3 67 rfl) rfl
theorem q621 : (Jvm.Cond.methodLink "LeftBehindLaw" (49 : Nat) ({ cls := "LeftBehind", name := "undo", desc := "()I" } : Jvm.MethodName)) ∈ lw_all := lw_g (lw_at lw_m3 81 rfl) rfl
theorem q630 : (Jvm.Cond.methodLink "LeftBehindLaw" (53 : Nat) ({ cls := "LeftBehind", name := "of", desc := "(II)I" } : Jvm.MethodName)) ∈ lw_all := lw_g (lw_at lw_m3 90 rfl) rfl
theorem q659 : (Jvm.Cond.methodLink "LeftBehindLaw" (57 : Nat) ({ cls := "LeftBehind", name := "about", desc := "(II)I" } : Jvm.MethodName)) ∈ lw_all := lw_g (lw_at lw_m3 119 rfl) rfl
theorem q687 : (Jvm.Cond.methodLink "LeftBehindLaw" (61 : Nat) ({ cls := "LeftBehind", name := "left", desc := "(I)I" } : Jvm.MethodName)) ∈ lw_all := lw_g (lw_at lw_m3 147 rfl) rfl
theorem q692 : (Jvm.Cond.methodLink "LeftBehindLaw" (65 : Nat) ({ cls := "LeftBehind", name := "needs", desc := "(II)I" } : Jvm.MethodName)) ∈ lw_all := lw_g (lw_at lw_m3 152 rfl) rfl
theorem q738 : (Jvm.Cond.methodLink "LeftBehindLaw" (69 : Nat) ({ cls := "LeftBehind", name := "far", desc := "(I)I" } : Jvm.MethodName)) ∈ lw_all := lw_g (lw_at lw_m3 198 rfl) rfl
theorem q748 : (Jvm.Cond.methodLink "LeftBehindLaw" (73 : Nat) ({ cls := "LeftBehind", name := "behind", desc := "(II)I" } : Jvm.MethodName)) ∈ lw_all := lw_g (lw_at lw_m3 208 rfl) rfl
theorem q753 : (Jvm.Cond.methodLink "LeftBehindLaw" (77 : Nat) ({ cls := "LeftBehind", name := "lasts", desc := "(II)I" } : Jvm.MethodName)) ∈ lw_all := lw_g (lw_at lw_m3 213 rfl) rfl
theorem q757 : (Jvm.Cond.methodLink "LeftBehindLaw" (81 : Nat) ({ cls := "LeftBehind", name := "few", desc := "(II)I" } : Jvm.MethodName)) ∈ lw_all := lw_g (lw_at lw_m3 217 rfl) rfl
theorem q783 : (Jvm.Cond.methodLink "LeftBehindLaw" (85 : Nat) ({ cls := "LeftBehind", name := "crew", desc := "(II)I" } : Jvm.MethodName)) ∈ lw_all := lw_g (lw_at lw_m4 3 rfl) rfl
theorem q802 : (Jvm.Cond.methodLink "LeftBehindLaw" (89 : Nat) ({ cls := "LeftBehind", name := "seen", desc := "(IIII)I" } : Jvm.MethodName)) ∈ lw_all := lw_g (lw_at lw_m4 22 rfl) rfl
theorem q810 : (Jvm.Cond.methodLink "LeftBehindLaw" (94 : Nat) ({ cls := "LeftBehind", name := "skilled", desc := "(II)I" } : Jvm.MethodName)) ∈ lw_all := lw_g (lw_at lw_m4 30 rfl) rfl
theorem q819 : (Jvm.Cond.methodLink "LeftBehindLaw" (98 : Nat) ({ cls := "LeftBehind", name := "tell", desc := "(I)I" } : Jvm.MethodName)) ∈ lw_all := lw_g (lw_at lw_m4 39 rfl) rfl
theorem q830 : (Jvm.Cond.methodLink "LeftBehindLaw" (102 : Nat) ({ cls := "LeftBehind", name := "note", desc := "(IIII)I" } : Jvm.MethodName)) ∈ lw_all := lw_g (lw_at lw_m4 50 rfl) rfl
theorem q834 : (Jvm.Cond.methodLink "LeftBehindLaw" (106 : Nat) ({ cls := "LeftBehind", name := "mark", desc := "(IIII)I" } : Jvm.MethodName)) ∈ lw_all := lw_g (lw_at lw_m4 54 rfl) rfl
theorem q839 : (Jvm.Cond.methodLink "LeftBehindLaw" (110 : Nat) ({ cls := "LeftBehind", name := "forget", desc := "(I)I" } : Jvm.MethodName)) ∈ lw_all := lw_g (lw_at lw_m4 59 rfl) rfl
theorem q843 : (Jvm.Cond.methodLink "LeftBehindLaw" (114 : Nat) ({ cls := "LeftBehind", name := "is", desc := "(I)I" } : Jvm.MethodName)) ∈ lw_all := lw_g (lw_at lw_m4 63 rfl) rfl
theorem q853 : (Jvm.Cond.methodLink "LeftBehindLaw" (118 : Nat) ({ cls := "LeftBehind", name := "look", desc := "(I)I" } : Jvm.MethodName)) ∈ lw_all := lw_g (lw_at lw_m4 73 rfl) rfl
theorem q860 : (Jvm.Cond.methodLink "LeftBehindLaw" (122 : Nat) ({ cls := "LeftBehind", name := "kinds", desc := "(I)I" } : Jvm.MethodName)) ∈ lw_all := lw_g (lw_at lw_m4 80 rfl) rfl
theorem q869 : (Jvm.Cond.methodLink "LeftBehindLaw" (126 : Nat) ({ cls := "LeftBehind", name := "ask", desc := "(I)I" } : Jvm.MethodName)) ∈ lw_all := lw_g (lw_at lw_m4 89 rfl) rfl
theorem q873 : (Jvm.Cond.methodLink "LeftBehindLaw" (130 : Nat) ({ cls := "LeftBehind", name := "water", desc := "(III)I" } : Jvm.MethodName)) ∈ lw_all := lw_g (lw_at lw_m4 93 rfl) rfl
theorem q885 : (Jvm.Cond.methodLink "LeftBehindLaw" (134 : Nat) ({ cls := "LeftBehind", name := "lots", desc := "(II)I" } : Jvm.MethodName)) ∈ lw_all := lw_g (lw_at lw_m4 105 rfl) rfl
theorem q892 : (Jvm.Cond.methodLink "LeftBehindLaw" (138 : Nat) ({ cls := "LeftBehind", name := "centuries", desc := "(II)I" } : Jvm.MethodName)) ∈ lw_all := lw_g (lw_at lw_m4 112 rfl) rfl
theorem q909 : (Jvm.Cond.methodLink "LeftBehindLaw" (142 : Nat) ({ cls := "LeftBehind", name := "part", desc := "(I)J" } : Jvm.MethodName)) ∈ lw_all := lw_g (lw_at lw_m4 129 rfl) rfl
theorem q913 : (Jvm.Cond.methodLink "LeftBehindLaw" (147 : Nat) ({ cls := "LeftBehind", name := "image", desc := "(I)I" } : Jvm.MethodName)) ∈ lw_all := lw_g (lw_at lw_m4 133 rfl) rfl
theorem q917 : (Jvm.Cond.methodLink "LeftBehindLaw" (151 : Nat) ({ cls := "LeftBehind", name := "from", desc := "(I)I" } : Jvm.MethodName)) ∈ lw_all := lw_g (lw_at lw_m4 137 rfl) rfl
theorem q921 : (Jvm.Cond.methodLink "LeftBehindLaw" (155 : Nat) ({ cls := "LeftBehind", name := "status", desc := "(I)I" } : Jvm.MethodName)) ∈ lw_all := lw_g (lw_at lw_m4 141 rfl) rfl
theorem q925 : (Jvm.Cond.methodLink "LeftBehindLaw" (159 : Nat) ({ cls := "LeftBehind", name := "count", desc := "(I)I" } : Jvm.MethodName)) ∈ lw_all := lw_g (lw_at lw_m4 145 rfl) rfl
theorem q937 : (Jvm.Cond.methodLink "LeftBehindLaw" (163 : Nat) ({ cls := "LeftBehind", name := "digest", desc := "()J" } : Jvm.MethodName)) ∈ lw_all := lw_g (lw_at lw_m4 157 rfl) rfl
theorem q944 : (Jvm.Cond.classLink "LeftBehindLaw" (10 : Nat) "LeftBehindModel") ∈ lw_all := lw_g (lw_at lw_m4 164 rfl) rfl
theorem q946 : (Jvm.Cond.methodLink "LeftBehindLaw" (12 : Nat) ({ cls := "LeftBehindModel", name := "<init>", desc := "()V" } : Jvm.MethodName)) ∈ lw_all := lw_g (lw_at lw_m4 166 rfl) rfl
theorem q1012 : (Jvm.Cond.methodLink "LeftBehindLaw" (17 : Nat) ({ cls := "LeftBehindModel", name := "island", desc := "()I" } : Jvm.MethodName)) ∈ lw_all := lw_g (lw_at lw_m4 232 rfl) rfl
theorem q1020 : (Jvm.Cond.methodLink "LeftBehindLaw" (22 : Nat) ({ cls := "LeftBehindModel", name := "ship", desc := "(I)I" } : Jvm.MethodName)) ∈ lw_all := lw_g (lw_at lw_m5 0 rfl) rfl
theorem q1039 : (Jvm.Cond.methodLink "LeftBehindLaw" (27 : Nat) ({ cls := "LeftBehindModel", name := "man", desc := "(III)I" } : Jvm.MethodName)) ∈ lw_all := lw_g (lw_at lw_m5 19 rfl) rfl
theorem q1054 : (Jvm.Cond.methodLink "LeftBehindLaw" (43 : Nat) ({ cls := "LeftBehindModel", name := "calls", desc := "(I)I" } : Jvm.MethodName)) ∈ lw_all := lw_g (lw_at lw_m5 34 rfl) rfl
theorem q1081 : (Jvm.Cond.methodLink "LeftBehindLaw" (48 : Nat) ({ cls := "LeftBehindModel", name := "boards", desc := "(II)I" } : Jvm.MethodName)) ∈ lw_all := lw_g (lw_at lw_m5 61 rfl) rfl
theorem q1089 : (Jvm.Cond.methodLink "LeftBehindLaw" (52 : Nat) ({ cls := "LeftBehindModel", name := "undo", desc := "()I" } : Jvm.MethodName)) ∈ lw_all := lw_g (lw_at lw_m5 69 rfl) rfl
theorem q1096 : (Jvm.Cond.methodLink "LeftBehindLaw" (56 : Nat) ({ cls := "LeftBehindModel", name := "of", desc := "(II)I" } : Jvm.MethodName)) ∈ lw_all := lw_g (lw_at lw_m5 76 rfl) rfl
theorem q1101 : (Jvm.Cond.methodLink "LeftBehindLaw" (60 : Nat) ({ cls := "LeftBehindModel", name := "about", desc := "(II)I" } : Jvm.MethodName)) ∈ lw_all := lw_g (lw_at lw_m5 81 rfl) rfl
theorem q1112 : (Jvm.Cond.methodLink "LeftBehindLaw" (64 : Nat) ({ cls := "LeftBehindModel", name := "left", desc := "(I)I" } : Jvm.MethodName)) ∈ lw_all := lw_g (lw_at lw_m5 92 rfl) rfl
theorem q1116 : (Jvm.Cond.methodLink "LeftBehindLaw" (68 : Nat) ({ cls := "LeftBehindModel", name := "needs", desc := "(II)I" } : Jvm.MethodName)) ∈ lw_all := lw_g (lw_at lw_m5 96 rfl) rfl
theorem q1127 : (Jvm.Cond.methodLink "LeftBehindLaw" (72 : Nat) ({ cls := "LeftBehindModel", name := "far", desc := "(I)I" } : Jvm.MethodName)) ∈ lw_all := lw_g (lw_at lw_m5 107 rfl) rfl
theorem q1134 : (Jvm.Cond.methodLink "LeftBehindLaw" (76 : Nat) ({ cls := "LeftBehindModel", name := "behind", desc := "(II)I" } : Jvm.MethodName)) ∈ lw_all := lw_g (lw_at lw_m5 114 rfl) rfl
theorem q1143 : (Jvm.Cond.methodLink "LeftBehindLaw" (80 : Nat) ({ cls := "LeftBehindModel", name := "lasts", desc := "(II)I" } : Jvm.MethodName)) ∈ lw_all := lw_g (lw_at lw_m5 123 rfl) rfl
theorem q1147 : (Jvm.Cond.methodLink "LeftBehindLaw" (84 : Nat) ({ cls := "LeftBehindModel", name := "few", desc := "(II)I" } : Jvm.MethodName)) ∈ lw_all := lw_g (lw_at lw_m5 127 rfl) rfl
theorem q1157 : (Jvm.Cond.methodLink "LeftBehindLaw" (88 : Nat) ({ cls := "LeftBehindModel", name := "crew", desc := "(II)I" } : Jvm.MethodName)) ∈ lw_all := lw_g (lw_at lw_m5 137 rfl) rfl
theorem q1165 : (Jvm.Cond.methodLink "LeftBehindLaw" (93 : Nat) ({ cls := "LeftBehindModel", name := "seen", desc := "(IIII)I" } : Jvm.MethodName)) ∈ lw_all := lw_g (lw_at lw_m5 145 rfl) rfl
theorem q1174 : (Jvm.Cond.methodLink "LeftBehindLaw" (97 : Nat) ({ cls := "LeftBehindModel", name := "skilled", desc := "(II)I" } : Jvm.MethodName)) ∈ lw_all := lw_g (lw_at lw_m5 154 rfl) rfl
theorem q1183 : (Jvm.Cond.methodLink "LeftBehindLaw" (101 : Nat) ({ cls := "LeftBehindModel", name := "tell", desc := "(I)I" } : Jvm.MethodName)) ∈ lw_all := lw_g (lw_at lw_m5 163 rfl) rfl
theorem q1187 : (Jvm.Cond.methodLink "LeftBehindLaw" (105 : Nat) ({ cls := "LeftBehindModel", name := "note", desc := "(IIII)I" } : Jvm.MethodName)) ∈ lw_all := lw_g (lw_at lw_m5 167 rfl) rfl
theorem q1191 : (Jvm.Cond.methodLink "LeftBehindLaw" (109 : Nat) ({ cls := "LeftBehindModel", name := "mark", desc := "(IIII)I" } : Jvm.MethodName)) ∈ lw_all := lw_g (lw_at lw_m5 171 rfl) rfl
theorem q1196 : (Jvm.Cond.methodLink "LeftBehindLaw" (113 : Nat) ({ cls := "LeftBehindModel", name := "forget", desc := "(I)I" } : Jvm.MethodName)) ∈ lw_all := lw_g (lw_at lw_m5 176 rfl) rfl
theorem q1200 : (Jvm.Cond.methodLink "LeftBehindLaw" (117 : Nat) ({ cls := "LeftBehindModel", name := "is", desc := "(I)I" } : Jvm.MethodName)) ∈ lw_all := lw_g (lw_at lw_m5 180 rfl) rfl
theorem q1212 : (Jvm.Cond.methodLink "LeftBehindLaw" (121 : Nat) ({ cls := "LeftBehindModel", name := "look", desc := "(I)I" } : Jvm.MethodName)) ∈ lw_all := lw_g (lw_at lw_m5 192 rfl) rfl
theorem q1223 : (Jvm.Cond.methodLink "LeftBehindLaw" (125 : Nat) ({ cls := "LeftBehindModel", name := "kinds", desc := "(I)I" } : Jvm.MethodName)) ∈ lw_all := lw_g (lw_at lw_m5 203 rfl) rfl
theorem q1231 : (Jvm.Cond.methodLink "LeftBehindLaw" (129 : Nat) ({ cls := "LeftBehindModel", name := "ask", desc := "(I)I" } : Jvm.MethodName)) ∈ lw_all := lw_g (lw_at lw_m5 211 rfl) rfl
theorem q1235 : (Jvm.Cond.methodLink "LeftBehindLaw" (133 : Nat) ({ cls := "LeftBehindModel", name := "water", desc := "(III)I" } : Jvm.MethodName)) ∈ lw_all := lw_g (lw_at lw_m5 215 rfl) rfl
theorem q1246 : (Jvm.Cond.methodLink "LeftBehindLaw" (137 : Nat) ({ cls := "LeftBehindModel", name := "lots", desc := "(II)I" } : Jvm.MethodName)) ∈ lw_all := lw_g (lw_at lw_m5 226 rfl) rfl
theorem q1254 : (Jvm.Cond.methodLink "LeftBehindLaw" (141 : Nat) ({ cls := "LeftBehindModel", name := "centuries", desc := "(II)I" } : Jvm.MethodName)) ∈ lw_all := lw_g (lw_at lw_m5 234 rfl) rfl
theorem q1266 : (Jvm.Cond.methodLink "LeftBehindLaw" (31 : Nat) ({ cls := "LeftBehindModel", name := "type", desc := "(I)I" } : Jvm.MethodName)) ∈ lw_all := lw_g (lw_at lw_m6 6 rfl) rfl
theorem q1271 : (Jvm.Cond.methodLink "LeftBehindLaw" (35 : Nat) ({ cls := "LeftBehindModel", name := "clear", desc := "()I" } : Jvm.MethodName)) ∈ lw_all := lw_g (lw_at lw_m6 11 rfl) rfl
theorem q1275 : (Jvm.Cond.methodLink "LeftBehindLaw" (39 : Nat) ({ cls := "LeftBehindModel", name := "read", desc := "()I" } : Jvm.MethodName)) ∈ lw_all := lw_g (lw_at lw_m6 15 rfl) rfl
theorem q1325 : (Jvm.Cond.methodLink "LeftBehindLaw" (146 : Nat) ({ cls := "LeftBehindModel", name := "part", desc := "(I)J" } : Jvm.MethodName)) ∈ lw_all := lw_g (lw_at lw_m6 65 rfl) rfl
theorem q1329 : (Jvm.Cond.methodLink "LeftBehindLaw" (150 : Nat) ({ cls := "LeftBehindModel", name := "image", desc := "(I)I" } : Jvm.MethodName)) ∈ lw_all := lw_g (lw_at lw_m6 69 rfl) rfl
theorem q1333 : (Jvm.Cond.methodLink "LeftBehindLaw" (154 : Nat) ({ cls := "LeftBehindModel", name := "from", desc := "(I)I" } : Jvm.MethodName)) ∈ lw_all := lw_g (lw_at lw_m6 73 rfl) rfl
theorem q1337 : (Jvm.Cond.methodLink "LeftBehindLaw" (158 : Nat) ({ cls := "LeftBehindModel", name := "status", desc := "(I)I" } : Jvm.MethodName)) ∈ lw_all := lw_g (lw_at lw_m6 77 rfl) rfl
theorem q1341 : (Jvm.Cond.methodLink "LeftBehindLaw" (162 : Nat) ({ cls := "LeftBehindModel", name := "count", desc := "(I)I" } : Jvm.MethodName)) ∈ lw_all := lw_g (lw_at lw_m6 81 rfl) rfl
theorem q1349 : (Jvm.Cond.methodLink "LeftBehindLaw" (167 : Nat) ({ cls := "LeftBehindModel", name := "digest", desc := "()J" } : Jvm.MethodName)) ∈ lw_all := lw_g (lw_at lw_m6 89 rfl) rfl

theorem q76 : (Jvm.Cond.initialized "java/lang/System") ∈ lw_all := lw_g (lw_at lw_m1 16 rfl) rfl
set_option maxRecDepth 100000
theorem q582 : (Jvm.Cond.static ({ cls := "java/lang/System", name := "arraycopy", desc := "(Ljava/lang/Object;ILjava/lang/Object;II)V" } : Jvm.MethodName)) ∈ lw_all := lw_g (lw_at lw_m3 42 rfl) rfl
theorem q583 : (Jvm.Cond.native ({ cls := "java/lang/System", name := "arraycopy", desc := "(Ljava/lang/Object;ILjava/lang/Object;II)V" } : Jvm.MethodName)) ∈ lw_all := lw_g (lw_at lw_m3 43 rfl) rfl

theorem q93 : (Jvm.Cond.arrayOver (Jvm.ClassFile.FieldType.object "LeftBehind$Ship")) ∈ lw_tbl := lw_at lw_m1 33 rfl
set_option maxRecDepth 100000
theorem q95 : (Jvm.Cond.arrayOver (Jvm.ClassFile.FieldType.object "LeftBehind$Man")) ∈ lw_tbl := lw_at lw_m1 35 rfl
theorem q115 : (Jvm.Cond.arrayClass Jvm.ClassFile.FieldType.int) ∈ lw_all := lw_g (lw_at lw_m1 55 rfl) rfl
theorem q116 : (Jvm.Cond.arrayOver (Jvm.ClassFile.FieldType.object "LeftBehind$State")) ∈ lw_tbl := lw_at lw_m1 56 rfl
theorem q183 : (Jvm.Cond.arrayOver (Jvm.ClassFile.FieldType.object "LeftBehind$Island")) ∈ lw_tbl := lw_at lw_m1 123 rfl
theorem q211 : (Jvm.Cond.arrayClass Jvm.ClassFile.FieldType.byte) ∈ lw_all := lw_g (lw_at lw_m1 151 rfl) rfl
theorem q1011 : (Jvm.Cond.arrayClass Jvm.ClassFile.FieldType.boolean) ∈ lw_all := lw_g (lw_at lw_m4 231 rfl) rfl

